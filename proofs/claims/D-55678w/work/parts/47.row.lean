/-! Part.isRow -/
def rowB : Tr → Bool
  | .append a b => rowB a && rowB b && decide (lsT a + 1 = fsT b)
  | _ => true
theorem hdP_isRow : (xP "isRow" "()Z").cls ≠ "java/lang/invoke/MethodHandle" ∧ (xP "isRow" "()Z").cls ≠ "java/lang/invoke/VarHandle" ∧ (parseMethodDescriptor (xP "isRow" "()Z").desc).map (fun d => d.parameters.length) = some 0 := by decide +kernel
theorem v_prow {p : Program} {l : Launch} {e : Env} {R : Room} {s : State} {m : MethodId} {args : Array Value} {below : List Frame} {meth : Method} {c : Code} {cc : ByteArray} {nL : Nat} {own : String} {D : va_G} {dd : Nat → ClassId} {A : Nat → Prop} {cells slots : Nat} {Q : State → Prop} {ws : va_W} {pc : Nat} {loc : List (Nat × Value)} {st : List Value} {wc : va_W} {P : Int32 → Prop} {index count fr lc : Nat} (X : VX p s m args meth c cc nL own D dd A) : ∀ (T : Tr) (a : Nat), PartIs wc T a → PM l D dd yX10_isRow yX9_isRow cX10_isRow cX9_isRow 1 1 (some .boolean) fr lc [] wc P T a → (∃ wr, ws.Perm (wc ++ wr)) → Cond.methodLink own index (xP "isRow" "()Z") ∈ lw_all → fr + 1 ≤ R.frames ∧ 20 + lc ≤ R.locals → (st.map fun v => v.category).sum ≤ 8 → decode cc pc = .ok (.invokeinterface index count, 5) → cells ≤ R.cells ∧ slots ≤ R.slots →
    (∀ r : Int32, P r → V p l e R s m args below meth c D A nL cells slots Q ws (pc + 5) loc (.int r :: st)) → V p l e R s m args below meth c D A nL cells slots Q ws pc loc (.ref a :: st)
  | .append _ _, a, hp, hM, hs, hlink, hR, hW, d, hf, kk => by
    obtain ⟨b, c, he, -, -⟩ := hp
    exact v_readG5 X hs (r_F X hM he rfl rfl (lw_F hlink q1353 q1355 q119 q1357) (by decide +kernel) hdP_isRow ⟨hR.1, by omega⟩ rfl rfl hW d ⟨Nat.le_trans (Nat.le_of_eq (Nat.add_zero _)) hf.1, Nat.le_trans (Nat.le_of_eq (Nat.add_zero _)) hf.2⟩) kk
  | .tag v _, a, hp, hM, hs, hlink, hR, hW, d, hf, kk => v_readG5 X hs (r_FD X hM hp rfl rfl hlink q1361 q118 q1363 (by decide +kernel) (by decide +kernel) hdP_isRow ⟨hR.1, by omega⟩ rfl rfl hW d ⟨Nat.le_trans (Nat.le_of_eq (Nat.add_zero _)) hf.1, Nat.le_trans (Nat.le_of_eq (Nat.add_zero _)) hf.2⟩) kk
  | .nil, _, hp, _, _, _, _, _, _, _, _ => hp.elim
  | .line, _, hp, _, _, _, _, _, _, _, _ => hp.elim
  | .align _, _, hp, _, _, _, _, _, _, _, _ => hp.elim
  | .text _, _, hp, _, _, _, _, _, _, _, _ => hp.elim
  | .nest _ _, _, hp, _, _, _, _, _, _, _, _ => hp.elim
  | .group _ _, _, hp, _, _, _, _, _, _, _, _ => hp.elim
theorem c_prow {l : Launch} {D : va_G} {dd : Nat → ClassId} {ws : va_W} : ∀ (T : Tr) (a : Nat), PartIs ws T a → (∀ v ∈ lvs T, v < 1000) → PM l D dd yX10_isRow yX9_isRow cX10_isRow cX9_isRow 1 1 (some .boolean) (dep T) (20 * dep T) [] ws (fun r => bI (rowB T = true) = r) T a
  | .append x z, a, hp, hb => by
    have hbx : ∀ v ∈ lvs x, v < 1000 := fun v h => hb v (List.mem_append_left _ h)
    have hbz : ∀ v ∈ lvs z, v < 1000 := fun v h => hb v (List.mem_append_right _ h)
    obtain ⟨b, c, h1, h2, h3⟩ := hp
    have ihx := c_prow (l := l) (D := D) (dd := dd) x b h2 hbx
    have ihz := c_prow (l := l) (D := D) (dd := dd) z c h3 hbz
    have q1 := hbx _ (ls_mem x)
    have q2 := hbz _ (fs_mem z)
    refine MW.intro (by decide) (Nat.le_of_ble_eq_true rfl) (fun p_ e_ s_ m_ as_ bl_ me_ c_ A_ X hr hnm => ?_)
    have X : VX p_ s_ m_ as_ me_ c_ cX10_isRow 1 RX10 D dd A_ := X
    refine v_eq (loc' := [(0, .ref a)]) rfl rfl rfl ?_
    refine v_aload_n (pc := 0) X dX10_isRow_0 rfl 0 rfl ?_
    refine v_getM (pc := 1) X in_X10 h1 rfl 0 (by decide) q1321 (fun y h => h) rfl dX10_isRow_1 ?_
    refine v_prow (pc := 4) X x b h2 ihx ⟨[], (by rw [List.append_nil])⟩ q1359 ⟨by show dep x + 1 ≤ max (dep x) (dep z) + 1; omega, by show 20 + 20 * dep x ≤ 20 * (max (dep x) (dep z) + 1); omega⟩ (Nat.le_of_ble_eq_true rfl) dX10_isRow_4 ⟨Nat.le_refl _, Nat.le_refl _⟩ (fun r4 e4 => ?_)
    subst e4
    refine v_if_eqB (pc := 9) X 51 dX10_isRow_9 (by decide) (fun g9 => ?_) (fun g9 => ?_)
    · refine v_iconst (pc := 51) (v := nI 0) X dX10_isRow_51 rfl ?_
      refine v_top (y := bI (rowB (.append x z) = true)) (bI_f (by show ¬ (rowB x && rowB z && decide (lsT x + 1 = fsT z)) = true; simp [g9])).symm ?_
      exact v_zret (pc := 52) X hr (nzb _) dX10_isRow_52 ⟨⟨_, rfl, rfl⟩, rfl⟩
    · refine v_aload_n (pc := 12) X dX10_isRow_12 rfl 0 rfl ?_
      refine v_getM (pc := 13) X in_X10 h1 rfl 1 (by decide) q1323 (fun y h => h) rfl dX10_isRow_13 ?_
      refine v_prow (pc := 16) X z c h3 ihz ⟨[], (by rw [List.append_nil])⟩ q1359 ⟨by show dep z + 1 ≤ max (dep x) (dep z) + 1; omega, by show 20 + 20 * dep z ≤ 20 * (max (dep x) (dep z) + 1); omega⟩ (Nat.le_of_ble_eq_true rfl) dX10_isRow_16 ⟨Nat.le_refl _, Nat.le_refl _⟩ (fun r16 e16 => ?_)
      subst e16
      refine v_if_eqB (pc := 21) X 51 dX10_isRow_21 (by decide) (fun g21 => ?_) (fun g21 => ?_)
      · refine v_iconst (pc := 51) (v := nI 0) X dX10_isRow_51 rfl ?_
        refine v_top (y := bI (rowB (.append x z) = true)) (bI_f (by show ¬ (rowB x && rowB z && decide (lsT x + 1 = fsT z)) = true; simp [g21])).symm ?_
        exact v_zret (pc := 52) X hr (nzb _) dX10_isRow_52 ⟨⟨_, rfl, rfl⟩, rfl⟩
      · refine v_aload_n (pc := 24) X dX10_isRow_24 rfl 0 rfl ?_
        refine v_getM (pc := 25) X in_X10 h1 rfl 0 (by decide) q1321 (fun y h => h) rfl dX10_isRow_25 ?_
        refine v_plast (pc := 28) X x b h2 (c_plast x b h2) ⟨[], (by rw [List.append_nil])⟩ q914 ⟨by show dep x + 1 ≤ max (dep x) (dep z) + 1; omega, by show 20 + 20 * dep x ≤ 20 * (max (dep x) (dep z) + 1); omega⟩ (Nat.le_of_ble_eq_true rfl) dX10_isRow_28 ⟨Nat.le_refl _, Nat.le_refl _⟩ (fun r28 e28 => ?_)
        subst e28
        refine v_iconst (pc := 33) (v := nI 1) X dX10_isRow_33 rfl ?_
        refine v_iaddN (pc := 34) X dX10_isRow_34 ?_
        refine v_aload_n (pc := 35) X dX10_isRow_35 rfl 0 rfl ?_
        refine v_getM (pc := 36) X in_X10 h1 rfl 1 (by decide) q1323 (fun y h => h) rfl dX10_isRow_36 ?_
        refine v_pfirst (pc := 39) X z c h3 (c_pfirst z c h3) ⟨[], (by rw [List.append_nil])⟩ q956 ⟨by show dep z + 1 ≤ max (dep x) (dep z) + 1; omega, by show 20 + 20 * dep z ≤ 20 * (max (dep x) (dep z) + 1); omega⟩ (Nat.le_of_ble_eq_true rfl) dX10_isRow_39 ⟨Nat.le_refl _, Nat.le_refl _⟩ (fun r39 e39 => ?_)
        subst e39
        refine v_ic_neN (pc := 44) X (by omega) (by omega) 51 dX10_isRow_44 (by decide) (fun g44 => ?_) (fun g44 => ?_)
        · refine v_iconst (pc := 51) (v := nI 0) X dX10_isRow_51 rfl ?_
          refine v_top (y := bI (rowB (.append x z) = true)) (bI_f (by show ¬ (rowB x && rowB z && decide (lsT x + 1 = fsT z)) = true; simp [g44])).symm ?_
          exact v_zret (pc := 52) X hr (nzb _) dX10_isRow_52 ⟨⟨_, rfl, rfl⟩, rfl⟩
        · refine v_iconst (pc := 47) (v := nI 1) X dX10_isRow_47 rfl ?_
          refine v_goto (pc := 48) X 52 dX10_isRow_48 (by decide) ?_
          refine v_top (y := bI (rowB (.append x z) = true)) (bI_t (by show (rowB x && rowB z && decide (lsT x + 1 = fsT z)) = true; rw [g9, g21, g44]; simp)).symm ?_
          exact v_zret (pc := 52) X hr (nzb _) dX10_isRow_52 ⟨⟨_, rfl, rfl⟩, rfl⟩
  | .tag v _, a, hp, _ => by
    refine MW.intro (by decide) (Nat.le_of_ble_eq_true rfl) (fun p_ e_ s_ m_ as_ bl_ me_ c_ A_ X hr hnm => ?_)
    have X : VX p_ s_ m_ as_ me_ c_ cX9_isRow 1 RX9 D dd A_ := X
    refine v_eq (loc' := [(0, .ref a)]) rfl rfl rfl ?_
    refine v_iconst (pc := 0) (v := nI 1) X dX9_isRow_0 rfl ?_
    exact v_zret (pc := 1) X hr rfl dX9_isRow_1 ⟨⟨_, rfl, bI_t rfl⟩, rfl⟩
  | .nil, _, hp, _ => hp.elim
  | .line, _, hp, _ => hp.elim
  | .align _, _, hp, _ => hp.elim
  | .text _, _, hp, _ => hp.elim
  | .nest _ _, _, hp, _ => hp.elim
  | .group _ _, _, hp, _ => hp.elim

/-! Part.cost -/
theorem hdP_cost : (xP "cost" "([I)I").cls ≠ "java/lang/invoke/MethodHandle" ∧ (xP "cost" "([I)I").cls ≠ "java/lang/invoke/VarHandle" ∧ (parseMethodDescriptor (xP "cost" "([I)I").desc).map (fun d => d.parameters.length) = some 1 := by decide +kernel
theorem fs_mem : ∀ T : Tr, fsT T ∈ lvs T := fun T => List.mem_of_getElem? (lvs_hd T)
theorem ls_mem : ∀ T : Tr, lsT T ∈ lvs T := fun T => List.mem_of_getElem? (lvs_lt T)
theorem hdX10_firstB : yX10_first.cls = RX10 ∧ yX10_first.cls ≠ "java/lang/invoke/MethodHandle" ∧ yX10_first.cls ≠ "java/lang/invoke/VarHandle" ∧ (parseMethodDescriptor yX10_first.desc).map (fun d => d.parameters.length) = some 0 := by decide +kernel
theorem hdX10_lastB : yX10_last.cls = RX10 ∧ yX10_last.cls ≠ "java/lang/invoke/MethodHandle" ∧ yX10_last.cls ≠ "java/lang/invoke/VarHandle" ∧ (parseMethodDescriptor yX10_last.desc).map (fun d => d.parameters.length) = some 0 := by decide +kernel
theorem v_pcost {p : Program} {l : Launch} {e : Env} {R : Room} {s : State} {m : MethodId} {args : Array Value} {below : List Frame} {meth : Method} {c : Code} {cc : ByteArray} {nL : Nat} {own : String} {D : va_G} {dd : Nat → ClassId} {A : Nat → Prop} {cells slots : Nat} {Q : State → Prop} {ws : va_W} {pc : Nat} {loc : List (Nat × Value)} {st : List Value} {wc : va_W} {P : Int32 → Prop} {index count fr lc y : Nat} (X : VX p s m args meth c cc nL own D dd A) : ∀ (T : Tr) (a : Nat), PartIs wc T a → PM l D dd yX10_cost yX11_cost cX10_cost cX11_cost 2 2 (some .int) fr lc [.ref y] wc P T a → (∃ wr, ws.Perm (wc ++ wr)) → Cond.methodLink own index (xP "cost" "([I)I") ∈ lw_all → fr + 1 ≤ R.frames ∧ 21 + lc ≤ R.locals → (st.map fun v => v.category).sum ≤ 8 → decode cc pc = .ok (.invokeinterface index count, 5) → cells ≤ R.cells ∧ slots ≤ R.slots →
    (∀ r : Int32, P r → V p l e R s m args below meth c D A nL cells slots Q ws (pc + 5) loc (.int r :: st)) → V p l e R s m args below meth c D A nL cells slots Q ws pc loc (.ref y :: .ref a :: st)
  | .append _ _, a, hp, hM, hs, hlink, hR, hW, d, hf, kk => by
    obtain ⟨b, c, he, -, -⟩ := hp
    exact v_readG5 X hs (r_F X hM he rfl rfl (lw_F hlink q939 q941 q119 q943) (by decide +kernel) hdP_cost ⟨hR.1, by omega⟩ rfl rfl hW d ⟨Nat.le_trans (Nat.le_of_eq (Nat.add_zero _)) hf.1, Nat.le_trans (Nat.le_of_eq (Nat.add_zero _)) hf.2⟩) kk
  | .tag v _, a, hp, hM, hs, hlink, hR, hW, d, hf, kk => v_readG5 X hs (r_F X hM hp rfl rfl (lw_F hlink q946 q948 q120 q950) (by decide +kernel) hdP_cost ⟨hR.1, by omega⟩ rfl rfl hW d ⟨Nat.le_trans (Nat.le_of_eq (Nat.add_zero _)) hf.1, Nat.le_trans (Nat.le_of_eq (Nat.add_zero _)) hf.2⟩) kk
  | .nil, _, hp, _, _, _, _, _, _, _, _ => hp.elim
  | .line, _, hp, _, _, _, _, _, _, _, _ => hp.elim
  | .align _, _, hp, _, _, _, _, _, _, _, _ => hp.elim
  | .text _, _, hp, _, _, _, _, _, _, _, _ => hp.elim
  | .nest _ _, _, hp, _, _, _, _, _, _, _, _ => hp.elim
  | .group _ _, _, hp, _, _, _, _, _, _, _, _ => hp.elim
theorem c_pcost {l : Launch} {D : va_G} {dd : Nat → ClassId} {ws : va_W} {y : Nat} {f : Nat → Int32} {sd : Nat → Nat} (hy : (y, .inl (dd 0, 9, .inl f)) ∈ ws) (h9 : ∀ i, i < 9 → f i = nI (sd i)) : ∀ (T : Tr) (a : Nat), PartIs ws T a → (∀ v ∈ lvs T, v < 8) → PM l D dd yX10_cost yX11_cost cX10_cost cX11_cost 2 2 (some .int) (dep T + 1) (24 * dep T + 40) [.ref y] ws (fun r => nI (coT sd T) = r) T a
  | .append x z, a, hp, hv => by
    have hT := hp
    obtain ⟨b, c, h1, h2, h3⟩ := hp
    have hvx : ∀ v ∈ lvs x, v < 8 := fun v h => hv v (List.mem_append_left _ h)
    have hvz : ∀ v ∈ lvs z, v < 8 := fun v h => hv v (List.mem_append_right _ h)
    have ihx := c_pcost (l := l) (D := D) hy h9 x b h2 hvx
    have ihz := c_pcost (l := l) (D := D) hy h9 z c h3 hvz
    have q1 := hvx _ (fs_mem x)
    have q2 := hvx _ (ls_mem x)
    have q3 := hvz _ (ls_mem z)
    refine MW.intro (by decide) (Nat.le_of_ble_eq_true rfl) (fun p_ e_ s_ m_ as_ bl_ me_ c_ A_ X hr hnm => ?_)
    have X : VX p_ s_ m_ as_ me_ c_ cX10_cost 2 RX10 D dd A_ := X
    refine v_eq (loc' := [(0, .ref a), (1, .ref y)]) rfl rfl rfl ?_
    refine v_aload_n (pc := 0) X dX10_cost_0 rfl 0 rfl ?_
    refine v_getM (pc := 1) X in_X10 h1 rfl 0 (by decide) q1321 (fun y h => h) rfl dX10_cost_1 ?_
    refine v_aload_n (pc := 4) X dX10_cost_4 rfl 1 rfl ?_
    refine v_pcost (pc := 5) X x b h2 ihx ⟨[], (by rw [List.append_nil])⟩ q945 ⟨by show dep x + 1 + 1 ≤ max (dep x) (dep z) + 1 + 1; omega, by show 21 + (24 * dep x + 40) ≤ 24 * (max (dep x) (dep z) + 1) + 40; omega⟩ (by decide) dX10_cost_5 ⟨Nat.le_refl _, Nat.le_refl _⟩ (fun r5 h5 => ?_)
    subst h5
    refine v_aload_n (pc := 10) X dX10_cost_10 rfl 0 rfl ?_
    refine v_getM (pc := 11) X in_X10 h1 rfl 1 (by decide) q1323 (fun y h => h) rfl dX10_cost_11 ?_
    refine v_aload_n (pc := 14) X dX10_cost_14 rfl 1 rfl ?_
    refine v_pcost (pc := 15) X z c h3 ihz ⟨[], (by rw [List.append_nil])⟩ q945 ⟨by show dep z + 1 + 1 ≤ max (dep x) (dep z) + 1 + 1; omega, by show 21 + (24 * dep z + 40) ≤ 24 * (max (dep x) (dep z) + 1) + 40; omega⟩ (Nat.le_of_ble_eq_true rfl) dX10_cost_15 ⟨Nat.le_refl _, Nat.le_refl _⟩ (fun r15 h15 => ?_)
    subst h15
    refine v_iaddN (pc := 20) X dX10_cost_20 ?_
    refine v_aload_n (pc := 21) X dX10_cost_21 rfl 1 rfl ?_
    refine v_aload_n (pc := 22) X dX10_cost_22 rfl 0 rfl ?_
    refine v_read (pc := 23) X ⟨[], (by rw [List.append_nil])⟩ (r_V X (c_pfirst (.append x z) a hT) h1 rfl rfl (lw_V q951 q952 q953 q119 q954) hdX10_firstB ⟨Nat.le_refl _, by show 8 + (1 + 11) + 20 * (max (dep x) (dep z) + 1) ≤ 24 * (max (dep x) (dep z) + 1) + 40; omega⟩ rfl rfl (Nat.le_of_ble_eq_true rfl) dX10_cost_23 ⟨Nat.le_refl _, Nat.le_refl _⟩) (fun r23 h23 => ?_)
    subst h23
    refine v_aload_n (pc := 26) X dX10_cost_26 rfl 0 rfl ?_
    refine v_getM (pc := 27) X in_X10 h1 rfl 0 (by decide) q1321 (fun y h => h) rfl dX10_cost_27 ?_
    refine v_plast (pc := 30) X x b h2 (c_plast x b h2) ⟨[], (by rw [List.append_nil])⟩ q914 ⟨by show dep x + 1 ≤ max (dep x) (dep z) + 1 + 1; omega, by show 20 + 20 * dep x ≤ 24 * (max (dep x) (dep z) + 1) + 40; omega⟩ (Nat.le_of_ble_eq_true rfl) dX10_cost_30 ⟨Nat.le_refl _, Nat.le_refl _⟩ (fun r30 h30 => ?_)
    subst h30
    refine v_aload_n (pc := 35) X dX10_cost_35 rfl 0 rfl ?_
    refine v_read (pc := 36) X ⟨[], (by rw [List.append_nil])⟩ (r_V X (c_plast (.append x z) a hT) h1 rfl rfl (lw_V q967 q910 q2449 q119 q912) hdX10_lastB ⟨Nat.le_refl _, by show 8 + (1 + 11) + 20 * (max (dep x) (dep z) + 1) ≤ 24 * (max (dep x) (dep z) + 1) + 40; omega⟩ rfl rfl (Nat.le_of_ble_eq_true rfl) dX10_cost_36 ⟨Nat.le_refl _, Nat.le_refl _⟩) (fun r36 h36 => ?_)
    subst h36
    refine v_read (pc := 39) X (mem1 hy) (r_SN X (c_X1_poured (a := fsT x) (b := lsT x) (c := lsT z) h9 (by omega) q2 q3) q859 q91 q968 q858 hdX1_poured ⟨by show 0 + 1 ≤ max (dep x) (dep z) + 1 + 1; omega, by show 8 + (4 + 11) + 0 ≤ 24 * (max (dep x) (dep z) + 1) + 40; omega⟩ rfl rfl (Nat.le_of_ble_eq_true rfl) dX10_cost_39 ⟨Nat.le_refl _, Nat.le_refl _⟩) (fun r39 h39 => ?_)
    subst h39
    refine v_iaddN (pc := 42) X dX10_cost_42 ?_
    exact v_iret (pc := 43) X hr dX10_cost_43 ⟨⟨_, rfl, rfl⟩, rfl⟩
  | .tag v _, a, hp, _ => by
    refine MW.intro (by decide) (Nat.le_of_ble_eq_true rfl) (fun p_ e_ s_ m_ as_ bl_ me_ c_ A_ X hr hnm => ?_)
    have X : VX p_ s_ m_ as_ me_ c_ cX11_cost 2 RX11 D dd A_ := X
    refine v_eq (loc' := [(0, .ref a), (1, .ref y)]) rfl rfl rfl ?_
    refine v_iconst (pc := 0) (v := nI 0) X dX11_cost_0 rfl ?_
    exact v_iret (pc := 1) X hr dX11_cost_1 ⟨⟨_, rfl, rfl⟩, rfl⟩
  | .nil, _, hp, _ => hp.elim
  | .line, _, hp, _ => hp.elim
  | .align _, _, hp, _ => hp.elim
  | .text _, _, hp, _ => hp.elim
  | .nest _ _, _, hp, _ => hp.elim
  | .group _ _, _, hp, _ => hp.elim

/-! Costs.order: the tree of the best splits -/
def oT (sd : Nat → Nat) : Nat → Nat → Nat → Tr
  | 0, f, _ => lf f
  | n + 1, f, l => if f = l then lf f else nd (oT sd n f (Dv sd f l).2.2.1) (oT sd n ((Dv sd f l).2.2.1 + 1) l)
theorem hdX3_order : yX3_order.cls = RX3 ∧ yX3_order.cls ≠ "java/lang/invoke/MethodHandle" ∧ yX3_order.cls ≠ "java/lang/invoke/VarHandle" ∧ (parseMethodDescriptor yX3_order.desc).map (fun d => d.parameters.length) = some 2 := by decide +kernel
theorem hdX9_vat : yX9_vat.cls ≠ "java/lang/invoke/MethodHandle" ∧ yX9_vat.cls ≠ "java/lang/invoke/VarHandle" ∧ (parseMethodDescriptor yX9_vat.desc).map (fun d => d.parameters.length) = some 1 := by decide +kernel
theorem hdX9_both : yX9_both.cls ≠ "java/lang/invoke/MethodHandle" ∧ yX9_both.cls ≠ "java/lang/invoke/VarHandle" ∧ (parseMethodDescriptor yX9_both.desc).map (fun d => d.parameters.length) = some 2 := by decide +kernel
theorem c_order {l_ : Launch} {D : va_G} {dd : Nat → ClassId} {x : Nat} {ad : Nat → Nat} {σ : Tw} {sd : Nat → Nat} {m : Nat} (hm : m ≤ 8) (hR : ∀ f l : Nat, f ≤ l → l < m → σ 17 (8 * f + l) = nI (Dv sd f l).2.2.1) : ∀ (n f l : Nat), f ≤ l → l < m → l - f ≤ n → MW l_ D dd yX3_order cX3_order 4 (some (.object "VatBrackets$Part")) (n + 3) (2 * (l - f) + 1) (3 * (l - f) + 1) (23 * n + 63) [.ref x, .int (nI f), .int (nI l)] (kw x ad dd σ) (fun v w => ∃ (q : Nat) (new : va_W), v = some (.ref q) ∧ w = kw x ad dd σ ++ new ∧ PartIs new (oT sd n f l) q) := by
  intro n
  induction n with
  | zero =>
    intro f l hfl hl hn
    refine MW.intro (by decide) (Nat.le_of_ble_eq_true rfl) (fun p_ e_ s_ m_ as_ bl_ me_ c_ A_ X hr hnm => ?_)
    have X : VX p_ s_ m_ as_ me_ c_ cX3_order 4 RX3 D dd A_ := X
    refine v_eq (loc' := [(0, .ref x), (1, .int (nI f)), (2, .int (nI l))]) rfl rfl rfl ?_
    refine v_iload_n (pc := 0) X dX3_order_0 rfl 1 rfl ?_
    refine v_iload_n (pc := 1) X dX3_order_1 rfl 2 rfl ?_
    refine v_ic_neN (pc := 2) X (by omega) (by omega) 10 dX3_order_2 (by decide) (fun h2 => ?_) (fun h2 => ?_)
    · exfalso; omega
    · refine v_iload_n (pc := 5) X dX3_order_5 rfl 1 rfl ?_
      refine v_frame (pc := 6) X (wc := []) (wr := kw x ad dd σ) (List.Perm.refl _) (r_S X (c_X9_vat (v := f)) (lw_S q1384 q1333 q118 q1334) hdX9_vat ⟨by show 2 + 1 ≤ 0 + 3; omega, by show 8 + (1 + 11) + 41 ≤ 23 * (0) + 63; omega⟩ rfl rfl (Nat.le_of_ble_eq_true rfl) dX3_order_6 ⟨by show 0 + 1 ≤ 2 * (l - f) + 1; omega, by show 0 + 1 ≤ 3 * (l - f) + 1; omega⟩) (fun v w h => ?_)
      obtain ⟨q, rfl, rfl⟩ := h
      refine v_perm (ws' := kw x ad dd σ ++ [(q, .inr (9, [.int (nI f)]))]) List.perm_append_comm ?_
      refine v_widen (k := 2 * (l - f) + 1) (n := 3 * (l - f) + 1) (by omega) (by omega) ?_
      exact v_aret (pc := 9) X hr (Or.inl ⟨_, rfl⟩) dX3_order_9 ⟨q, _, rfl, rfl, by skip; exact List.mem_singleton.mpr rfl⟩
  | succ n ih =>
    intro f l hfl hl hn
    refine MW.intro (by decide) (Nat.le_of_ble_eq_true rfl) (fun p_ e_ s_ m_ as_ bl_ me_ c_ A_ X hr hnm => ?_)
    have X : VX p_ s_ m_ as_ me_ c_ cX3_order 4 RX3 D dd A_ := X
    refine v_eq (loc' := [(0, .ref x), (1, .int (nI f)), (2, .int (nI l))]) rfl rfl rfl ?_
    refine v_iload_n (pc := 0) X dX3_order_0 rfl 1 rfl ?_
    refine v_iload_n (pc := 1) X dX3_order_1 rfl 2 rfl ?_
    refine v_ic_neN (pc := 2) X (by omega) (by omega) 10 dX3_order_2 (by decide) (fun h2 => ?_) (fun h2 => ?_)
    · obtain ⟨sp, hsp⟩ : ∃ sp, sp = (Dv sd f l).2.2.1 := ⟨_, rfl⟩
      have hs2 := Dv_split sd (show f < l by omega)
      rw [← hsp] at hs2
      refine v_aload_n (pc := 10) X dX3_order_10 rfl 0 rfl ?_
      refine v_get (pc := 11) X in_X3 0 rfl rfl 4 (by decide) q211 (fun y h => h) rfl dX3_order_11 ?_
      refine v_iload_n (pc := 14) X dX3_order_14 rfl 1 rfl ?_
      refine v_iload_n (pc := 15) X dX3_order_15 rfl 2 rfl ?_
      refine v_read (pc := 16) X ⟨_, List.Perm.refl _⟩ (r_S X (c_X3_run (a := f) (b := l)) (lw_S q846 q847 q95 q848) hdX3_run ⟨by show 0 + 1 ≤ n + 1 + 3; omega, by show 8 + (2 + 11) + 0 ≤ 23 * (n + 1) + 63; omega⟩ rfl rfl (Nat.le_of_ble_eq_true rfl) dX3_order_16 ⟨Nat.zero_le _, Nat.zero_le _⟩) (fun r16 h16 => ?_)
      subst h16
      refine v_iald (pc := 19) X 4 ka_17 rfl (by omega) (by decide) dX3_order_19 ?_
      refine v_top (y := nI sp) (by rw [hsp]; exact hR f l hfl hl) ?_
      refine v_istore_n (pc := 20) (loc' := [(3, .int (nI sp)), (0, .ref x), (1, .int (nI f)), (2, .int (nI l))]) X dX3_order_20 rfl (by decide) rfl ?_
      refine v_aload_n (pc := 21) X dX3_order_21 rfl 1 rfl ?_
      refine v_iload_n (pc := 22) X dX3_order_22 rfl 2 rfl ?_
      refine v_iload_n (pc := 23) X dX3_order_23 rfl 0 rfl ?_
      refine v_frame (pc := 24) X (wc := kw x ad dd σ) (wr := []) (perm_nil _) (r_V X (ih f sp (by omega) (by omega) (by omega)) (List.mem_of_getElem? (i := 0) rfl) rfl rfl (lw_V q1385 q1381 q1382 q95 q1383) hdX3_order ⟨by show n + 3 + 1 ≤ n + 1 + 3; omega, by show 8 + (4 + 11) + (23 * n + 63) ≤ 23 * (n + 1) + 63; omega⟩ rfl rfl (Nat.le_of_ble_eq_true rfl) dX3_order_24 ⟨by show 0 + (2 * (sp - f) + 1) ≤ 2 * (l - f) + 1; omega, by show 0 + (3 * (sp - f) + 1) ≤ 3 * (l - f) + 1; omega⟩) (fun v1 w1 hw1 => ?_)
      obtain ⟨q1, new1, rfl, rfl, hP1⟩ := hw1
      rw [List.append_nil]
      refine v_aload_n (pc := 27) X dX3_order_27 rfl 1 rfl ?_
      refine v_iload_n (pc := 28) X dX3_order_28 rfl 0 rfl ?_
      refine v_iconst (pc := 29) (v := nI 1) X dX3_order_29 rfl ?_
      refine v_iaddN (pc := 30) X dX3_order_30 ?_
      refine v_iload_n (pc := 31) X dX3_order_31 rfl 3 rfl ?_
      refine v_frame (pc := 32) X (wc := kw x ad dd σ) (wr := new1) (List.Perm.refl _) (r_V X (ih (sp + 1) l (by omega) (by omega) (by omega)) (List.mem_of_getElem? (i := 0) rfl) rfl rfl (lw_V q1385 q1381 q1382 q95 q1383) hdX3_order ⟨by show n + 3 + 1 ≤ n + 1 + 3; omega, by show 8 + (4 + 11) + (23 * n + 63) ≤ 23 * (n + 1) + 63; omega⟩ rfl rfl (Nat.le_of_ble_eq_true rfl) dX3_order_32 ⟨by show 0 + (2 * (sp - f) + 1) + (2 * (l - (sp + 1)) + 1) ≤ 2 * (l - f) + 1; omega, by show 0 + (3 * (sp - f) + 1) + (3 * (l - (sp + 1)) + 1) ≤ 3 * (l - f) + 1; omega⟩) (fun v2 w2 hw2 => ?_)
      obtain ⟨q2, new2, rfl, rfl, hP2⟩ := hw2
      refine v_frame (pc := 35) X (wc := []) (wr := kw x ad dd σ ++ new2 ++ new1) (List.Perm.refl _) (r_S X (c_X9_both (b := q1) (c := q2)) (lw_S q1386 q1313 q118 q1314) hdX9_both ⟨by show 2 + 1 ≤ n + 1 + 3; omega, by show 8 + (2 + 11) + 42 ≤ 23 * (n + 1) + 63; omega⟩ rfl rfl (Nat.le_of_ble_eq_true rfl) dX3_order_35 ⟨by show 0 + (2 * (sp - f) + 1) + (2 * (l - (sp + 1)) + 1) + 1 ≤ 2 * (l - f) + 1; omega, by show 0 + (3 * (sp - f) + 1) + (3 * (l - (sp + 1)) + 1) + 2 ≤ 3 * (l - f) + 1; omega⟩) (fun v3 w3 hw3 => ?_)
      obtain ⟨q3, rfl, rfl⟩ := hw3
      refine v_perm (ws' := kw x ad dd σ ++ ((q3, .inr (8, [.ref q1, .ref q2])) :: (new2 ++ new1))) (by rw [List.append_assoc]; exact (List.perm_middle (a := (q3, .inr (8, [.ref q1, .ref q2]))) (l₁ := kw x ad dd σ) (l₂ := new2 ++ new1)).symm) ?_
      refine v_widen (k := 2 * (l - f) + 1) (n := 3 * (l - f) + 1) (by omega) (by omega) ?_
      exact v_aret (pc := 38) X hr (Or.inl ⟨_, rfl⟩) dX3_order_38 ⟨q3, _, rfl, rfl, by show PartIs _ (if f = l then lf f else _) q3; rw [if_neg h2, ← hsp]; exact ⟨q1, q2, List.mem_cons_self, hP1.mono (fun q hq => List.mem_cons_of_mem _ (List.mem_append_right _ hq)), hP2.mono (fun q hq => List.mem_cons_of_mem _ (List.mem_append_left _ hq))⟩⟩
    · refine v_iload_n (pc := 5) X dX3_order_5 rfl 1 rfl ?_
      refine v_frame (pc := 6) X (wc := []) (wr := kw x ad dd σ) (List.Perm.refl _) (r_S X (c_X9_vat (v := f)) (lw_S q1384 q1333 q118 q1334) hdX9_vat ⟨by show 2 + 1 ≤ n + 1 + 3; omega, by show 8 + (1 + 11) + 41 ≤ 23 * (n + 1) + 63; omega⟩ rfl rfl (Nat.le_of_ble_eq_true rfl) dX3_order_6 ⟨by show 0 + 1 ≤ 2 * (l - f) + 1; omega, by show 0 + 1 ≤ 3 * (l - f) + 1; omega⟩) (fun v w h => ?_)
      obtain ⟨q, rfl, rfl⟩ := h
      refine v_perm (ws' := kw x ad dd σ ++ [(q, .inr (9, [.int (nI f)]))]) List.perm_append_comm ?_
      refine v_widen (k := 2 * (l - f) + 1) (n := 3 * (l - f) + 1) (by omega) (by omega) ?_
      exact v_aret (pc := 9) X hr (Or.inl ⟨_, rfl⟩) dX3_order_9 ⟨q, _, rfl, rfl, by show PartIs _ (if f = l then lf f else _) q; rw [if_pos h2]; exact List.mem_singleton.mpr rfl⟩

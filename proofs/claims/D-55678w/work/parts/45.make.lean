/-! making parts -/
theorem hdX11_init : yX11_init.name = "<init>" ∧ yX11_init.cls ≠ "java/lang/invoke/MethodHandle" ∧ yX11_init.cls ≠ "java/lang/invoke/VarHandle" ∧ (parseMethodDescriptor yX11_init.desc).map (fun d => d.parameters.length) = some 1 := by decide +kernel
theorem hdX10_init : yX10_init.name = "<init>" ∧ yX10_init.cls ≠ "java/lang/invoke/MethodHandle" ∧ yX10_init.cls ≠ "java/lang/invoke/VarHandle" ∧ (parseMethodDescriptor yX10_init.desc).map (fun d => d.parameters.length) = some 2 := by decide +kernel
theorem c_X11_init {l : Launch} {D : va_G} {dd : Nat → ClassId} {q v : Nat} : MW l D dd yX11_init cX11_init 2 none 1 0 0 20 [.ref q, .int (nI v)] [(q, .inr (9, [.int 0]))] (fun r w => r = none ∧ w = [(q, .inr (9, [.int (nI v)]))]) := by
  refine MW.intro (by decide) (Nat.le_of_ble_eq_true rfl) (fun p_ e_ s_ m_ as_ bl_ me_ c_ A_ X hr hnm => ?_)
  have X : VX p_ s_ m_ as_ me_ c_ cX11_init 2 RX11 D dd A_ := X
  refine v_eq (loc' := [(0, .ref q), (1, .int (nI v))]) rfl rfl rfl ?_
  refine v_aload_n (pc := 0) X dX11_init_0 rfl 0 rfl ?_
  refine v_objInit (pc := 1) X q1340 q137 q138 ⟨Nat.le_refl _, Nat.le_refl _⟩ (by decide) dX11_init_1 ?_
  refine v_aload_n (pc := 4) X dX11_init_4 rfl 0 rfl ?_
  refine v_iload_n (pc := 5) X dX11_init_5 rfl 1 rfl ?_
  refine v_putF (pc := 6) X in_X11 tyX11 tyX11_ok nmX11 0 rfl rfl 0 (by decide) q1341 (fun y h => h) rfl hnm rfl rfl rfl (Nat.le_of_ble_eq_true rfl) dX11_init_6 (ws' := [(q, .inr (9, [.int (nI v)]))]) rfl ?_
  exact v_vret (pc := 9) X hr dX11_init_9 ⟨rfl, rfl⟩
theorem c_X10_init {l : Launch} {D : va_G} {dd : Nat → ClassId} {q b c : Nat} : MW l D dd yX10_init cX10_init 3 none 1 0 0 20 [.ref q, .ref b, .ref c] [(q, .inr (8, [.null, .null]))] (fun r w => r = none ∧ w = [(q, .inr (8, [.ref b, .ref c]))]) := by
  refine MW.intro (by decide) (Nat.le_of_ble_eq_true rfl) (fun p_ e_ s_ m_ as_ bl_ me_ c_ A_ X hr hnm => ?_)
  have X : VX p_ s_ m_ as_ me_ c_ cX10_init 3 RX10 D dd A_ := X
  refine v_eq (loc' := [(0, .ref q), (1, .ref b), (2, .ref c)]) rfl rfl rfl ?_
  refine v_aload_n (pc := 0) X dX10_init_0 rfl 0 rfl ?_
  refine v_objInit (pc := 1) X q1320 q137 q138 ⟨Nat.le_refl _, Nat.le_refl _⟩ (by decide) dX10_init_1 ?_
  refine v_aload_n (pc := 4) X dX10_init_4 rfl 0 rfl ?_
  refine v_aload_n (pc := 5) X dX10_init_5 rfl 1 rfl ?_
  refine v_putF (pc := 6) X in_X10 tyX10 tyX10_ok nmX10 0 rfl rfl 0 (by decide) q1321 (fun y h => h) rfl hnm rfl rfl rfl (Nat.le_of_ble_eq_true rfl) dX10_init_6 (ws' := [(q, .inr (8, [.ref b, .null]))]) rfl ?_
  refine v_aload_n (pc := 9) X dX10_init_9 rfl 0 rfl ?_
  refine v_aload_n (pc := 10) X dX10_init_10 rfl 2 rfl ?_
  refine v_putF (pc := 11) X in_X10 tyX10 tyX10_ok nmX10 0 rfl rfl 1 (by decide) q1323 (fun y h => h) rfl hnm rfl rfl rfl (Nat.le_of_ble_eq_true rfl) dX10_init_11 (ws' := [(q, .inr (8, [.ref b, .ref c]))]) rfl ?_
  exact v_vret (pc := 14) X hr dX10_init_14 ⟨rfl, rfl⟩
theorem c_X9_vat {l : Launch} {D : va_G} {dd : Nat → ClassId} {v : Nat} : MW l D dd yX9_vat cX9_vat 1 (some (.object "VatBrackets$Part")) 2 1 1 41 [.int (nI v)] [] (fun r w => ∃ q, r = some (.ref q) ∧ w = [(q, .inr (9, [.int (nI v)]))]) := by
  refine MW.intro (by decide) (Nat.le_of_ble_eq_true rfl) (fun p_ e_ s_ m_ as_ bl_ me_ c_ A_ X hr hnm => ?_)
  have X : VX p_ s_ m_ as_ me_ c_ cX9_vat 1 RX9 D dd A_ := X
  refine v_eq (loc' := [(0, .int (nI v))]) rfl rfl rfl ?_
  refine v_new (pc := 0) (ci := 9) X in_X11 tyX11 tyX11_ok q1335 q1336 q120 rfl [.int 0] (fun j hj => by rcases (show j = 0 by omega) with rfl <;> rfl) ⟨Nat.le_refl _, Nat.le_refl _⟩ dX9_vat_0 (fun q => ?_)
  refine v_dup (pc := 3) X dX9_vat_3 rfl ?_
  refine v_iload_n (pc := 4) X dX9_vat_4 rfl 0 rfl ?_
  refine v_frame (pc := 5) X (wr := []) (perm_nil _) (r_I X c_X11_init q1339 q120 q1337 q1338 hdX11_init ⟨Nat.le_refl _, Nat.le_refl _⟩ rfl rfl (Nat.le_of_ble_eq_true rfl) dX9_vat_5 ⟨Nat.le_refl _, Nat.le_refl _⟩) (fun r w h => ?_)
  obtain ⟨rfl, rfl⟩ := h
  exact v_aret (pc := 8) X hr (Or.inl ⟨_, rfl⟩) dX9_vat_8 ⟨q, rfl, rfl⟩
theorem c_X9_both {l : Launch} {D : va_G} {dd : Nat → ClassId} {b c : Nat} : MW l D dd yX9_both cX9_both 2 (some (.object "VatBrackets$Part")) 2 1 2 42 [.ref b, .ref c] [] (fun r w => ∃ q, r = some (.ref q) ∧ w = [(q, .inr (8, [.ref b, .ref c]))]) := by
  refine MW.intro (by decide) (Nat.le_of_ble_eq_true rfl) (fun p_ e_ s_ m_ as_ bl_ me_ c_ A_ X hr hnm => ?_)
  have X : VX p_ s_ m_ as_ me_ c_ cX9_both 2 RX9 D dd A_ := X
  refine v_eq (loc' := [(0, .ref b), (1, .ref c)]) rfl rfl rfl ?_
  refine v_new (pc := 0) (ci := 8) X in_X10 tyX10 tyX10_ok q1315 q1316 q119 rfl [.null, .null] (fun j hj => by rcases (show j = 0 ∨ j = 1 by omega) with rfl | rfl <;> rfl) ⟨Nat.le_refl _, Nat.le_refl _⟩ dX9_both_0 (fun q => ?_)
  refine v_dup (pc := 3) X dX9_both_3 rfl ?_
  refine v_aload_n (pc := 4) X dX9_both_4 rfl 0 rfl ?_
  refine v_aload_n (pc := 5) X dX9_both_5 rfl 1 rfl ?_
  refine v_frame (pc := 6) X (wr := []) (perm_nil _) (r_I X c_X10_init q1319 q119 q1317 q1318 hdX10_init ⟨Nat.le_refl _, Nat.le_refl _⟩ rfl rfl (Nat.le_of_ble_eq_true rfl) dX9_both_6 ⟨Nat.le_refl _, Nat.le_refl _⟩) (fun r w h => ?_)
  obtain ⟨rfl, rfl⟩ := h
  exact v_aret (pc := 9) X hr (Or.inl ⟨_, rfl⟩) dX9_both_9 ⟨q, rfl, rfl⟩

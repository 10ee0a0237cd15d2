theorem hdX1_in : yX1_in.cls ≠ "java/lang/invoke/MethodHandle" ∧ yX1_in.cls ≠ "java/lang/invoke/VarHandle" ∧ (parseMethodDescriptor yX1_in.desc).map (fun d => d.parameters.length) = some 3 := by decide +kernel
set_option maxHeartbeats 4000000 in
theorem c_X1_in {l_ : Launch} {D : va_G} {dd : Nat → ClassId}  {v lo hi : Int32}  : MW l_ D dd yX1_in cX1_in 3 (some .boolean) 0 0 0 0 [.int v, .int lo, .int hi] ([]) (RI (fun r => bI (lo ≤ v ∧ v ≤ hi) = r) []) := by
  refine MW.intro (by decide) (Nat.le_of_ble_eq_true rfl) (fun p_ e_ s_ m_ as_ bl_ me_ c_ A_ X hr hnm => ?_)
  have X : VX p_ s_ m_ as_ me_ c_ cX1_in 3 RX1 D dd A_ := X
  refine v_eq (loc' := [(0, .int v), (1, .int lo), (2, .int hi)]) rfl rfl rfl ?_
  refine v_iload_n (pc := 0) X dX1_in_0 rfl 0 rfl ?_
  refine v_iload_n (pc := 1) X dX1_in_1 rfl 1 rfl ?_
  refine v_ic_lt (pc := 2) X 14 dX1_in_2 (by decide) (fun h2 => ?_) (fun h2 => ?_)
  · refine v_iconst (pc := 14) (v := nI 0) X dX1_in_14 rfl ?_
    exact v_zret (pc := 15) X hr rfl dX1_in_15 ⟨⟨_, rfl, bI_f (fun z => absurd z.1 (Int32.not_le.mpr h2))⟩, rfl⟩
  · refine v_iload_n (pc := 5) X dX1_in_5 rfl 0 rfl ?_
    refine v_iload_n (pc := 6) X dX1_in_6 rfl 2 rfl ?_
    refine v_ic_gt (pc := 7) X 14 dX1_in_7 (by decide) (fun h7 => ?_) (fun h7 => ?_)
    · refine v_iconst (pc := 14) (v := nI 0) X dX1_in_14 rfl ?_
      exact v_zret (pc := 15) X hr rfl dX1_in_15 ⟨⟨_, rfl, bI_f (fun z => absurd z.2 (Int32.not_le.mpr h7))⟩, rfl⟩
    · refine v_iconst (pc := 10) (v := nI 1) X dX1_in_10 rfl ?_
      refine v_goto (pc := 11) X 15 dX1_in_11 (by decide) ?_
      exact v_zret (pc := 15) X hr rfl dX1_in_15 ⟨⟨_, rfl, bI_t ⟨Int32.not_lt.mp h2, Int32.not_lt.mp h7⟩⟩, rfl⟩
theorem hdX1_poured : yX1_poured.cls ≠ "java/lang/invoke/MethodHandle" ∧ yX1_poured.cls ≠ "java/lang/invoke/VarHandle" ∧ (parseMethodDescriptor yX1_poured.desc).map (fun d => d.parameters.length) = some 4 := by decide +kernel
set_option maxHeartbeats 4000000 in
theorem c_X1_poured {l_ : Launch} {D : va_G} {dd : Nat → ClassId}  {y a b c : Nat} {f : Nat → Int32} {sd : Nat → Nat} (h9 : ∀ i, i < 9 → f i = nI (sd i)) (ha : a < 9) (hb : b < 8) (hc : c < 8) : MW l_ D dd yX1_poured cX1_poured 4 (some .int) 0 0 0 0 [.ref y, .int (nI a), .int (nI b), .int (nI c)] ([(y, .inl (dd 0, 9, .inl f))]) (RI (fun r => nI (prN sd a b c) = r) [(y, .inl (dd 0, 9, .inl f))]) := by
  refine MW.intro (by decide) (Nat.le_of_ble_eq_true rfl) (fun p_ e_ s_ m_ as_ bl_ me_ c_ A_ X hr hnm => ?_)
  have X : VX p_ s_ m_ as_ me_ c_ cX1_poured 4 RX1 D dd A_ := X
  refine v_eq (loc' := [(0, .ref y), (1, .int (nI a)), (2, .int (nI b)), (3, .int (nI c))]) rfl rfl rfl ?_
  refine v_aload_n (pc := 0) X dX1_poured_0 rfl 0 rfl ?_
  refine v_iload_n (pc := 1) X dX1_poured_1 rfl 1 rfl ?_
  refine v_iald (pc := 2) X 0 rfl rfl (by omega) (by decide) dX1_poured_2 ?_
  refine v_top (y := (nI (sd a))) (h9 a ha) ?_
  refine v_aload_n (pc := 3) X dX1_poured_3 rfl 0 rfl ?_
  refine v_iload_n (pc := 4) X dX1_poured_4 rfl 2 rfl ?_
  refine v_iconst (pc := 5) (v := nI 1) X dX1_poured_5 rfl ?_
  refine v_iaddN (pc := 6) X dX1_poured_6 ?_
  refine v_iald (pc := 7) X 0 rfl rfl (by omega) (by decide) dX1_poured_7 ?_
  refine v_top (y := (nI (sd (b + 1)))) (h9 (b + 1) (by omega)) ?_
  refine v_imulN (pc := 8) X dX1_poured_8 ?_
  refine v_aload_n (pc := 9) X dX1_poured_9 rfl 0 rfl ?_
  refine v_iload_n (pc := 10) X dX1_poured_10 rfl 3 rfl ?_
  refine v_iconst (pc := 11) (v := nI 1) X dX1_poured_11 rfl ?_
  refine v_iaddN (pc := 12) X dX1_poured_12 ?_
  refine v_iald (pc := 13) X 0 rfl rfl (by omega) (by decide) dX1_poured_13 ?_
  refine v_top (y := (nI (sd (c + 1)))) (h9 (c + 1) (by omega)) ?_
  refine v_imulN (pc := 14) X dX1_poured_14 ?_
  exact v_iret (pc := 15) X hr dX1_poured_15 ⟨⟨_, rfl, rfl⟩, rfl⟩
theorem hdX3_run : yX3_run.cls ≠ "java/lang/invoke/MethodHandle" ∧ yX3_run.cls ≠ "java/lang/invoke/VarHandle" ∧ (parseMethodDescriptor yX3_run.desc).map (fun d => d.parameters.length) = some 2 := by decide +kernel
set_option maxHeartbeats 4000000 in
theorem c_X3_run {l_ : Launch} {D : va_G} {dd : Nat → ClassId}  {a b : Nat}  : MW l_ D dd yX3_run cX3_run 2 (some .int) 0 0 0 0 [.int (nI a), .int (nI b)] ([]) (RI (fun r => nI (8 * a + b) = r) []) := by
  refine MW.intro (by decide) (Nat.le_of_ble_eq_true rfl) (fun p_ e_ s_ m_ as_ bl_ me_ c_ A_ X hr hnm => ?_)
  have X : VX p_ s_ m_ as_ me_ c_ cX3_run 2 RX3 D dd A_ := X
  refine v_eq (loc' := [(0, .int (nI a)), (1, .int (nI b))]) rfl rfl rfl ?_
  refine v_bipush (pc := 0) (v := nI 8) X dX3_run_0 rfl ?_
  refine v_iload_n (pc := 2) X dX3_run_2 rfl 0 rfl ?_
  refine v_imulN (pc := 3) X dX3_run_3 ?_
  refine v_iload_n (pc := 4) X dX3_run_4 rfl 1 rfl ?_
  refine v_iaddN (pc := 5) X dX3_run_5 ?_
  exact v_iret (pc := 6) X hr dX3_run_6 ⟨⟨_, rfl, rfl⟩, rfl⟩

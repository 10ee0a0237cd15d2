theorem hdX6_thrown : yX6_thrown.cls = RX6 ∧ yX6_thrown.cls ≠ "java/lang/invoke/MethodHandle" ∧ yX6_thrown.cls ≠ "java/lang/invoke/VarHandle" ∧ (parseMethodDescriptor yX6_thrown.desc).map (fun d => d.parameters.length) = some 0 := by decide +kernel
set_option maxHeartbeats 4000000 in
theorem m_thrown {l_ : Launch} {D : va_G} {dd : Nat → ClassId} {x : Nat} {ad : Nat → Nat} {σ : Tw}  : TM l_ D dd x ad yX6_thrown cX6_thrown 1 (some .int) 0 0 [.ref x] σ (TI (fun r σ' => σ 99 14 = r ∧ σ = σ')) := by
  refine MW.intro (by decide) (Nat.le_of_ble_eq_true rfl) (fun p_ e_ s_ m_ as_ bl_ me_ c_ A_ X hr hnm => ?_)
  have X : VX p_ s_ m_ as_ me_ c_ cX6_thrown 1 RX6 D dd A_ := X
  refine v_eq (loc' := [(0, .ref x)]) rfl rfl rfl ?_
  refine v_aload_n (pc := 0) X dX6_thrown_0 rfl 0 rfl ?_
  refine t_get (pc := 1) X 14 (by decide) q1970 rfl rfl dX6_thrown_1 ?_
  exact t_iret (pc := 4) X hr dX6_thrown_4 ⟨_, rfl, rfl, rfl⟩
theorem hdX6_in : yX6_in.cls ≠ "java/lang/invoke/MethodHandle" ∧ yX6_in.cls ≠ "java/lang/invoke/VarHandle" ∧ (parseMethodDescriptor yX6_in.desc).map (fun d => d.parameters.length) = some 3 := by decide +kernel
set_option maxHeartbeats 4000000 in
theorem m_in {l_ : Launch} {D : va_G} {dd : Nat → ClassId} {x : Nat} {ad : Nat → Nat} {σ : Tw} {v lo hi : Int32} : TM l_ D dd x ad yX6_in cX6_in 3 (some .boolean) 0 0 [.int v, .int lo, .int hi] σ (TI (fun r σ' => bI (lo ≤ v ∧ v ≤ hi) = r ∧ σ = σ')) := by
  refine MW.intro (by decide) (Nat.le_of_ble_eq_true rfl) (fun p_ e_ s_ m_ as_ bl_ me_ c_ A_ X hr hnm => ?_)
  have X : VX p_ s_ m_ as_ me_ c_ cX6_in 3 RX6 D dd A_ := X
  refine v_eq (loc' := [(0, .int v), (1, .int lo), (2, .int hi)]) rfl rfl rfl ?_
  refine v_iload_n (pc := 0) X dX6_in_0 rfl 0 rfl ?_
  refine v_iload_n (pc := 1) X dX6_in_1 rfl 1 rfl ?_
  refine v_ic_lt (pc := 2) X 14 dX6_in_2 (by decide) (fun h2 => ?_) (fun h2 => ?_)
  · refine v_iconst (pc := 14) (v := nI 0) X dX6_in_14 rfl ?_
    exact t_zret (pc := 15) X hr rfl dX6_in_15 ⟨_, rfl, bI_f (fun z => Int32.not_le.mpr h2 z.1), rfl⟩
  · refine v_iload_n (pc := 5) X dX6_in_5 rfl 0 rfl ?_
    refine v_iload_n (pc := 6) X dX6_in_6 rfl 2 rfl ?_
    refine v_ic_gt (pc := 7) X 14 dX6_in_7 (by decide) (fun h7 => ?_) (fun h7 => ?_)
    · refine v_iconst (pc := 14) (v := nI 0) X dX6_in_14 rfl ?_
      exact t_zret (pc := 15) X hr rfl dX6_in_15 ⟨_, rfl, bI_f (fun z => Int32.not_le.mpr h7 z.2), rfl⟩
    · refine v_iconst (pc := 10) (v := nI 1) X dX6_in_10 rfl ?_
      refine v_goto (pc := 11) X 15 dX6_in_11 (by decide) ?_
      exact t_zret (pc := 15) X hr rfl dX6_in_15 ⟨_, rfl, bI_t ⟨Int32.not_lt.mp h2, Int32.not_lt.mp h7⟩, rfl⟩
theorem hdX6_done : yX6_done.cls = RX6 ∧ yX6_done.cls ≠ "java/lang/invoke/MethodHandle" ∧ yX6_done.cls ≠ "java/lang/invoke/VarHandle" ∧ (parseMethodDescriptor yX6_done.desc).map (fun d => d.parameters.length) = some 1 := by decide +kernel
set_option maxHeartbeats 4000000 in
theorem m_done {l_ : Launch} {D : va_G} {dd : Nat → ClassId} {x : Nat} {ad : Nat → Nat} {σ : Tw} {v : Int32} : TM l_ D dd x ad yX6_done cX6_done 2 (some .int) 0 0 [.ref x, .int v] σ (TI (fun r σ' => v = r ∧ ws1 σ 14 0 = σ')) := by
  refine MW.intro (by decide) (Nat.le_of_ble_eq_true rfl) (fun p_ e_ s_ m_ as_ bl_ me_ c_ A_ X hr hnm => ?_)
  have X : VX p_ s_ m_ as_ me_ c_ cX6_done 2 RX6 D dd A_ := X
  refine v_eq (loc' := [(0, .ref x), (1, .int v)]) rfl rfl rfl ?_
  refine v_aload_n (pc := 0) X dX6_done_0 rfl 0 rfl ?_
  refine v_iconst (pc := 1) (v := nI 0) X dX6_done_1 rfl ?_
  refine t_put (pc := 2) X 14 (by decide) q1970 rfl rfl rfl rfl dX6_done_2 (tf_14 _) ?_
  refine v_iload_n (pc := 5) X dX6_done_5 rfl 1 rfl ?_
  exact t_iret (pc := 6) X hr dX6_done_6 ⟨_, rfl, rfl, rfl⟩
theorem hdX6_fails : yX6_fails.cls = RX6 ∧ yX6_fails.cls ≠ "java/lang/invoke/MethodHandle" ∧ yX6_fails.cls ≠ "java/lang/invoke/VarHandle" ∧ (parseMethodDescriptor yX6_fails.desc).map (fun d => d.parameters.length) = some 1 := by decide +kernel
set_option maxHeartbeats 4000000 in
theorem m_fails {l_ : Launch} {D : va_G} {dd : Nat → ClassId} {x : Nat} {ad : Nat → Nat} {σ : Tw} {v : Int32} : TM l_ D dd x ad yX6_fails cX6_fails 2 (some .int) 0 0 [.ref x, .int v] σ (TI (fun r σ' => 0 = r ∧ ws1 (ws1 σ 14 v) 11 0 = σ')) := by
  refine MW.intro (by decide) (Nat.le_of_ble_eq_true rfl) (fun p_ e_ s_ m_ as_ bl_ me_ c_ A_ X hr hnm => ?_)
  have X : VX p_ s_ m_ as_ me_ c_ cX6_fails 2 RX6 D dd A_ := X
  refine v_eq (loc' := [(0, .ref x), (1, .int v)]) rfl rfl rfl ?_
  refine v_aload_n (pc := 0) X dX6_fails_0 rfl 0 rfl ?_
  refine v_iload_n (pc := 1) X dX6_fails_1 rfl 1 rfl ?_
  refine t_put (pc := 2) X 14 (by decide) q1970 rfl rfl rfl rfl dX6_fails_2 (tf_14 _) ?_
  refine v_aload_n (pc := 5) X dX6_fails_5 rfl 0 rfl ?_
  refine v_iconst (pc := 6) (v := nI 0) X dX6_fails_6 rfl ?_
  refine t_put (pc := 7) X 11 (by decide) q1967 rfl rfl rfl rfl dX6_fails_7 (tf_11 _) ?_
  refine v_iconst (pc := 10) (v := nI 0) X dX6_fails_10 rfl ?_
  exact t_iret (pc := 11) X hr dX6_fails_11 ⟨_, rfl, rfl, rfl⟩
theorem hdX6_refused : yX6_refused.cls = RX6 ∧ yX6_refused.cls ≠ "java/lang/invoke/MethodHandle" ∧ yX6_refused.cls ≠ "java/lang/invoke/VarHandle" ∧ (parseMethodDescriptor yX6_refused.desc).map (fun d => d.parameters.length) = some 3 := by decide +kernel
set_option maxHeartbeats 4000000 in
theorem m_refused {l_ : Launch} {D : va_G} {dd : Nat → ClassId} {x : Nat} {ad : Nat → Nat} {σ : Tw} {a b n : Int32} : TM l_ D dd x ad yX6_refused cX6_refused 4 (some .int) 0 0 [.ref x, .int a, .int b, .int n] σ (TI (fun r σ' => 0 = r ∧ ws1 (ws1 (ws1 (ws1 σ 9 a) 10 b) 14 n) 11 1 = σ')) := by
  refine MW.intro (by decide) (Nat.le_of_ble_eq_true rfl) (fun p_ e_ s_ m_ as_ bl_ me_ c_ A_ X hr hnm => ?_)
  have X : VX p_ s_ m_ as_ me_ c_ cX6_refused 4 RX6 D dd A_ := X
  refine v_eq (loc' := [(0, .ref x), (1, .int a), (2, .int b), (3, .int n)]) rfl rfl rfl ?_
  refine v_aload_n (pc := 0) X dX6_refused_0 rfl 0 rfl ?_
  refine v_iload_n (pc := 1) X dX6_refused_1 rfl 1 rfl ?_
  refine t_put (pc := 2) X 9 (by decide) q1965 rfl rfl rfl rfl dX6_refused_2 (tf_9 _) ?_
  refine v_aload_n (pc := 5) X dX6_refused_5 rfl 0 rfl ?_
  refine v_iload_n (pc := 6) X dX6_refused_6 rfl 2 rfl ?_
  refine t_put (pc := 7) X 10 (by decide) q1966 rfl rfl rfl rfl dX6_refused_7 (tf_10 _) ?_
  refine v_aload_n (pc := 10) X dX6_refused_10 rfl 0 rfl ?_
  refine v_iload_n (pc := 11) X dX6_refused_11 rfl 3 rfl ?_
  refine t_put (pc := 12) X 14 (by decide) q1970 rfl rfl rfl rfl dX6_refused_12 (tf_14 _) ?_
  refine v_aload_n (pc := 15) X dX6_refused_15 rfl 0 rfl ?_
  refine v_iconst (pc := 16) (v := nI 1) X dX6_refused_16 rfl ?_
  refine t_put (pc := 17) X 11 (by decide) q1967 rfl rfl rfl rfl dX6_refused_17 (tf_11 _) ?_
  refine v_iconst (pc := 20) (v := nI 0) X dX6_refused_20 rfl ?_
  exact t_iret (pc := 21) X hr dX6_refused_21 ⟨_, rfl, rfl, rfl⟩
theorem hdX6_copy : yX6_copy.cls ≠ "java/lang/invoke/MethodHandle" ∧ yX6_copy.cls ≠ "java/lang/invoke/VarHandle" ∧ (parseMethodDescriptor yX6_copy.desc).map (fun d => d.parameters.length) = some 4 := by decide +kernel
set_option maxHeartbeats 4000000 in
theorem m_copy {l_ : Launch} {D : va_G} {dd : Nat → ClassId} {x : Nat} {ad : Nat → Nat} {σ : Tw} {a b pa pb na nb p q : Nat} (hA : ∀ τ : Tw, (tw x ad dd τ)[pa]? = some (ad a, .inl (dd 0, na, .inl (τ a)))) (hB : ∀ τ : Tw, (tw x ad dd τ)[pb]? = some (ad b, .inl (dd 0, nb, .inl (τ b)))) (hT : ∀ (τ : Tw) (f : Nat → Int32), (tw x ad dd τ).set pb (ad b, .inl (dd 0, nb, .inl f)) = tw x ad dd (rw2 τ b f)) (hab : a ≠ b) (hp : p + 112 ≤ na) (hq : q + 112 ≤ nb) (hna : na < 100000) (hnb : nb < 100000) : TM l_ D dd x ad yX6_copy cX6_copy 5 none 0 0 [.ref (ad a), .int (nI p), .ref (ad b), .int (nI q)] σ (TV (fun σ' => rw2 σ b (va_cpy (σ a) (σ b) p q 112) = σ')) := by
  refine MW.intro (by decide) (Nat.le_of_ble_eq_true rfl) (fun p_ e_ s_ m_ as_ bl_ me_ c_ A_ X hr hnm => ?_)
  have X : VX p_ s_ m_ as_ me_ c_ cX6_copy 5 RX6 D dd A_ := X
  refine v_eq (loc' := [(0, .ref (ad a)), (1, .int (nI p)), (2, .ref (ad b)), (3, .int (nI q))]) rfl rfl rfl ?_
  refine v_iconst (pc := 0) (v := nI 0) X dX6_copy_0 rfl ?_
  refine v_istore (pc := 1) (loc' := [(4, .int (nI 0)), (0, .ref (ad a)), (1, .int (nI p)), (2, .ref (ad b)), (3, .int (nI q))]) X dX6_copy_1 (by decide) rfl ?_
  refine v_sub [1, 2, 3, 4, 0] rfl ?_
  refine v_loop2 (S := Nat) (T := Tw) (fun k τ => tw x ad dd τ) (fun k τ => [(0, .ref (ad a)), (1, .int (nI p)), (2, .ref (ad b)), (3, .int (nI q)), (4, .int (nI k))]) (fun k τ => k ≤ 112 ∧ τ = rw2 σ b (va_cpy (σ a) (σ b) p q k)) (fun k τ => 112 - k) (fun k τ hI3 ih3 => ?_) 0 σ ⟨by omega, (cpy_0 σ b).symm⟩
  obtain ⟨hk, rfl⟩ := hI3
  refine v_iload (pc := 3) X dX6_copy_3 4 rfl ?_
  refine v_bipush (pc := 5) (v := nI 112) X dX6_copy_5 rfl ?_
  refine v_ic_geN (pc := 7) X (by omega) (by omega) 28 dX6_copy_7 (by decide) (fun h7 => ?_) (fun h7 => ?_)
  · exact t_vret (pc := 28) X hr dX6_copy_28 ⟨rfl, by rw [show k = 112 by omega]⟩
  · refine v_aload_n (pc := 10) X dX6_copy_10 rfl 2 rfl ?_
    refine v_iload_n (pc := 11) X dX6_copy_11 rfl 3 rfl ?_
    refine v_iload (pc := 12) X dX6_copy_12 4 rfl ?_
    refine v_iaddN (pc := 14) X dX6_copy_14 ?_
    refine v_aload_n (pc := 15) X dX6_copy_15 rfl 0 rfl ?_
    refine v_iload_n (pc := 16) X dX6_copy_16 rfl 1 rfl ?_
    refine v_iload (pc := 17) X dX6_copy_17 4 rfl ?_
    refine v_iaddN (pc := 19) X dX6_copy_19 ?_
    refine v_iald (pc := 20) X pa (hA _) rfl (by omega) (by omega) dX6_copy_20 ?_
    refine v_iast (pc := 21) X pb (hB _) rfl (by omega) (by omega) dX6_copy_21 (hT _ _) ?_
    refine v_iinc (pc := 22) (v := (nI (k + 1))) (loc' := [(4, .int (nI (k + 1))), (0, .ref (ad a)), (1, .int (nI p)), (2, .ref (ad b)), (3, .int (nI q))]) X dX6_copy_22 4 rfl (nI_add _ 1) (by decide) rfl ?_
    refine v_goto (pc := 25) X 3 dX6_copy_25 (by decide) ?_
    refine v_sub [1, 2, 3, 4, 0] rfl ?_
    exact ih3 _ _ ⟨by omega, cpy_s hab⟩ (by omega)
theorem hdX6_looksBack : yX6_looksBack.cls = RX6 ∧ yX6_looksBack.cls ≠ "java/lang/invoke/MethodHandle" ∧ yX6_looksBack.cls ≠ "java/lang/invoke/VarHandle" ∧ (parseMethodDescriptor yX6_looksBack.desc).map (fun d => d.parameters.length) = some 0 := by decide +kernel
set_option maxHeartbeats 4000000 in
theorem m_looksBack {l_ : Launch} {D : va_G} {dd : Nat → ClassId} {x : Nat} {ad : Nat → Nat} {σ : Tw}  : TM l_ D dd x ad yX6_looksBack cX6_looksBack 1 none 1 24 [.ref x] σ (TV (fun σ' => rw2 σ 1 (va_cpy (σ 0) (σ 1) 0 0 112) = σ')) := by
  refine MW.intro (by decide) (Nat.le_of_ble_eq_true rfl) (fun p_ e_ s_ m_ as_ bl_ me_ c_ A_ X hr hnm => ?_)
  have X : VX p_ s_ m_ as_ me_ c_ cX6_looksBack 1 RX6 D dd A_ := X
  refine v_eq (loc' := [(0, .ref x)]) rfl rfl rfl ?_
  refine v_aload_n (pc := 0) X dX6_looksBack_0 rfl 0 rfl ?_
  refine t_get (pc := 1) X 0 (by decide) q1956 rfl rfl dX6_looksBack_1 ?_
  refine v_iconst (pc := 4) (v := nI 0) X dX6_looksBack_4 rfl ?_
  refine v_aload_n (pc := 5) X dX6_looksBack_5 rfl 0 rfl ?_
  refine t_get (pc := 6) X 1 (by decide) q1957 rfl rfl dX6_looksBack_6 ?_
  refine v_iconst (pc := 9) (v := nI 0) X dX6_looksBack_9 rfl ?_
  refine t_callSV (pc := 10) X (m_copy (fun _ => ta_0) (fun _ => ta_1) (fun _ f => tb_1 f) (by decide) (by decide) (by decide) (by decide) (by decide)) (lw_S q2072 q2073 q109 q2074) hdX6_copy ⟨Nat.le_of_ble_eq_true rfl, Nat.le_of_ble_eq_true rfl⟩ rfl rfl (Nat.le_of_ble_eq_true rfl) dX6_looksBack_10 ⟨Nat.le_refl _, Nat.le_refl _⟩ (fun σ10 hp10 => ?_)
  subst hp10
  exact t_vret (pc := 13) X hr dX6_looksBack_13 ⟨rfl, rfl⟩
theorem hdX6_vats : yX6_vats.cls = RX6 ∧ yX6_vats.cls ≠ "java/lang/invoke/MethodHandle" ∧ yX6_vats.cls ≠ "java/lang/invoke/VarHandle" ∧ (parseMethodDescriptor yX6_vats.desc).map (fun d => d.parameters.length) = some 0 := by decide +kernel
set_option maxHeartbeats 4000000 in
theorem m_vats {l_ : Launch} {D : va_G} {dd : Nat → ClassId} {x : Nat} {ad : Nat → Nat} {σ : Tw} {n : Nat} (hn : σ 0 0 = nI n) (h9 : n ≤ 9) : TM l_ D dd x ad yX6_vats cX6_vats 1 (some .int) 0 0 [.ref x] σ (TI (fun r σ' => nI (n - 1) = r ∧ σ = σ')) := by
  refine MW.intro (by decide) (Nat.le_of_ble_eq_true rfl) (fun p_ e_ s_ m_ as_ bl_ me_ c_ A_ X hr hnm => ?_)
  have X : VX p_ s_ m_ as_ me_ c_ cX6_vats 1 RX6 D dd A_ := X
  refine v_eq (loc' := [(0, .ref x)]) rfl rfl rfl ?_
  refine v_aload_n (pc := 0) X dX6_vats_0 rfl 0 rfl ?_
  refine t_get (pc := 1) X 0 (by decide) q1956 rfl rfl dX6_vats_1 ?_
  refine v_iconst (pc := 4) (v := nI 0) X dX6_vats_4 rfl ?_
  refine v_iald (pc := 5) X 1 ta_0 rfl (by omega) (by decide) dX6_vats_5 ?_
  refine v_top (y := (nI n)) hn ?_
  refine v_iconst (pc := 6) (v := nI 2) X dX6_vats_6 rfl ?_
  refine v_ic_geN (pc := 7) X (by omega) (by omega) 14 dX6_vats_7 (by decide) (fun h7 => ?_) (fun h7 => ?_)
  · refine v_aload_n (pc := 14) X dX6_vats_14 rfl 0 rfl ?_
    refine t_get (pc := 15) X 0 (by decide) q1956 rfl rfl dX6_vats_15 ?_
    refine v_iconst (pc := 18) (v := nI 0) X dX6_vats_18 rfl ?_
    refine v_iald (pc := 19) X 1 ta_0 rfl (by omega) (by decide) dX6_vats_19 ?_
    refine v_top (y := (nI n)) hn ?_
    refine v_iconst (pc := 20) (v := nI 1) X dX6_vats_20 rfl ?_
    refine v_isubN (pc := 21) X (by omega) dX6_vats_21 ?_
    exact t_iret (pc := 22) X hr dX6_vats_22 ⟨_, rfl, rfl, rfl⟩
  · refine v_iconst (pc := 10) (v := nI 0) X dX6_vats_10 rfl ?_
    refine v_goto (pc := 11) X 22 dX6_vats_11 (by decide) ?_
    exact t_iret (pc := 22) X hr dX6_vats_22 ⟨_, rfl, by rw [show n - 1 = 0 by omega], rfl⟩
theorem hdX6_isRun : yX6_isRun.cls = RX6 ∧ yX6_isRun.cls ≠ "java/lang/invoke/MethodHandle" ∧ yX6_isRun.cls ≠ "java/lang/invoke/VarHandle" ∧ (parseMethodDescriptor yX6_isRun.desc).map (fun d => d.parameters.length) = some 2 := by decide +kernel
set_option maxHeartbeats 4000000 in
theorem m_isRun {l_ : Launch} {D : va_G} {dd : Nat → ClassId} {x : Nat} {ad : Nat → Nat} {σ : Tw} {n : Nat} {a b : Int32} (hn : σ 0 0 = nI n) (h9 : n ≤ 9) : TM l_ D dd x ad yX6_isRun cX6_isRun 3 (some .boolean) 1 22 [.ref x, .int a, .int b] σ (TI (fun r σ' => bI (isRunP n a b) = r ∧ σ = σ')) := by
  refine MW.intro (by decide) (Nat.le_of_ble_eq_true rfl) (fun p_ e_ s_ m_ as_ bl_ me_ c_ A_ X hr hnm => ?_)
  have X : VX p_ s_ m_ as_ me_ c_ cX6_isRun 3 RX6 D dd A_ := X
  refine v_eq (loc' := [(0, .ref x), (1, .int a), (2, .int b)]) rfl rfl rfl ?_
  refine v_iload_n (pc := 0) X dX6_isRun_0 rfl 1 rfl ?_
  refine v_iconst (pc := 1) (v := nI 0) X dX6_isRun_1 rfl ?_
  refine v_aload_n (pc := 2) X dX6_isRun_2 rfl 0 rfl ?_
  refine t_callI (pc := 3) X (m_vats hn h9) (lw_V q2090 q2092 qs40 q109 q2093) hdX6_vats ⟨Nat.le_of_ble_eq_true rfl, Nat.le_of_ble_eq_true rfl⟩ rfl rfl (Nat.le_of_ble_eq_true rfl) dX6_isRun_3 ⟨Nat.le_refl _, Nat.le_refl _⟩ (fun r3 σ3 hp3 => ?_)
  obtain ⟨rfl, rfl⟩ := hp3
  refine v_iconst (pc := 6) (v := nI 1) X dX6_isRun_6 rfl ?_
  refine v_isub (pc := 7) X dX6_isRun_7 ?_
  refine t_callSI (pc := 8) X m_in (lw_S q2079 q2080 q109 q2081) hdX6_in ⟨Nat.le_of_ble_eq_true rfl, Nat.le_of_ble_eq_true rfl⟩ rfl rfl (Nat.le_of_ble_eq_true rfl) dX6_isRun_8 ⟨Nat.le_refl _, Nat.le_refl _⟩ (fun r8 σ8 hp8 => ?_)
  obtain ⟨rfl, rfl⟩ := hp8
  refine v_if_eqB (pc := 11) X 32 dX6_isRun_11 (by decide) (fun h11 => ?_) (fun h11 => ?_)
  · refine v_iconst (pc := 32) (v := nI 0) X dX6_isRun_32 rfl ?_
    exact t_zret (pc := 33) X hr rfl dX6_isRun_33 ⟨_, rfl, bI_f (fun z => h11 ⟨(isRun_i h9 z).1, (isRun_i h9 z).2.1⟩), rfl⟩
  · refine v_iload_n (pc := 14) X dX6_isRun_14 rfl 2 rfl ?_
    refine v_iload_n (pc := 15) X dX6_isRun_15 rfl 1 rfl ?_
    refine v_aload_n (pc := 16) X dX6_isRun_16 rfl 0 rfl ?_
    refine t_callI (pc := 17) X (m_vats hn h9) (lw_V q2090 q2092 qs40 q109 q2093) hdX6_vats ⟨Nat.le_of_ble_eq_true rfl, Nat.le_of_ble_eq_true rfl⟩ rfl rfl (Nat.le_of_ble_eq_true rfl) dX6_isRun_17 ⟨Nat.le_refl _, Nat.le_refl _⟩ (fun r17 σ17 hp17 => ?_)
    obtain ⟨rfl, rfl⟩ := hp17
    refine v_iconst (pc := 20) (v := nI 1) X dX6_isRun_20 rfl ?_
    refine v_isub (pc := 21) X dX6_isRun_21 ?_
    refine t_callSI (pc := 22) X m_in (lw_S q2079 q2080 q109 q2081) hdX6_in ⟨Nat.le_of_ble_eq_true rfl, Nat.le_of_ble_eq_true rfl⟩ rfl rfl (Nat.le_of_ble_eq_true rfl) dX6_isRun_22 ⟨Nat.le_refl _, Nat.le_refl _⟩ (fun r22 σ22 hp22 => ?_)
    obtain ⟨rfl, rfl⟩ := hp22
    refine v_if_eqB (pc := 25) X 32 dX6_isRun_25 (by decide) (fun h25 => ?_) (fun h25 => ?_)
    · refine v_iconst (pc := 32) (v := nI 0) X dX6_isRun_32 rfl ?_
      exact t_zret (pc := 33) X hr rfl dX6_isRun_33 ⟨_, rfl, bI_f (fun z => h25 ⟨(isRun_i h9 z).2.2.1, (isRun_i h9 z).2.2.2⟩), rfl⟩
    · refine v_iconst (pc := 28) (v := nI 1) X dX6_isRun_28 rfl ?_
      refine v_goto (pc := 29) X 33 dX6_isRun_29 (by decide) ?_
      exact t_zret (pc := 33) X hr rfl dX6_isRun_33 ⟨_, rfl, bI_t (isRun_o h9 h11.1 h25.1 h25.2), rfl⟩
theorem hdX6_pour : yX6_pour.cls = RX6 ∧ yX6_pour.cls ≠ "java/lang/invoke/MethodHandle" ∧ yX6_pour.cls ≠ "java/lang/invoke/VarHandle" ∧ (parseMethodDescriptor yX6_pour.desc).map (fun d => d.parameters.length) = some 3 := by decide +kernel
set_option maxHeartbeats 4000000 in
theorem m_pour {l_ : Launch} {D : va_G} {dd : Nat → ClassId} {x : Nat} {ad : Nat → Nat} {σ : Tw} {i j k : Nat} (hi : i < 100) (hj : j < 100) (hk : k < 100) : TM l_ D dd x ad yX6_pour cX6_pour 4 (some .int) 0 0 [.ref x, .int (nI i), .int (nI j), .int (nI k)] σ (TI (fun r σ' => pourT (σ 0) i j k = r ∧ σ = σ')) := by
  refine MW.intro (by decide) (Nat.le_of_ble_eq_true rfl) (fun p_ e_ s_ m_ as_ bl_ me_ c_ A_ X hr hnm => ?_)
  have X : VX p_ s_ m_ as_ me_ c_ cX6_pour 4 RX6 D dd A_ := X
  refine v_eq (loc' := [(0, .ref x), (1, .int (nI i)), (2, .int (nI j)), (3, .int (nI k))]) rfl rfl rfl ?_
  refine v_aload_n (pc := 0) X dX6_pour_0 rfl 0 rfl ?_
  refine t_get (pc := 1) X 0 (by decide) q1956 rfl rfl dX6_pour_1 ?_
  refine v_iconst (pc := 4) (v := nI 1) X dX6_pour_4 rfl ?_
  refine v_iload_n (pc := 5) X dX6_pour_5 rfl 1 rfl ?_
  refine v_iaddN (pc := 6) X dX6_pour_6 ?_
  refine v_iald (pc := 7) X 1 ta_0 rfl (by omega) (by decide) dX6_pour_7 ?_
  refine v_aload_n (pc := 8) X dX6_pour_8 rfl 0 rfl ?_
  refine t_get (pc := 9) X 0 (by decide) q1956 rfl rfl dX6_pour_9 ?_
  refine v_iconst (pc := 12) (v := nI 1) X dX6_pour_12 rfl ?_
  refine v_iload_n (pc := 13) X dX6_pour_13 rfl 2 rfl ?_
  refine v_iaddN (pc := 14) X dX6_pour_14 ?_
  refine v_iconst (pc := 15) (v := nI 1) X dX6_pour_15 rfl ?_
  refine v_iaddN (pc := 16) X dX6_pour_16 ?_
  refine v_iald (pc := 17) X 1 ta_0 rfl (by omega) (by decide) dX6_pour_17 ?_
  refine v_imul (pc := 18) X dX6_pour_18 ?_
  refine v_aload_n (pc := 19) X dX6_pour_19 rfl 0 rfl ?_
  refine t_get (pc := 20) X 0 (by decide) q1956 rfl rfl dX6_pour_20 ?_
  refine v_iconst (pc := 23) (v := nI 1) X dX6_pour_23 rfl ?_
  refine v_iload_n (pc := 24) X dX6_pour_24 rfl 3 rfl ?_
  refine v_iaddN (pc := 25) X dX6_pour_25 ?_
  refine v_iconst (pc := 26) (v := nI 1) X dX6_pour_26 rfl ?_
  refine v_iaddN (pc := 27) X dX6_pour_27 ?_
  refine v_iald (pc := 28) X 1 ta_0 rfl (by omega) (by decide) dX6_pour_28 ?_
  refine v_imul (pc := 29) X dX6_pour_29 ?_
  exact t_iret (pc := 30) X hr dX6_pour_30 ⟨_, rfl, rfl, rfl⟩

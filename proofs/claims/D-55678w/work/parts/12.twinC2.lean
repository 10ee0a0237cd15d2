theorem hdX6_reckons : yX6_reckons.cls = RX6 ∧ yX6_reckons.cls ≠ "java/lang/invoke/MethodHandle" ∧ yX6_reckons.cls ≠ "java/lang/invoke/VarHandle" ∧ (parseMethodDescriptor yX6_reckons.desc).map (fun d => d.parameters.length) = some 0 := by decide +kernel
set_option maxHeartbeats 4000000 in
theorem m_reckons {l_ : Launch} {D : va_G} {dd : Nat → ClassId} {x : Nat} {ad : Nat → Nat} {σ : Tw} {n : Nat} {sd : Nat → Nat} (hn : σ 0 0 = nI n) (h9 : n ≤ 9) (hsd : SdOf (σ 0) sd) (h50 : ∀ i, sd i ≤ 50) : TM l_ D dd x ad yX6_reckons cX6_reckons 3 none 2 53 [.ref x] σ (TV (fun σ' => Rk σ n sd σ')) := by
  refine MW.intro (by decide) (Nat.le_of_ble_eq_true rfl) (fun p_ e_ s_ m_ as_ bl_ me_ c_ A_ X hr hnm => ?_)
  have X : VX p_ s_ m_ as_ me_ c_ cX6_reckons 3 RX6 D dd A_ := X
  refine v_eq (loc' := [(0, .ref x)]) rfl rfl rfl ?_
  refine v_iconst (pc := 0) (v := nI 1) X dX6_reckons_0 rfl ?_
  refine v_istore_n (pc := 1) (loc' := [(1, .int (nI 1)), (0, .ref x)]) X dX6_reckons_1 rfl (by decide) rfl ?_
  refine v_sub [1, 0] rfl ?_
  refine v_loop2 (S := Nat) (T := Tw) (fun len τ => tw x ad dd τ) (fun len τ => [(0, .ref x), (1, .int (nI len))]) (fun len τ => 1 ≤ len ∧ len ≤ n - 1 + 1 ∧ Ch sc5 [] σ τ ∧ ∀ f l : Nat, f ≤ l → l < n - 1 → l - f + 1 < len → At5 τ (8 * f + l) (Dv sd f l)) (fun len τ => n + 1 - len) (fun len τ hI2 ih2 => ?_) 1 σ ⟨by omega, by omega, Ch.rf _ _ _, fun f l _ _ h => by omega⟩
  obtain ⟨hl1, hl2, hC, hT⟩ := hI2
  refine v_iload_n (pc := 2) X dX6_reckons_2 rfl 1 rfl ?_
  refine v_aload_n (pc := 3) X dX6_reckons_3 rfl 0 rfl ?_
  refine t_callI (pc := 4) X (m_vats (by rw [hC.1 0 (by decide) (by decide)]; exact hn) h9) (lw_V q2090 q2092 qs40 q109 q2093) hdX6_vats ⟨Nat.le_of_ble_eq_true rfl, Nat.le_of_ble_eq_true rfl⟩ rfl rfl (Nat.le_of_ble_eq_true rfl) dX6_reckons_4 ⟨Nat.le_refl _, Nat.le_refl _⟩ (fun r4 σ4 hp4 => ?_)
  obtain ⟨rfl, rfl⟩ := hp4
  refine v_ic_gtN (pc := 7) X (by omega) (by omega) 44 dX6_reckons_7 (by decide) (fun h7 => ?_) (fun h7 => ?_)
  · exact t_vret (pc := 44) X hr dX6_reckons_44 ⟨rfl, hC, fun f l h1 h2 => hT f l h1 h2 (by omega)⟩
  · refine v_iconst (pc := 10) (v := nI 0) X dX6_reckons_10 rfl ?_
    refine v_istore_n (pc := 11) (loc' := [(2, .int (nI 0)), (0, .ref x), (1, .int (nI len))]) X dX6_reckons_11 rfl (by decide) rfl ?_
    refine v_sub [1, 2, 0] rfl ?_
    refine v_loop2 (S := Nat) (T := Tw) (fun first ρ => tw x ad dd ρ) (fun first ρ => [(0, .ref x), (1, .int (nI len)), (2, .int (nI first))]) (fun first ρ => first + len ≤ n - 1 + 1 ∧ Ch sc5 [] σ ρ ∧ ∀ f l : Nat, f ≤ l → l < n - 1 → (l - f + 1 < len ∨ (l - f + 1 = len ∧ f < first)) → At5 ρ (8 * f + l) (Dv sd f l)) (fun first ρ => n + 1 - first) (fun first ρ hI12 ih12 => ?_) 0 τ ⟨by omega, hC, fun f l h1 h2 h3 => hT f l h1 h2 (by omega)⟩
    obtain ⟨hf1, hC2, hT2⟩ := hI12
    refine v_iload_n (pc := 12) X dX6_reckons_12 rfl 2 rfl ?_
    refine v_iload_n (pc := 13) X dX6_reckons_13 rfl 1 rfl ?_
    refine v_iaddN (pc := 14) X dX6_reckons_14 ?_
    refine v_aload_n (pc := 15) X dX6_reckons_15 rfl 0 rfl ?_
    refine t_callI (pc := 16) X (m_vats (by rw [hC2.1 0 (by decide) (by decide)]; exact hn) h9) (lw_V q2090 q2092 qs40 q109 q2093) hdX6_vats ⟨Nat.le_of_ble_eq_true rfl, Nat.le_of_ble_eq_true rfl⟩ rfl rfl (Nat.le_of_ble_eq_true rfl) dX6_reckons_16 ⟨Nat.le_refl _, Nat.le_refl _⟩ (fun r16 σ16 hp16 => ?_)
    obtain ⟨rfl, rfl⟩ := hp16
    refine v_ic_gtN (pc := 19) X (by omega) (by omega) 38 dX6_reckons_19 (by decide) (fun h19 => ?_) (fun h19 => ?_)
    · have hT2 : ∀ f l : Nat, f ≤ l → l < n - 1 → l - f + 1 < len + 1 → At5 ρ (8 * f + l) (Dv sd f l) := fun f l h1 h2 h3 => hT2 f l h1 h2 (by omega)
      refine v_iinc (pc := 38) (v := (nI (len + 1))) (loc' := [(1, .int (nI (len + 1))), (0, .ref x), (2, .int (nI first))]) X dX6_reckons_38 1 rfl (nI_add _ 1) (by decide) rfl ?_
      refine v_goto (pc := 41) X 2 dX6_reckons_41 (by decide) ?_
      refine v_sub [1, 0] rfl ?_
      exact ih2 (len + 1) _ ⟨by omega, by omega, hC2, fun f l h1 h2 h3 => hT2 f l h1 h2 (by omega)⟩ (by omega)
    · refine v_aload_n (pc := 22) X dX6_reckons_22 rfl 0 rfl ?_
      refine v_iload_n (pc := 23) X dX6_reckons_23 rfl 2 rfl ?_
      refine v_iload_n (pc := 24) X dX6_reckons_24 rfl 2 rfl ?_
      refine v_iload_n (pc := 25) X dX6_reckons_25 rfl 1 rfl ?_
      refine v_iaddN (pc := 26) X dX6_reckons_26 ?_
      refine v_iconst (pc := 27) (v := nI 1) X dX6_reckons_27 rfl ?_
      refine v_isubN (pc := 28) X (by omega) dX6_reckons_28 ?_
      refine t_callV (pc := 29) X (m_looksAt (by rw [hC2.1 0 (by decide) (by decide)]; exact hsd) (pr50 h50) (by omega) (by omega) (fun f2 l2 a b c d => hT2 f2 l2 b (by omega) (by omega))) (lw_V q2167 q2169 qs52 q109 q2170) hdX6_looksAt ⟨Nat.le_of_ble_eq_true rfl, Nat.le_of_ble_eq_true rfl⟩ rfl rfl (Nat.le_of_ble_eq_true rfl) dX6_reckons_29 ⟨Nat.le_refl _, Nat.le_refl _⟩ (fun σ29 hp29 => ?_)
      subst hp29
      refine v_iinc (pc := 32) (v := (nI (first + 1))) (loc' := [(2, .int (nI (first + 1))), (0, .ref x), (1, .int (nI len))]) X dX6_reckons_32 2 rfl (nI_add _ 1) (by decide) rfl ?_
      refine v_goto (pc := 35) X 12 dX6_reckons_35 (by decide) ?_
      refine v_sub [1, 2, 0] rfl ?_
      exact ih12 (first + 1) _ ⟨by omega, set5_ch _ _ hC2, fun f l h1 h2 h3 => (by
        by_cases e : f = first ∧ l = first + len - 1
        · obtain ⟨rfl, rfl⟩ := e; exact at5_s _ _ _
        · exact at5_n (by omega) (hT2 f l h1 h2 (by omega)))⟩ (by omega)
theorem hdX6_leastOf : yX6_leastOf.cls = RX6 ∧ yX6_leastOf.cls ≠ "java/lang/invoke/MethodHandle" ∧ yX6_leastOf.cls ≠ "java/lang/invoke/VarHandle" ∧ (parseMethodDescriptor yX6_leastOf.desc).map (fun d => d.parameters.length) = some 2 := by decide +kernel
set_option maxHeartbeats 4000000 in
theorem m_leastOf {l_ : Launch} {D : va_G} {dd : Nat → ClassId} {x : Nat} {ad : Nat → Nat} {σ : Tw} {n : Nat} {sd : Nat → Nat} {f l : Nat} (hn : σ 0 0 = nI n) (h9 : n ≤ 9) (hsd : SdOf (σ 0) sd) (h50 : ∀ i, sd i ≤ 50) (hfl : f ≤ l) (hl : l < n - 1) : TM l_ D dd x ad yX6_leastOf cX6_leastOf 3 (some .int) 3 75 [.ref x, .int (nI f), .int (nI l)] σ (TI (fun r σ' => r = nI (Dv sd f l).1 ∧ Rk σ n sd σ')) := by
  refine MW.intro (by decide) (Nat.le_of_ble_eq_true rfl) (fun p_ e_ s_ m_ as_ bl_ me_ c_ A_ X hr hnm => ?_)
  have X : VX p_ s_ m_ as_ me_ c_ cX6_leastOf 3 RX6 D dd A_ := X
  refine v_eq (loc' := [(0, .ref x), (1, .int (nI f)), (2, .int (nI l))]) rfl rfl rfl ?_
  refine v_aload_n (pc := 0) X dX6_leastOf_0 rfl 0 rfl ?_
  refine t_callV (pc := 1) X (m_reckons hn h9 hsd h50) (lw_V q2163 q2165 qs51 q109 q2166) hdX6_reckons ⟨Nat.le_of_ble_eq_true rfl, Nat.le_of_ble_eq_true rfl⟩ rfl rfl (Nat.le_of_ble_eq_true rfl) dX6_leastOf_1 ⟨Nat.le_refl _, Nat.le_refl _⟩ (fun σ1 hp1 => ?_)
  refine v_aload_n (pc := 4) X dX6_leastOf_4 rfl 0 rfl ?_
  refine t_get (pc := 5) X 15 (by decide) q1971 rfl rfl dX6_leastOf_5 ?_
  refine v_bipush (pc := 8) (v := nI 8) X dX6_leastOf_8 rfl ?_
  refine v_iload_n (pc := 10) X dX6_leastOf_10 rfl 1 rfl ?_
  refine v_imulN (pc := 11) X dX6_leastOf_11 ?_
  refine v_iload_n (pc := 12) X dX6_leastOf_12 rfl 2 rfl ?_
  refine v_iaddN (pc := 13) X dX6_leastOf_13 ?_
  refine v_iald (pc := 14) X 7 ta_15 rfl (by omega) (by decide) dX6_leastOf_14 ?_
  refine v_top (y := (nI ((Dv sd f l).1))) (hp1.2 f l hfl hl).1 ?_
  exact t_iret (pc := 15) X hr dX6_leastOf_15 ⟨_, rfl, rfl, hp1⟩
theorem hdX6_allLeast : yX6_allLeast.cls = RX6 ∧ yX6_allLeast.cls ≠ "java/lang/invoke/MethodHandle" ∧ yX6_allLeast.cls ≠ "java/lang/invoke/VarHandle" ∧ (parseMethodDescriptor yX6_allLeast.desc).map (fun d => d.parameters.length) = some 0 := by decide +kernel
set_option maxHeartbeats 4000000 in
theorem m_allLeast {l_ : Launch} {D : va_G} {dd : Nat → ClassId} {x : Nat} {ad : Nat → Nat} {σ : Tw} {n : Nat} {sd : Nat → Nat} (hn : σ 0 0 = nI n) (h9 : n ≤ 9) (hsd : SdOf (σ 0) sd) (h50 : ∀ i, sd i ≤ 50) : TM l_ D dd x ad yX6_allLeast cX6_allLeast 1 (some .int) 4 97 [.ref x] σ (TI (fun r σ' => r = nI (allL n sd) ∧ Ch sc5 [] σ σ')) := by
  refine MW.intro (by decide) (Nat.le_of_ble_eq_true rfl) (fun p_ e_ s_ m_ as_ bl_ me_ c_ A_ X hr hnm => ?_)
  have X : VX p_ s_ m_ as_ me_ c_ cX6_allLeast 1 RX6 D dd A_ := X
  refine v_eq (loc' := [(0, .ref x)]) rfl rfl rfl ?_
  refine v_aload_n (pc := 0) X dX6_allLeast_0 rfl 0 rfl ?_
  refine t_callI (pc := 1) X (m_vats hn h9) (lw_V q2090 q2092 qs40 q109 q2093) hdX6_vats ⟨Nat.le_of_ble_eq_true rfl, Nat.le_of_ble_eq_true rfl⟩ rfl rfl (Nat.le_of_ble_eq_true rfl) dX6_allLeast_1 ⟨Nat.le_refl _, Nat.le_refl _⟩ (fun r1 σ1 hp1 => ?_)
  obtain ⟨rfl, rfl⟩ := hp1
  refine v_if_neN (pc := 4) X (by omega) 11 dX6_allLeast_4 (by decide) (fun h4 => ?_) (fun h4 => ?_)
  · refine v_aload_n (pc := 11) X dX6_allLeast_11 rfl 0 rfl ?_
    refine v_iconst (pc := 12) (v := nI 0) X dX6_allLeast_12 rfl ?_
    refine v_aload_n (pc := 13) X dX6_allLeast_13 rfl 0 rfl ?_
    refine t_callI (pc := 14) X (m_vats hn h9) (lw_V q2090 q2092 qs40 q109 q2093) hdX6_vats ⟨Nat.le_of_ble_eq_true rfl, Nat.le_of_ble_eq_true rfl⟩ rfl rfl (Nat.le_of_ble_eq_true rfl) dX6_allLeast_14 ⟨Nat.le_refl _, Nat.le_refl _⟩ (fun r14 σ14 hp14 => ?_)
    obtain ⟨rfl, rfl⟩ := hp14
    refine v_iconst (pc := 17) (v := nI 1) X dX6_allLeast_17 rfl ?_
    refine v_isubN (pc := 18) X (by omega) dX6_allLeast_18 ?_
    refine t_callI (pc := 19) X (m_leastOf hn h9 hsd h50 (by omega) (by omega)) (lw_V q2159 q2161 qs50 q109 q2162) hdX6_leastOf ⟨Nat.le_of_ble_eq_true rfl, Nat.le_of_ble_eq_true rfl⟩ rfl rfl (Nat.le_of_ble_eq_true rfl) dX6_allLeast_19 ⟨Nat.le_refl _, Nat.le_refl _⟩ (fun r19 σ19 hp19 => ?_)
    obtain ⟨rfl, hp19⟩ := hp19
    exact t_iret (pc := 22) X hr dX6_allLeast_22 ⟨_, rfl, by unfold allL; rw [if_neg h4], hp19.1⟩
  · refine v_iconst (pc := 7) (v := nI 0) X dX6_allLeast_7 rfl ?_
    refine v_goto (pc := 8) X 22 dX6_allLeast_8 (by decide) ?_
    exact t_iret (pc := 22) X hr dX6_allLeast_22 ⟨_, rfl, by unfold allL; rw [if_pos h4], Ch.rf _ _ _⟩
theorem hdX6_cost : yX6_cost.cls = RX6 ∧ yX6_cost.cls ≠ "java/lang/invoke/MethodHandle" ∧ yX6_cost.cls ≠ "java/lang/invoke/VarHandle" ∧ (parseMethodDescriptor yX6_cost.desc).map (fun d => d.parameters.length) = some 3 := by decide +kernel
set_option maxHeartbeats 4000000 in
theorem m_cost {l_ : Launch} {D : va_G} {dd : Nat → ClassId} {x : Nat} {ad : Nat → Nat} {σ : Tw} {n : Nat} {sd : Nat → Nat} {a b c : Int32} (hn : σ 0 0 = nI n) (h9 : n ≤ 9) (hsd : SdOf (σ 0) sd) (h50 : ∀ i, sd i ≤ 50) : TM l_ D dd x ad yX6_cost cX6_cost 4 (some .int) 4 97 [.ref x, .int a, .int b, .int c] σ (TI (fun r σ' => Qy σ (qCost n sd a b) r σ')) := by
  refine MW.intro (by decide) (Nat.le_of_ble_eq_true rfl) (fun p_ e_ s_ m_ as_ bl_ me_ c_ A_ X hr hnm => ?_)
  have X : VX p_ s_ m_ as_ me_ c_ cX6_cost 4 RX6 D dd A_ := X
  refine v_eq (loc' := [(0, .ref x), (1, .int a), (2, .int b), (3, .int c)]) rfl rfl rfl ?_
  refine v_aload_n (pc := 0) X dX6_cost_0 rfl 0 rfl ?_
  refine v_iload_n (pc := 1) X dX6_cost_1 rfl 1 rfl ?_
  refine v_iload_n (pc := 2) X dX6_cost_2 rfl 2 rfl ?_
  refine t_callI (pc := 3) X (m_isRun hn h9) (lw_V q2155 q2157 qs49 q109 q2158) hdX6_isRun ⟨Nat.le_of_ble_eq_true rfl, Nat.le_of_ble_eq_true rfl⟩ rfl rfl (Nat.le_of_ble_eq_true rfl) dX6_cost_3 ⟨Nat.le_refl _, Nat.le_refl _⟩ (fun r3 σ3 hp3 => ?_)
  obtain ⟨rfl, rfl⟩ := hp3
  refine v_if_eqB (pc := 6) X 22 dX6_cost_6 (by decide) (fun h6 => ?_) (fun h6 => ?_)
  · refine v_aload_n (pc := 22) X dX6_cost_22 rfl 0 rfl ?_
    refine v_iconst (pc := 23) (v := nI 1) X dX6_cost_23 rfl ?_
    refine t_callI (pc := 24) X m_fails (lw_V q2082 q2084 qs38 q109 q2085) hdX6_fails ⟨Nat.le_of_ble_eq_true rfl, Nat.le_of_ble_eq_true rfl⟩ rfl rfl (Nat.le_of_ble_eq_true rfl) dX6_cost_24 ⟨Nat.le_refl _, Nat.le_refl _⟩ (fun r24 σ24 hp24 => ?_)
    obtain ⟨rfl, rfl⟩ := hp24
    exact t_iret (pc := 27) X hr dX6_cost_27 ⟨_, rfl, Qy.fail (by unfold qCost; rw [if_neg h6]) (by decide) (Ch.rf _ _ _)⟩
  · obtain ⟨f, l, hfl, hl, rfl, rfl⟩ := isRun_of h9 h6
    have hcf : (nI f).toNatClampNeg = f := nI_clamp (by omega)
    have hcl : (nI l).toNatClampNeg = l := nI_clamp (by omega)
    refine v_aload_n (pc := 9) X dX6_cost_9 rfl 0 rfl ?_
    refine v_aload_n (pc := 10) X dX6_cost_10 rfl 0 rfl ?_
    refine v_iload_n (pc := 11) X dX6_cost_11 rfl 1 rfl ?_
    refine v_iload_n (pc := 12) X dX6_cost_12 rfl 2 rfl ?_
    refine t_callI (pc := 13) X (m_leastOf hn h9 hsd h50 hfl hl) (lw_V q2159 q2161 qs50 q109 q2162) hdX6_leastOf ⟨Nat.le_of_ble_eq_true rfl, Nat.le_of_ble_eq_true rfl⟩ rfl rfl (Nat.le_of_ble_eq_true rfl) dX6_cost_13 ⟨Nat.le_refl _, Nat.le_refl _⟩ (fun r13 σ13 hp13 => ?_)
    obtain ⟨rfl, hp13⟩ := hp13
    refine t_callI (pc := 16) X m_done (lw_V q2094 q2096 qs41 q109 q2097) hdX6_done ⟨Nat.le_of_ble_eq_true rfl, Nat.le_of_ble_eq_true rfl⟩ rfl rfl (Nat.le_of_ble_eq_true rfl) dX6_cost_16 ⟨Nat.le_refl _, Nat.le_refl _⟩ (fun r16 σ16 hp16 => ?_)
    obtain ⟨rfl, rfl⟩ := hp16
    refine v_goto (pc := 19) X 27 dX6_cost_19 (by decide) ?_
    exact t_iret (pc := 27) X hr dX6_cost_27 ⟨_, rfl, Qy.ok (by unfold qCost; rw [if_pos h6, hcf, hcl]) rfl (sc5Q hp13.1)⟩
theorem hdX6_worst : yX6_worst.cls = RX6 ∧ yX6_worst.cls ≠ "java/lang/invoke/MethodHandle" ∧ yX6_worst.cls ≠ "java/lang/invoke/VarHandle" ∧ (parseMethodDescriptor yX6_worst.desc).map (fun d => d.parameters.length) = some 2 := by decide +kernel
set_option maxHeartbeats 4000000 in
theorem m_worst {l_ : Launch} {D : va_G} {dd : Nat → ClassId} {x : Nat} {ad : Nat → Nat} {σ : Tw} {n : Nat} {sd : Nat → Nat} {a b : Int32} (hn : σ 0 0 = nI n) (h9 : n ≤ 9) (hsd : SdOf (σ 0) sd) (h50 : ∀ i, sd i ≤ 50) : TM l_ D dd x ad yX6_worst cX6_worst 3 (some .int) 3 75 [.ref x, .int a, .int b] σ (TI (fun r σ' => Qy σ (qWorst n sd a b) r σ')) := by
  refine MW.intro (by decide) (Nat.le_of_ble_eq_true rfl) (fun p_ e_ s_ m_ as_ bl_ me_ c_ A_ X hr hnm => ?_)
  have X : VX p_ s_ m_ as_ me_ c_ cX6_worst 3 RX6 D dd A_ := X
  refine v_eq (loc' := [(0, .ref x), (1, .int a), (2, .int b)]) rfl rfl rfl ?_
  refine v_aload_n (pc := 0) X dX6_worst_0 rfl 0 rfl ?_
  refine v_iload_n (pc := 1) X dX6_worst_1 rfl 1 rfl ?_
  refine v_iload_n (pc := 2) X dX6_worst_2 rfl 2 rfl ?_
  refine t_callI (pc := 3) X (m_isRun hn h9) (lw_V q2155 q2157 qs49 q109 q2158) hdX6_isRun ⟨Nat.le_of_ble_eq_true rfl, Nat.le_of_ble_eq_true rfl⟩ rfl rfl (Nat.le_of_ble_eq_true rfl) dX6_worst_3 ⟨Nat.le_refl _, Nat.le_refl _⟩ (fun r3 σ3 hp3 => ?_)
  obtain ⟨rfl, rfl⟩ := hp3
  refine v_if_neB (pc := 6) X 15 dX6_worst_6 (by decide) (fun h6 => ?_) (fun h6 => ?_)
  · obtain ⟨f, l, hfl, hl, rfl, rfl⟩ := isRun_of h9 h6
    have hcf : (nI f).toNatClampNeg = f := nI_clamp (by omega)
    have hcl : (nI l).toNatClampNeg = l := nI_clamp (by omega)
    refine v_aload_n (pc := 15) X dX6_worst_15 rfl 0 rfl ?_
    refine t_callV (pc := 16) X (m_reckons hn h9 hsd h50) (lw_V q2163 q2165 qs51 q109 q2166) hdX6_reckons ⟨Nat.le_of_ble_eq_true rfl, Nat.le_of_ble_eq_true rfl⟩ rfl rfl (Nat.le_of_ble_eq_true rfl) dX6_worst_16 ⟨Nat.le_refl _, Nat.le_refl _⟩ (fun σ16 hp16 => ?_)
    refine v_aload_n (pc := 19) X dX6_worst_19 rfl 0 rfl ?_
    refine v_aload_n (pc := 20) X dX6_worst_20 rfl 0 rfl ?_
    refine t_get (pc := 21) X 16 (by decide) q1972 rfl rfl dX6_worst_21 ?_
    refine v_bipush (pc := 24) (v := nI 8) X dX6_worst_24 rfl ?_
    refine v_iload_n (pc := 26) X dX6_worst_26 rfl 1 rfl ?_
    refine v_imulN (pc := 27) X dX6_worst_27 ?_
    refine v_iload_n (pc := 28) X dX6_worst_28 rfl 2 rfl ?_
    refine v_iaddN (pc := 29) X dX6_worst_29 ?_
    refine v_iald (pc := 30) X 8 ta_16 rfl (by omega) (by decide) dX6_worst_30 ?_
    refine v_top (y := (nI ((Dv sd f l).2.1))) (hp16.2 f l hfl hl).2.1 ?_
    refine t_callI (pc := 31) X m_done (lw_V q2094 q2096 qs41 q109 q2097) hdX6_done ⟨Nat.le_of_ble_eq_true rfl, Nat.le_of_ble_eq_true rfl⟩ rfl rfl (Nat.le_of_ble_eq_true rfl) dX6_worst_31 ⟨Nat.le_refl _, Nat.le_refl _⟩ (fun r31 σ31 hp31 => ?_)
    obtain ⟨rfl, rfl⟩ := hp31
    exact t_iret (pc := 34) X hr dX6_worst_34 ⟨_, rfl, Qy.ok (by unfold qWorst; rw [if_pos h6, hcf, hcl]) rfl (sc5Q hp16.1)⟩
  · refine v_aload_n (pc := 9) X dX6_worst_9 rfl 0 rfl ?_
    refine v_iconst (pc := 10) (v := nI 1) X dX6_worst_10 rfl ?_
    refine t_callI (pc := 11) X m_fails (lw_V q2082 q2084 qs38 q109 q2085) hdX6_fails ⟨Nat.le_of_ble_eq_true rfl, Nat.le_of_ble_eq_true rfl⟩ rfl rfl (Nat.le_of_ble_eq_true rfl) dX6_worst_11 ⟨Nat.le_refl _, Nat.le_refl _⟩ (fun r11 σ11 hp11 => ?_)
    obtain ⟨rfl, rfl⟩ := hp11
    exact t_iret (pc := 14) X hr dX6_worst_14 ⟨_, rfl, Qy.fail (by unfold qWorst; rw [if_neg h6]) (by decide) (Ch.rf _ _ _)⟩
theorem hdX6_split : yX6_split.cls = RX6 ∧ yX6_split.cls ≠ "java/lang/invoke/MethodHandle" ∧ yX6_split.cls ≠ "java/lang/invoke/VarHandle" ∧ (parseMethodDescriptor yX6_split.desc).map (fun d => d.parameters.length) = some 2 := by decide +kernel
set_option maxHeartbeats 4000000 in
theorem m_split {l_ : Launch} {D : va_G} {dd : Nat → ClassId} {x : Nat} {ad : Nat → Nat} {σ : Tw} {n : Nat} {sd : Nat → Nat} {a b : Int32} (hn : σ 0 0 = nI n) (h9 : n ≤ 9) (hsd : SdOf (σ 0) sd) (h50 : ∀ i, sd i ≤ 50) : TM l_ D dd x ad yX6_split cX6_split 3 (some .int) 3 75 [.ref x, .int a, .int b] σ (TI (fun r σ' => Qy σ (qSplit n sd a b) r σ')) := by
  refine MW.intro (by decide) (Nat.le_of_ble_eq_true rfl) (fun p_ e_ s_ m_ as_ bl_ me_ c_ A_ X hr hnm => ?_)
  have X : VX p_ s_ m_ as_ me_ c_ cX6_split 3 RX6 D dd A_ := X
  refine v_eq (loc' := [(0, .ref x), (1, .int a), (2, .int b)]) rfl rfl rfl ?_
  refine v_aload_n (pc := 0) X dX6_split_0 rfl 0 rfl ?_
  refine v_iload_n (pc := 1) X dX6_split_1 rfl 1 rfl ?_
  refine v_iload_n (pc := 2) X dX6_split_2 rfl 2 rfl ?_
  refine t_callI (pc := 3) X (m_isRun hn h9) (lw_V q2155 q2157 qs49 q109 q2158) hdX6_isRun ⟨Nat.le_of_ble_eq_true rfl, Nat.le_of_ble_eq_true rfl⟩ rfl rfl (Nat.le_of_ble_eq_true rfl) dX6_split_3 ⟨Nat.le_refl _, Nat.le_refl _⟩ (fun r3 σ3 hp3 => ?_)
  obtain ⟨rfl, rfl⟩ := hp3
  refine v_if_neB (pc := 6) X 15 dX6_split_6 (by decide) (fun h6 => ?_) (fun h6 => ?_)
  · refine v_iload_n (pc := 15) X dX6_split_15 rfl 1 rfl ?_
    refine v_iload_n (pc := 16) X dX6_split_16 rfl 2 rfl ?_
    refine v_ic_ne (pc := 17) X 26 dX6_split_17 (by decide) (fun h17 => ?_) (fun h17 => ?_)
    · obtain ⟨f, l, hfl, hl, rfl, rfl⟩ := isRun_of h9 h6
      have hcf : (nI f).toNatClampNeg = f := nI_clamp (by omega)
      have hcl : (nI l).toNatClampNeg = l := nI_clamp (by omega)
      refine v_aload_n (pc := 26) X dX6_split_26 rfl 0 rfl ?_
      refine t_callV (pc := 27) X (m_reckons hn h9 hsd h50) (lw_V q2163 q2165 qs51 q109 q2166) hdX6_reckons ⟨Nat.le_of_ble_eq_true rfl, Nat.le_of_ble_eq_true rfl⟩ rfl rfl (Nat.le_of_ble_eq_true rfl) dX6_split_27 ⟨Nat.le_refl _, Nat.le_refl _⟩ (fun σ27 hp27 => ?_)
      refine v_aload_n (pc := 30) X dX6_split_30 rfl 0 rfl ?_
      refine v_aload_n (pc := 31) X dX6_split_31 rfl 0 rfl ?_
      refine t_get (pc := 32) X 17 (by decide) q1973 rfl rfl dX6_split_32 ?_
      refine v_bipush (pc := 35) (v := nI 8) X dX6_split_35 rfl ?_
      refine v_iload_n (pc := 37) X dX6_split_37 rfl 1 rfl ?_
      refine v_imulN (pc := 38) X dX6_split_38 ?_
      refine v_iload_n (pc := 39) X dX6_split_39 rfl 2 rfl ?_
      refine v_iaddN (pc := 40) X dX6_split_40 ?_
      refine v_iald (pc := 41) X 9 ta_17 rfl (by omega) (by decide) dX6_split_41 ?_
      refine v_top (y := (nI ((Dv sd f l).2.2.1))) (hp27.2 f l hfl hl).2.2.1 ?_
      refine t_callI (pc := 42) X m_done (lw_V q2094 q2096 qs41 q109 q2097) hdX6_done ⟨Nat.le_of_ble_eq_true rfl, Nat.le_of_ble_eq_true rfl⟩ rfl rfl (Nat.le_of_ble_eq_true rfl) dX6_split_42 ⟨Nat.le_refl _, Nat.le_refl _⟩ (fun r42 σ42 hp42 => ?_)
      obtain ⟨rfl, rfl⟩ := hp42
      exact t_iret (pc := 45) X hr dX6_split_45 ⟨_, rfl, Qy.ok (by unfold qSplit; rw [if_pos h6, if_neg h17, hcf, hcl]) rfl (sc5Q hp27.1)⟩
    · refine v_aload_n (pc := 20) X dX6_split_20 rfl 0 rfl ?_
      refine v_iconst (pc := 21) (v := nI 2) X dX6_split_21 rfl ?_
      refine t_callI (pc := 22) X m_fails (lw_V q2082 q2084 qs38 q109 q2085) hdX6_fails ⟨Nat.le_of_ble_eq_true rfl, Nat.le_of_ble_eq_true rfl⟩ rfl rfl (Nat.le_of_ble_eq_true rfl) dX6_split_22 ⟨Nat.le_refl _, Nat.le_refl _⟩ (fun r22 σ22 hp22 => ?_)
      obtain ⟨rfl, rfl⟩ := hp22
      exact t_iret (pc := 25) X hr dX6_split_25 ⟨_, rfl, Qy.fail (by unfold qSplit; rw [if_pos h6, if_pos h17]) (by decide) (Ch.rf _ _ _)⟩
  · refine v_aload_n (pc := 9) X dX6_split_9 rfl 0 rfl ?_
    refine v_iconst (pc := 10) (v := nI 1) X dX6_split_10 rfl ?_
    refine t_callI (pc := 11) X m_fails (lw_V q2082 q2084 qs38 q109 q2085) hdX6_fails ⟨Nat.le_of_ble_eq_true rfl, Nat.le_of_ble_eq_true rfl⟩ rfl rfl (Nat.le_of_ble_eq_true rfl) dX6_split_11 ⟨Nat.le_refl _, Nat.le_refl _⟩ (fun r11 σ11 hp11 => ?_)
    obtain ⟨rfl, rfl⟩ := hp11
    exact t_iret (pc := 14) X hr dX6_split_14 ⟨_, rfl, Qy.fail (by unfold qSplit; rw [if_neg h6]) (by decide) (Ch.rf _ _ _)⟩
theorem hdX6_orders : yX6_orders.cls = RX6 ∧ yX6_orders.cls ≠ "java/lang/invoke/MethodHandle" ∧ yX6_orders.cls ≠ "java/lang/invoke/VarHandle" ∧ (parseMethodDescriptor yX6_orders.desc).map (fun d => d.parameters.length) = some 3 := by decide +kernel
set_option maxHeartbeats 4000000 in
theorem m_orders {l_ : Launch} {D : va_G} {dd : Nat → ClassId} {x : Nat} {ad : Nat → Nat} {σ : Tw} {n : Nat} {sd : Nat → Nat} {a b c : Int32} (hn : σ 0 0 = nI n) (h9 : n ≤ 9) (hsd : SdOf (σ 0) sd) (h50 : ∀ i, sd i ≤ 50) : TM l_ D dd x ad yX6_orders cX6_orders 4 (some .int) 3 75 [.ref x, .int a, .int b, .int c] σ (TI (fun r σ' => Qy σ (qOrders n sd a b c) r σ')) := by
  refine MW.intro (by decide) (Nat.le_of_ble_eq_true rfl) (fun p_ e_ s_ m_ as_ bl_ me_ c_ A_ X hr hnm => ?_)
  have X : VX p_ s_ m_ as_ me_ c_ cX6_orders 4 RX6 D dd A_ := X
  refine v_eq (loc' := [(0, .ref x), (1, .int a), (2, .int b), (3, .int c)]) rfl rfl rfl ?_
  refine v_aload_n (pc := 0) X dX6_orders_0 rfl 0 rfl ?_
  refine v_iload_n (pc := 1) X dX6_orders_1 rfl 1 rfl ?_
  refine v_iload_n (pc := 2) X dX6_orders_2 rfl 2 rfl ?_
  refine t_callI (pc := 3) X (m_isRun hn h9) (lw_V q2155 q2157 qs49 q109 q2158) hdX6_isRun ⟨Nat.le_of_ble_eq_true rfl, Nat.le_of_ble_eq_true rfl⟩ rfl rfl (Nat.le_of_ble_eq_true rfl) dX6_orders_3 ⟨Nat.le_refl _, Nat.le_refl _⟩ (fun r3 σ3 hp3 => ?_)
  obtain ⟨rfl, rfl⟩ := hp3
  refine v_if_neB (pc := 6) X 15 dX6_orders_6 (by decide) (fun h6 => ?_) (fun h6 => ?_)
  · obtain ⟨f, l, hfl, hl, rfl, rfl⟩ := isRun_of h9 h6
    have hcf : (nI f).toNatClampNeg = f := nI_clamp (by omega)
    have hcl : (nI l).toNatClampNeg = l := nI_clamp (by omega)
    refine v_aload_n (pc := 15) X dX6_orders_15 rfl 0 rfl ?_
    refine t_callV (pc := 16) X (m_reckons hn h9 hsd h50) (lw_V q2163 q2165 qs51 q109 q2166) hdX6_reckons ⟨Nat.le_of_ble_eq_true rfl, Nat.le_of_ble_eq_true rfl⟩ rfl rfl (Nat.le_of_ble_eq_true rfl) dX6_orders_16 ⟨Nat.le_refl _, Nat.le_refl _⟩ (fun σ16 hp16 => ?_)
    refine v_aload_n (pc := 19) X dX6_orders_19 rfl 0 rfl ?_
    refine v_iload_n (pc := 20) X dX6_orders_20 rfl 3 rfl ?_
    refine v_if_eq (pc := 21) X 38 dX6_orders_21 (by decide) (fun h21 => ?_) (fun h21 => ?_)
    · refine v_aload_n (pc := 38) X dX6_orders_38 rfl 0 rfl ?_
      refine t_get (pc := 39) X 18 (by decide) q1974 rfl rfl dX6_orders_39 ?_
      refine v_bipush (pc := 42) (v := nI 8) X dX6_orders_42 rfl ?_
      refine v_iload_n (pc := 44) X dX6_orders_44 rfl 1 rfl ?_
      refine v_imulN (pc := 45) X dX6_orders_45 ?_
      refine v_iload_n (pc := 46) X dX6_orders_46 rfl 2 rfl ?_
      refine v_iaddN (pc := 47) X dX6_orders_47 ?_
      refine v_iald (pc := 48) X 10 ta_18 rfl (by omega) (by decide) dX6_orders_48 ?_
      refine v_top (y := (nI ((Dv sd f l).2.2.2.1))) (hp16.2 f l hfl hl).2.2.2.1 ?_
      refine t_callI (pc := 49) X m_done (lw_V q2094 q2096 qs41 q109 q2097) hdX6_done ⟨Nat.le_of_ble_eq_true rfl, Nat.le_of_ble_eq_true rfl⟩ rfl rfl (Nat.le_of_ble_eq_true rfl) dX6_orders_49 ⟨Nat.le_refl _, Nat.le_refl _⟩ (fun r49 σ49 hp49 => ?_)
      obtain ⟨rfl, rfl⟩ := hp49
      exact t_iret (pc := 52) X hr dX6_orders_52 ⟨_, rfl, Qy.ok (by unfold qOrders; rw [if_pos h6, if_pos h21, hcf, hcl]) rfl (sc5Q hp16.1)⟩
    · refine v_aload_n (pc := 24) X dX6_orders_24 rfl 0 rfl ?_
      refine t_get (pc := 25) X 19 (by decide) q1975 rfl rfl dX6_orders_25 ?_
      refine v_bipush (pc := 28) (v := nI 8) X dX6_orders_28 rfl ?_
      refine v_iload_n (pc := 30) X dX6_orders_30 rfl 1 rfl ?_
      refine v_imulN (pc := 31) X dX6_orders_31 ?_
      refine v_iload_n (pc := 32) X dX6_orders_32 rfl 2 rfl ?_
      refine v_iaddN (pc := 33) X dX6_orders_33 ?_
      refine v_iald (pc := 34) X 11 ta_19 rfl (by omega) (by decide) dX6_orders_34 ?_
      refine v_top (y := (nI ((Dv sd f l).2.2.2.2))) (hp16.2 f l hfl hl).2.2.2.2 ?_
      refine v_goto (pc := 35) X 49 dX6_orders_35 (by decide) ?_
      refine t_callI (pc := 49) X m_done (lw_V q2094 q2096 qs41 q109 q2097) hdX6_done ⟨Nat.le_of_ble_eq_true rfl, Nat.le_of_ble_eq_true rfl⟩ rfl rfl (Nat.le_of_ble_eq_true rfl) dX6_orders_49 ⟨Nat.le_refl _, Nat.le_refl _⟩ (fun r49 σ49 hp49 => ?_)
      obtain ⟨rfl, rfl⟩ := hp49
      exact t_iret (pc := 52) X hr dX6_orders_52 ⟨_, rfl, Qy.ok (by unfold qOrders; rw [if_pos h6, if_neg h21, hcf, hcl]) rfl (sc5Q hp16.1)⟩
  · refine v_aload_n (pc := 9) X dX6_orders_9 rfl 0 rfl ?_
    refine v_iconst (pc := 10) (v := nI 1) X dX6_orders_10 rfl ?_
    refine t_callI (pc := 11) X m_fails (lw_V q2082 q2084 qs38 q109 q2085) hdX6_fails ⟨Nat.le_of_ble_eq_true rfl, Nat.le_of_ble_eq_true rfl⟩ rfl rfl (Nat.le_of_ble_eq_true rfl) dX6_orders_11 ⟨Nat.le_refl _, Nat.le_refl _⟩ (fun r11 σ11 hp11 => ?_)
    obtain ⟨rfl, rfl⟩ := hp11
    exact t_iret (pc := 14) X hr dX6_orders_14 ⟨_, rfl, Qy.fail (by unfold qOrders; rw [if_neg h6]) (by decide) (Ch.rf _ _ _)⟩
theorem hdX6_splitCost : yX6_splitCost.cls = RX6 ∧ yX6_splitCost.cls ≠ "java/lang/invoke/MethodHandle" ∧ yX6_splitCost.cls ≠ "java/lang/invoke/VarHandle" ∧ (parseMethodDescriptor yX6_splitCost.desc).map (fun d => d.parameters.length) = some 3 := by decide +kernel
set_option maxHeartbeats 4000000 in
theorem m_splitCost {l_ : Launch} {D : va_G} {dd : Nat → ClassId} {x : Nat} {ad : Nat → Nat} {σ : Tw} {n : Nat} {sd : Nat → Nat} {a b c : Int32} (hn : σ 0 0 = nI n) (h9 : n ≤ 9) (hsd : SdOf (σ 0) sd) (h50 : ∀ i, sd i ≤ 50) : TM l_ D dd x ad yX6_splitCost cX6_splitCost 4 (some .int) 3 75 [.ref x, .int a, .int b, .int c] σ (TI (fun r σ' => Qy σ (qSplitCost n sd a b c) r σ')) := by
  refine MW.intro (by decide) (Nat.le_of_ble_eq_true rfl) (fun p_ e_ s_ m_ as_ bl_ me_ c_ A_ X hr hnm => ?_)
  have X : VX p_ s_ m_ as_ me_ c_ cX6_splitCost 4 RX6 D dd A_ := X
  refine v_eq (loc' := [(0, .ref x), (1, .int a), (2, .int b), (3, .int c)]) rfl rfl rfl ?_
  refine v_aload_n (pc := 0) X dX6_splitCost_0 rfl 0 rfl ?_
  refine v_iload_n (pc := 1) X dX6_splitCost_1 rfl 1 rfl ?_
  refine v_iload_n (pc := 2) X dX6_splitCost_2 rfl 2 rfl ?_
  refine t_callI (pc := 3) X (m_isRun hn h9) (lw_V q2155 q2157 qs49 q109 q2158) hdX6_isRun ⟨Nat.le_of_ble_eq_true rfl, Nat.le_of_ble_eq_true rfl⟩ rfl rfl (Nat.le_of_ble_eq_true rfl) dX6_splitCost_3 ⟨Nat.le_refl _, Nat.le_refl _⟩ (fun r3 σ3 hp3 => ?_)
  obtain ⟨rfl, rfl⟩ := hp3
  refine v_if_neB (pc := 6) X 15 dX6_splitCost_6 (by decide) (fun h6 => ?_) (fun h6 => ?_)
  · obtain ⟨f, l, hfl, hl, rfl, rfl⟩ := isRun_of h9 h6
    have hcf : (nI f).toNatClampNeg = f := nI_clamp (by omega)
    have hcl : (nI l).toNatClampNeg = l := nI_clamp (by omega)
    refine v_iload_n (pc := 15) X dX6_splitCost_15 rfl 3 rfl ?_
    refine v_iload_n (pc := 16) X dX6_splitCost_16 rfl 1 rfl ?_
    refine v_iload_n (pc := 17) X dX6_splitCost_17 rfl 2 rfl ?_
    refine v_iconst (pc := 18) (v := nI 1) X dX6_splitCost_18 rfl ?_
    refine v_isub (pc := 19) X dX6_splitCost_19 ?_
    refine t_callSI (pc := 20) X m_in (lw_S q2079 q2080 q109 q2081) hdX6_in ⟨Nat.le_of_ble_eq_true rfl, Nat.le_of_ble_eq_true rfl⟩ rfl rfl (Nat.le_of_ble_eq_true rfl) dX6_splitCost_20 ⟨Nat.le_refl _, Nat.le_refl _⟩ (fun r20 σ20 hp20 => ?_)
    obtain ⟨rfl, rfl⟩ := hp20
    refine v_if_neB (pc := 23) X 32 dX6_splitCost_23 (by decide) (fun h23 => ?_) (fun h23 => ?_)
    · obtain ⟨k, hk1, hk2, rfl⟩ := rngs_of (by omega) (by omega) h23
      have hck : (nI k).toNatClampNeg = k := nI_clamp (by omega)
      refine v_aload_n (pc := 32) X dX6_splitCost_32 rfl 0 rfl ?_
      refine t_callV (pc := 33) X (m_reckons hn h9 hsd h50) (lw_V q2163 q2165 qs51 q109 q2166) hdX6_reckons ⟨Nat.le_of_ble_eq_true rfl, Nat.le_of_ble_eq_true rfl⟩ rfl rfl (Nat.le_of_ble_eq_true rfl) dX6_splitCost_33 ⟨Nat.le_refl _, Nat.le_refl _⟩ (fun σ33 hp33 => ?_)
      refine v_aload_n (pc := 36) X dX6_splitCost_36 rfl 0 rfl ?_
      refine v_aload_n (pc := 37) X dX6_splitCost_37 rfl 0 rfl ?_
      refine t_get (pc := 38) X 15 (by decide) q1971 rfl rfl dX6_splitCost_38 ?_
      refine v_bipush (pc := 41) (v := nI 8) X dX6_splitCost_41 rfl ?_
      refine v_iload_n (pc := 43) X dX6_splitCost_43 rfl 1 rfl ?_
      refine v_imulN (pc := 44) X dX6_splitCost_44 ?_
      refine v_iload_n (pc := 45) X dX6_splitCost_45 rfl 3 rfl ?_
      refine v_iaddN (pc := 46) X dX6_splitCost_46 ?_
      refine v_iald (pc := 47) X 7 ta_15 rfl (by omega) (by decide) dX6_splitCost_47 ?_
      refine v_top (y := (nI ((Dv sd f k).1))) (hp33.2 f k (by omega) (by omega)).1 ?_
      refine v_aload_n (pc := 48) X dX6_splitCost_48 rfl 0 rfl ?_
      refine t_get (pc := 49) X 15 (by decide) q1971 rfl rfl dX6_splitCost_49 ?_
      refine v_bipush (pc := 52) (v := nI 8) X dX6_splitCost_52 rfl ?_
      refine v_iload_n (pc := 54) X dX6_splitCost_54 rfl 3 rfl ?_
      refine v_iconst (pc := 55) (v := nI 1) X dX6_splitCost_55 rfl ?_
      refine v_iaddN (pc := 56) X dX6_splitCost_56 ?_
      refine v_imulN (pc := 57) X dX6_splitCost_57 ?_
      refine v_iload_n (pc := 58) X dX6_splitCost_58 rfl 2 rfl ?_
      refine v_iaddN (pc := 59) X dX6_splitCost_59 ?_
      refine v_iald (pc := 60) X 7 ta_15 rfl (by omega) (by decide) dX6_splitCost_60 ?_
      refine v_top (y := (nI ((Dv sd (k + 1) l).1))) (hp33.2 (k + 1) l (by omega) (by omega)).1 ?_
      refine v_iaddN (pc := 61) X dX6_splitCost_61 ?_
      refine v_aload_n (pc := 62) X dX6_splitCost_62 rfl 0 rfl ?_
      refine v_iload_n (pc := 63) X dX6_splitCost_63 rfl 1 rfl ?_
      refine v_iload_n (pc := 64) X dX6_splitCost_64 rfl 3 rfl ?_
      refine v_iload_n (pc := 65) X dX6_splitCost_65 rfl 2 rfl ?_
      refine t_callI (pc := 66) X (m_pour (by omega) (by omega) (by omega)) (lw_V q2171 q2173 qs53 q109 q2174) hdX6_pour ⟨Nat.le_of_ble_eq_true rfl, Nat.le_of_ble_eq_true rfl⟩ rfl rfl (Nat.le_of_ble_eq_true rfl) dX6_splitCost_66 ⟨Nat.le_refl _, Nat.le_refl _⟩ (fun r66 σ66 hp66 => ?_)
      obtain ⟨rfl, rfl⟩ := hp66
      refine v_top (y := (nI (prN sd f k l))) (by rw [hp33.1.1 0 (by decide) (by decide)]; exact pour_nI hsd (by omega) (by omega) (by omega)) ?_
      refine v_iaddN (pc := 69) X dX6_splitCost_69 ?_
      refine t_callI (pc := 70) X m_done (lw_V q2094 q2096 qs41 q109 q2097) hdX6_done ⟨Nat.le_of_ble_eq_true rfl, Nat.le_of_ble_eq_true rfl⟩ rfl rfl (Nat.le_of_ble_eq_true rfl) dX6_splitCost_70 ⟨Nat.le_refl _, Nat.le_refl _⟩ (fun r70 σ70 hp70 => ?_)
      obtain ⟨rfl, rfl⟩ := hp70
      exact t_iret (pc := 73) X hr dX6_splitCost_73 ⟨_, rfl, Qy.ok (by unfold qSplitCost; rw [if_pos h6, if_pos h23, hcf, hcl, hck]) rfl (sc5Q hp33.1)⟩
    · refine v_aload_n (pc := 26) X dX6_splitCost_26 rfl 0 rfl ?_
      refine v_iconst (pc := 27) (v := nI 2) X dX6_splitCost_27 rfl ?_
      refine t_callI (pc := 28) X m_fails (lw_V q2082 q2084 qs38 q109 q2085) hdX6_fails ⟨Nat.le_of_ble_eq_true rfl, Nat.le_of_ble_eq_true rfl⟩ rfl rfl (Nat.le_of_ble_eq_true rfl) dX6_splitCost_28 ⟨Nat.le_refl _, Nat.le_refl _⟩ (fun r28 σ28 hp28 => ?_)
      obtain ⟨rfl, rfl⟩ := hp28
      exact t_iret (pc := 31) X hr dX6_splitCost_31 ⟨_, rfl, Qy.fail (by unfold qSplitCost; rw [if_pos h6, if_neg h23]) (by decide) (Ch.rf _ _ _)⟩
  · refine v_aload_n (pc := 9) X dX6_splitCost_9 rfl 0 rfl ?_
    refine v_iconst (pc := 10) (v := nI 1) X dX6_splitCost_10 rfl ?_
    refine t_callI (pc := 11) X m_fails (lw_V q2082 q2084 qs38 q109 q2085) hdX6_fails ⟨Nat.le_of_ble_eq_true rfl, Nat.le_of_ble_eq_true rfl⟩ rfl rfl (Nat.le_of_ble_eq_true rfl) dX6_splitCost_11 ⟨Nat.le_refl _, Nat.le_refl _⟩ (fun r11 σ11 hp11 => ?_)
    obtain ⟨rfl, rfl⟩ := hp11
    exact t_iret (pc := 14) X hr dX6_splitCost_14 ⟨_, rfl, Qy.fail (by unfold qSplitCost; rw [if_neg h6]) (by decide) (Ch.rf _ _ _)⟩
theorem hdX6_would : yX6_would.cls = RX6 ∧ yX6_would.cls ≠ "java/lang/invoke/MethodHandle" ∧ yX6_would.cls ≠ "java/lang/invoke/VarHandle" ∧ (parseMethodDescriptor yX6_would.desc).map (fun d => d.parameters.length) = some 2 := by decide +kernel
set_option maxHeartbeats 4000000 in
theorem m_would {l_ : Launch} {D : va_G} {dd : Nat → ClassId} {x : Nat} {ad : Nat → Nat} {σ : Tw} {n : Nat} {sd : Nat → Nat} {q v : Int32} (hn : σ 0 0 = nI n) (h9 : n ≤ 9) (hsd : SdOf (σ 0) sd) (h50 : ∀ i, sd i ≤ 50) : TM l_ D dd x ad yX6_would cX6_would 5 (some .int) 5 117 [.ref x, .int q, .int v] σ (TI (fun r σ' => Qy σ (qWould n sd q v) r σ')) := by
  refine MW.intro (by decide) (Nat.le_of_ble_eq_true rfl) (fun p_ e_ s_ m_ as_ bl_ me_ c_ A_ X hr hnm => ?_)
  have X : VX p_ s_ m_ as_ me_ c_ cX6_would 5 RX6 D dd A_ := X
  refine v_eq (loc' := [(0, .ref x), (1, .int q), (2, .int v)]) rfl rfl rfl ?_
  refine v_aload_n (pc := 0) X dX6_would_0 rfl 0 rfl ?_
  refine v_iload_n (pc := 1) X dX6_would_1 rfl 1 rfl ?_
  refine t_callI (pc := 2) X (m_isSide hn) (lw_V q2110 q2112 qs44 q109 q2113) hdX6_isSide ⟨Nat.le_of_ble_eq_true rfl, Nat.le_of_ble_eq_true rfl⟩ rfl rfl (Nat.le_of_ble_eq_true rfl) dX6_would_2 ⟨Nat.le_refl _, Nat.le_refl _⟩ (fun r2 σ2 hp2 => ?_)
  obtain ⟨rfl, rfl⟩ := hp2
  refine v_if_neB (pc := 5) X 14 dX6_would_5 (by decide) (fun h5 => ?_) (fun h5 => ?_)
  · refine v_iload_n (pc := 14) X dX6_would_14 rfl 2 rfl ?_
    refine v_iconst (pc := 15) (v := nI 1) X dX6_would_15 rfl ?_
    refine v_bipush (pc := 16) (v := nI 50) X dX6_would_16 rfl ?_
    refine t_callSI (pc := 18) X m_in (lw_S q2079 q2080 q109 q2081) hdX6_in ⟨Nat.le_of_ble_eq_true rfl, Nat.le_of_ble_eq_true rfl⟩ rfl rfl (Nat.le_of_ble_eq_true rfl) dX6_would_18 ⟨Nat.le_refl _, Nat.le_refl _⟩ (fun r18 σ18 hp18 => ?_)
    obtain ⟨rfl, rfl⟩ := hp18
    refine v_if_neB (pc := 21) X 30 dX6_would_21 (by decide) (fun h21 => ?_) (fun h21 => ?_)
    · obtain ⟨i, hii, rfl⟩ := inN_of (by omega) h5
      have hci : (nI i).toNatClampNeg = i := nI_clamp (by omega)
      obtain ⟨w, hw1, hw2, rfl⟩ := rng_of (by omega) (by omega) h21
      have hcw : (nI w).toNatClampNeg = w := nI_clamp (by omega)
      refine v_aload_n (pc := 30) X dX6_would_30 rfl 0 rfl ?_
      refine t_get (pc := 31) X 0 (by decide) q1956 rfl rfl dX6_would_31 ?_
      refine v_iconst (pc := 34) (v := nI 1) X dX6_would_34 rfl ?_
      refine v_iload_n (pc := 35) X dX6_would_35 rfl 1 rfl ?_
      refine v_iaddN (pc := 36) X dX6_would_36 ?_
      refine v_iald (pc := 37) X 1 ta_0 rfl (by omega) (by decide) dX6_would_37 ?_
      refine v_nm (fun z1 ez1 => ?_)
      refine v_istore_n (pc := 38) (loc' := [(3, .int z1), (0, .ref x), (1, .int (nI i)), (2, .int (nI w))]) X dX6_would_38 rfl (by decide) rfl ?_
      refine v_aload_n (pc := 39) X dX6_would_39 rfl 1 rfl ?_
      refine t_get (pc := 40) X 0 (by decide) q1956 rfl rfl dX6_would_40 ?_
      refine v_iconst (pc := 43) (v := nI 1) X dX6_would_43 rfl ?_
      refine v_iload_n (pc := 44) X dX6_would_44 rfl 2 rfl ?_
      refine v_iaddN (pc := 45) X dX6_would_45 ?_
      refine v_iload_n (pc := 46) X dX6_would_46 rfl 3 rfl ?_
      refine v_iast (pc := 47) X 1 ta_0 rfl (by omega) (by decide) dX6_would_47 (tb_0 _) ?_
      refine v_aload_n (pc := 48) X dX6_would_48 rfl 1 rfl ?_
      refine t_callI (pc := 49) X (m_allLeast (n := n) (sd := updS sd i w) (by rw [rd_n (by omega)]; exact hn) h9 (by rw [rw2_s]; exact updS_of hsd i w) (updS_50 h50 hw2)) (lw_V q2195 q2197 qs54 q109 q2198) hdX6_allLeast ⟨Nat.le_of_ble_eq_true rfl, Nat.le_of_ble_eq_true rfl⟩ rfl rfl (Nat.le_of_ble_eq_true rfl) dX6_would_49 ⟨Nat.le_refl _, Nat.le_refl _⟩ (fun r49 σ49 hp49 => ?_)
      obtain ⟨rfl, hp49⟩ := hp49
      refine v_istore (pc := 52) (loc' := [(4, .int (nI (allL n (updS sd i w)))), (3, .int z1), (0, .ref x), (1, .int (nI i)), (2, .int (nI w))]) X dX6_would_52 (by decide) rfl ?_
      refine v_aload_n (pc := 54) X dX6_would_54 rfl 2 rfl ?_
      refine t_get (pc := 55) X 0 (by decide) q1956 rfl rfl dX6_would_55 ?_
      refine v_iconst (pc := 58) (v := nI 1) X dX6_would_58 rfl ?_
      refine v_iload_n (pc := 59) X dX6_would_59 rfl 3 rfl ?_
      refine v_iaddN (pc := 60) X dX6_would_60 ?_
      refine v_iload_n (pc := 61) X dX6_would_61 rfl 1 rfl ?_
      refine v_iast (pc := 62) X 1 ta_0 rfl (by omega) (by decide) dX6_would_62 (tb_0 _) ?_
      refine v_aload_n (pc := 63) X dX6_would_63 rfl 2 rfl ?_
      refine v_iload (pc := 64) X dX6_would_64 0 rfl ?_
      refine t_callI (pc := 66) X m_done (lw_V q2094 q2096 qs41 q109 q2097) hdX6_done ⟨Nat.le_of_ble_eq_true rfl, Nat.le_of_ble_eq_true rfl⟩ rfl rfl (Nat.le_of_ble_eq_true rfl) dX6_would_66 ⟨Nat.le_refl _, Nat.le_refl _⟩ (fun r66 σ66 hp66 => ?_)
      obtain ⟨rfl, rfl⟩ := hp66
      exact t_iret (pc := 69) X hr dX6_would_69 ⟨_, rfl, Qy.ok (by unfold qWould; rw [if_pos h5, if_pos h21, hci, hcw]) rfl (by subst ez1; exact wd_back hp49)⟩
    · refine v_aload_n (pc := 24) X dX6_would_24 rfl 0 rfl ?_
      refine v_iconst (pc := 25) (v := nI 2) X dX6_would_25 rfl ?_
      refine t_callI (pc := 26) X m_fails (lw_V q2082 q2084 qs38 q109 q2085) hdX6_fails ⟨Nat.le_of_ble_eq_true rfl, Nat.le_of_ble_eq_true rfl⟩ rfl rfl (Nat.le_of_ble_eq_true rfl) dX6_would_26 ⟨Nat.le_refl _, Nat.le_refl _⟩ (fun r26 σ26 hp26 => ?_)
      obtain ⟨rfl, rfl⟩ := hp26
      exact t_iret (pc := 29) X hr dX6_would_29 ⟨_, rfl, Qy.fail (by unfold qWould; rw [if_pos h5, if_neg h21]) (by decide) (Ch.rf _ _ _)⟩
  · refine v_aload_n (pc := 8) X dX6_would_8 rfl 0 rfl ?_
    refine v_iconst (pc := 9) (v := nI 1) X dX6_would_9 rfl ?_
    refine t_callI (pc := 10) X m_fails (lw_V q2082 q2084 qs38 q109 q2085) hdX6_fails ⟨Nat.le_of_ble_eq_true rfl, Nat.le_of_ble_eq_true rfl⟩ rfl rfl (Nat.le_of_ble_eq_true rfl) dX6_would_10 ⟨Nat.le_refl _, Nat.le_refl _⟩ (fun r10 σ10 hp10 => ?_)
    obtain ⟨rfl, rfl⟩ := hp10
    exact t_iret (pc := 13) X hr dX6_would_13 ⟨_, rfl, Qy.fail (by unfold qWould; rw [if_neg h5]) (by decide) (Ch.rf _ _ _)⟩
theorem hdX6_sideAt : yX6_sideAt.cls = RX6 ∧ yX6_sideAt.cls ≠ "java/lang/invoke/MethodHandle" ∧ yX6_sideAt.cls ≠ "java/lang/invoke/VarHandle" ∧ (parseMethodDescriptor yX6_sideAt.desc).map (fun d => d.parameters.length) = some 1 := by decide +kernel
set_option maxHeartbeats 4000000 in
theorem m_sideAt {l_ : Launch} {D : va_G} {dd : Nat → ClassId} {x : Nat} {ad : Nat → Nat} {σ : Tw} {n : Nat} {q : Int32} (hn : σ 0 0 = nI n) (h9 : n ≤ 9) : TM l_ D dd x ad yX6_sideAt cX6_sideAt 2 (some .int) 2 43 [.ref x, .int q] σ (TI (fun r σ' => Qy σ (qSideAt (σ 0) n q) r σ')) := by
  refine MW.intro (by decide) (Nat.le_of_ble_eq_true rfl) (fun p_ e_ s_ m_ as_ bl_ me_ c_ A_ X hr hnm => ?_)
  have X : VX p_ s_ m_ as_ me_ c_ cX6_sideAt 2 RX6 D dd A_ := X
  refine v_eq (loc' := [(0, .ref x), (1, .int q)]) rfl rfl rfl ?_
  refine v_aload_n (pc := 0) X dX6_sideAt_0 rfl 0 rfl ?_
  refine v_iload_n (pc := 1) X dX6_sideAt_1 rfl 1 rfl ?_
  refine t_callI (pc := 2) X (m_isSide hn) (lw_V q2110 q2112 qs44 q109 q2113) hdX6_isSide ⟨Nat.le_of_ble_eq_true rfl, Nat.le_of_ble_eq_true rfl⟩ rfl rfl (Nat.le_of_ble_eq_true rfl) dX6_sideAt_2 ⟨Nat.le_refl _, Nat.le_refl _⟩ (fun r2 σ2 hp2 => ?_)
  obtain ⟨rfl, rfl⟩ := hp2
  refine v_if_eqB (pc := 5) X 23 dX6_sideAt_5 (by decide) (fun h5 => ?_) (fun h5 => ?_)
  · refine v_aload_n (pc := 23) X dX6_sideAt_23 rfl 0 rfl ?_
    refine v_iconst (pc := 24) (v := nI 1) X dX6_sideAt_24 rfl ?_
    refine t_callI (pc := 25) X m_fails (lw_V q2082 q2084 qs38 q109 q2085) hdX6_fails ⟨Nat.le_of_ble_eq_true rfl, Nat.le_of_ble_eq_true rfl⟩ rfl rfl (Nat.le_of_ble_eq_true rfl) dX6_sideAt_25 ⟨Nat.le_refl _, Nat.le_refl _⟩ (fun r25 σ25 hp25 => ?_)
    obtain ⟨rfl, rfl⟩ := hp25
    exact t_iret (pc := 28) X hr dX6_sideAt_28 ⟨_, rfl, Qy.fail (by unfold qSideAt; rw [if_neg h5]) (by decide) (Ch.rf _ _ _)⟩
  · obtain ⟨i, hii, rfl⟩ := inN_of (by omega) h5
    have hci : (nI i).toNatClampNeg = i := nI_clamp (by omega)
    refine v_aload_n (pc := 8) X dX6_sideAt_8 rfl 0 rfl ?_
    refine v_aload_n (pc := 9) X dX6_sideAt_9 rfl 0 rfl ?_
    refine t_get (pc := 10) X 0 (by decide) q1956 rfl rfl dX6_sideAt_10 ?_
    refine v_iconst (pc := 13) (v := nI 1) X dX6_sideAt_13 rfl ?_
    refine v_iload_n (pc := 14) X dX6_sideAt_14 rfl 1 rfl ?_
    refine v_iaddN (pc := 15) X dX6_sideAt_15 ?_
    refine v_iald (pc := 16) X 1 ta_0 rfl (by omega) (by decide) dX6_sideAt_16 ?_
    refine v_nm (fun z ez => ?_)
    refine t_callI (pc := 17) X m_done (lw_V q2094 q2096 qs41 q109 q2097) hdX6_done ⟨Nat.le_of_ble_eq_true rfl, Nat.le_of_ble_eq_true rfl⟩ rfl rfl (Nat.le_of_ble_eq_true rfl) dX6_sideAt_17 ⟨Nat.le_refl _, Nat.le_refl _⟩ (fun r17 σ17 hp17 => ?_)
    obtain ⟨rfl, rfl⟩ := hp17
    refine v_goto (pc := 20) X 28 dX6_sideAt_20 (by decide) ?_
    exact t_iret (pc := 28) X hr dX6_sideAt_28 ⟨_, rfl, Qy.ok (by unfold qSideAt; rw [if_pos h5, hci]) ez (Ch.rf _ _ _)⟩
theorem hdX6_strength : yX6_strength.cls = RX6 ∧ yX6_strength.cls ≠ "java/lang/invoke/MethodHandle" ∧ yX6_strength.cls ≠ "java/lang/invoke/VarHandle" ∧ (parseMethodDescriptor yX6_strength.desc).map (fun d => d.parameters.length) = some 1 := by decide +kernel
set_option maxHeartbeats 4000000 in
theorem m_strength {l_ : Launch} {D : va_G} {dd : Nat → ClassId} {x : Nat} {ad : Nat → Nat} {σ : Tw} {n : Nat} {q : Int32} (hc : σ 0 10 = nI n) (h4 : n ≤ 4) : TM l_ D dd x ad yX6_strength cX6_strength 2 (some .int) 2 43 [.ref x, .int q] σ (TI (fun r σ' => Qy σ (qStrength (σ 0) n q) r σ')) := by
  refine MW.intro (by decide) (Nat.le_of_ble_eq_true rfl) (fun p_ e_ s_ m_ as_ bl_ me_ c_ A_ X hr hnm => ?_)
  have X : VX p_ s_ m_ as_ me_ c_ cX6_strength 2 RX6 D dd A_ := X
  refine v_eq (loc' := [(0, .ref x), (1, .int q)]) rfl rfl rfl ?_
  refine v_aload_n (pc := 0) X dX6_strength_0 rfl 0 rfl ?_
  refine v_iload_n (pc := 1) X dX6_strength_1 rfl 1 rfl ?_
  refine t_callI (pc := 2) X (m_isCooper hc) (lw_V q2143 q2145 qs48 q109 q2146) hdX6_isCooper ⟨Nat.le_of_ble_eq_true rfl, Nat.le_of_ble_eq_true rfl⟩ rfl rfl (Nat.le_of_ble_eq_true rfl) dX6_strength_2 ⟨Nat.le_refl _, Nat.le_refl _⟩ (fun r2 σ2 hp2 => ?_)
  obtain ⟨rfl, rfl⟩ := hp2
  refine v_if_eqB (pc := 5) X 24 dX6_strength_5 (by decide) (fun h5 => ?_) (fun h5 => ?_)
  · refine v_aload_n (pc := 24) X dX6_strength_24 rfl 0 rfl ?_
    refine v_iconst (pc := 25) (v := nI 1) X dX6_strength_25 rfl ?_
    refine t_callI (pc := 26) X m_fails (lw_V q2082 q2084 qs38 q109 q2085) hdX6_fails ⟨Nat.le_of_ble_eq_true rfl, Nat.le_of_ble_eq_true rfl⟩ rfl rfl (Nat.le_of_ble_eq_true rfl) dX6_strength_26 ⟨Nat.le_refl _, Nat.le_refl _⟩ (fun r26 σ26 hp26 => ?_)
    obtain ⟨rfl, rfl⟩ := hp26
    exact t_iret (pc := 29) X hr dX6_strength_29 ⟨_, rfl, Qy.fail (by unfold qStrength; rw [if_neg h5]) (by decide) (Ch.rf _ _ _)⟩
  · obtain ⟨i, hii, rfl⟩ := inN_of (by omega) h5
    have hci : (nI i).toNatClampNeg = i := nI_clamp (by omega)
    refine v_aload_n (pc := 8) X dX6_strength_8 rfl 0 rfl ?_
    refine v_aload_n (pc := 9) X dX6_strength_9 rfl 0 rfl ?_
    refine t_get (pc := 10) X 0 (by decide) q1956 rfl rfl dX6_strength_10 ?_
    refine v_bipush (pc := 13) (v := nI 11) X dX6_strength_13 rfl ?_
    refine v_iload_n (pc := 15) X dX6_strength_15 rfl 1 rfl ?_
    refine v_iaddN (pc := 16) X dX6_strength_16 ?_
    refine v_iald (pc := 17) X 1 ta_0 rfl (by omega) (by decide) dX6_strength_17 ?_
    refine v_nm (fun z ez => ?_)
    refine t_callI (pc := 18) X m_done (lw_V q2094 q2096 qs41 q109 q2097) hdX6_done ⟨Nat.le_of_ble_eq_true rfl, Nat.le_of_ble_eq_true rfl⟩ rfl rfl (Nat.le_of_ble_eq_true rfl) dX6_strength_18 ⟨Nat.le_refl _, Nat.le_refl _⟩ (fun r18 σ18 hp18 => ?_)
    obtain ⟨rfl, rfl⟩ := hp18
    refine v_goto (pc := 21) X 29 dX6_strength_21 (by decide) ?_
    exact t_iret (pc := 29) X hr dX6_strength_29 ⟨_, rfl, Qy.ok (by unfold qStrength; rw [if_pos h5, hci]) ez (Ch.rf _ _ _)⟩

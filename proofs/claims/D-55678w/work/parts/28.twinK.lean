theorem hdX6_line : yX6_line.cls = RX6 ∧ yX6_line.cls ≠ "java/lang/invoke/MethodHandle" ∧ yX6_line.cls ≠ "java/lang/invoke/VarHandle" ∧ (parseMethodDescriptor yX6_line.desc).map (fun d => d.parameters.length) = some 2 := by decide +kernel
set_option maxHeartbeats 4000000 in
theorem m_line {l_ : Launch} {D : va_G} {dd : Nat → ClassId} {x : Nat} {ad : Nat → Nat} {σ : Tw} {a : AS} {u v : Int32} (hT : TRel σ a) : TM l_ D dd x ad yX6_line cX6_line 3 (some .int) 4 97 [.ref x, .int u, .int v] σ (TI (fun r σ' => TOut (lineA a u v).1 (lineA a u v).2.1 (lineA a u v).2.2 r σ')) := by
  obtain ⟨hwf, hnS, hnC, hnP⟩ := hT.f
  obtain ⟨hn, h9, hsd, h50, hs1, hS, hp, hp4, hPs⟩ := id hwf
  have hsde : sdN (σ 0) = sdN a.1 := sdN_eq hT.1
  have hste : stN (σ 0) = stN a.1 := stN_eq hT.1
  rw [hsde] at hsd h50 hs1
  refine MW.intro (by decide) (Nat.le_of_ble_eq_true rfl) (fun p_ e_ s_ m_ as_ bl_ me_ c_ A_ X hr hnm => ?_)
  have X : VX p_ s_ m_ as_ me_ c_ cX6_line 3 RX6 D dd A_ := X
  refine v_eq (loc' := [(0, .ref x), (1, .int u), (2, .int v)]) rfl rfl rfl ?_
  refine v_aload_n (pc := 0) X dX6_line_0 rfl 0 rfl ?_
  refine v_iload_n (pc := 1) X dX6_line_1 rfl 1 rfl ?_
  refine v_iload_n (pc := 2) X dX6_line_2 rfl 2 rfl ?_
  refine t_callI (pc := 3) X (m_isRun hn h9) (lw_V q2155 q2157 qs49 q109 q2158) hdX6_isRun ⟨Nat.le_of_ble_eq_true rfl, Nat.le_of_ble_eq_true rfl⟩ rfl rfl (Nat.le_of_ble_eq_true rfl) dX6_line_3 ⟨Nat.le_refl _, Nat.le_refl _⟩ (fun r3 σ3 hp3 => ?_)
  obtain ⟨rfl, rfl⟩ := hp3
  refine v_if_neB (pc := 6) X 15 dX6_line_6 (by decide) (fun h6 => ?_) (fun h6 => ?_)
  · obtain ⟨f, l, hfl, hl, rfl, rfl⟩ := isRun_of h9 h6
    have hcf : (nI f).toNatClampNeg = f := nI_clamp (by omega)
    have hcl : (nI l).toNatClampNeg = l := nI_clamp (by omega)
    have h6b : isRunP (nS a.1) (nI f) (nI l) := hnS ▸ h6
    refine v_aload_n (pc := 15) X dX6_line_15 rfl 0 rfl ?_
    refine t_callV (pc := 16) X (m_reckons hn h9 hsd h50) (lw_V q2163 q2165 qs51 q109 q2166) hdX6_reckons ⟨Nat.le_of_ble_eq_true rfl, Nat.le_of_ble_eq_true rfl⟩ rfl rfl (Nat.le_of_ble_eq_true rfl) dX6_line_16 ⟨Nat.le_refl _, Nat.le_refl _⟩ (fun σ16 hp16 => ?_)
    refine v_aload_n (pc := 19) X dX6_line_19 rfl 0 rfl ?_
    refine v_iconst (pc := 20) (v := -1) X dX6_line_20 rfl ?_
    refine v_iload_n (pc := 21) X dX6_line_21 rfl 1 rfl ?_
    refine v_iload_n (pc := 22) X dX6_line_22 rfl 2 rfl ?_
    refine t_callI (pc := 23) X (m_writesRun (spD_ok (sdN a.1)) hfl (by omega) (Or.inl ⟨rfl, fun x1 y1 h1 h2 h3 => (hp16.2 x1 y1 h2 (by omega)).2.2.1⟩)) (lw_V q2327 q2329 qs77 q109 q2330) hdX6_writesRun ⟨Nat.le_of_ble_eq_true rfl, Nat.le_of_ble_eq_true rfl⟩ rfl rfl (Nat.le_of_ble_eq_true rfl) dX6_line_23 ⟨Nat.le_refl _, Nat.le_refl _⟩ (fun r23 σ23 hp23 => ?_)
    obtain ⟨hr23, hL23, hC23, h14⟩ := hp23
    exact t_iret (pc := 26) X hr dX6_line_26 ⟨_, rfl, by unfold lineA; rw [if_pos h6b, hcf, hcl]; exact ⟨tr_ln hT ((hp16.1.mono (by decide) (by simp)).tr (hC23.mono (by decide) (by decide))) hL23 (by rw [txt_len (spD_ok _) _ f l (Nat.le_refl _)]; omega) (txt_ch (spD_ok _) _ f l (Nat.le_refl _) (by omega) (by omega)), h14, fun _ => hr23⟩⟩
  · refine v_aload_n (pc := 9) X dX6_line_9 rfl 0 rfl ?_
    refine v_iconst (pc := 10) (v := nI 1) X dX6_line_10 rfl ?_
    refine t_callI (pc := 11) X m_fails (lw_V q2082 q2084 qs38 q109 q2085) hdX6_fails ⟨Nat.le_of_ble_eq_true rfl, Nat.le_of_ble_eq_true rfl⟩ rfl rfl (Nat.le_of_ble_eq_true rfl) dX6_line_11 ⟨Nat.le_refl _, Nat.le_refl _⟩ (fun r11 σ11 hp11 => ?_)
    obtain ⟨rfl, rfl⟩ := hp11
    exact t_iret (pc := 14) X hr dX6_line_14 ⟨_, rfl, by unfold lineA; rw [if_neg (by rw [← hnS]; exact h6)]; exact ⟨hT.keep (((Ch.rf _ _ _).num 14 _ (by decide)).num 11 _ (by decide) : Ch scQ scQN σ _) (by decide) (by decide), rfl, fun z => by cases z⟩⟩
theorem hdX6_planLine : yX6_planLine.cls = RX6 ∧ yX6_planLine.cls ≠ "java/lang/invoke/MethodHandle" ∧ yX6_planLine.cls ≠ "java/lang/invoke/VarHandle" ∧ (parseMethodDescriptor yX6_planLine.desc).map (fun d => d.parameters.length) = some 1 := by decide +kernel
set_option maxHeartbeats 4000000 in
theorem m_planLine {l_ : Launch} {D : va_G} {dd : Nat → ClassId} {x : Nat} {ad : Nat → Nat} {σ : Tw} {a : AS} {u : Int32} (hT : TRel σ a) : TM l_ D dd x ad yX6_planLine cX6_planLine 2 (some .int) 4 97 [.ref x, .int u] σ (TI (fun r σ' => TOut (planLineA a u).1 (planLineA a u).2.1 (planLineA a u).2.2 r σ')) := by
  obtain ⟨hwf, hnS, hnC, hnP⟩ := hT.f
  obtain ⟨hn, h9, hsd, h50, hs1, hS, hp, hp4, hPs⟩ := id hwf
  have hsde : sdN (σ 0) = sdN a.1 := sdN_eq hT.1
  have hste : stN (σ 0) = stN a.1 := stN_eq hT.1
  rw [hsde] at hsd h50 hs1
  obtain ⟨np, hnp⟩ : ∃ np, np = nP (σ 0) := ⟨_, rfl⟩
  rw [← hnp] at hp hp4 hPs hnP
  refine MW.intro (by decide) (Nat.le_of_ble_eq_true rfl) (fun p_ e_ s_ m_ as_ bl_ me_ c_ A_ X hr hnm => ?_)
  have X : VX p_ s_ m_ as_ me_ c_ cX6_planLine 2 RX6 D dd A_ := X
  refine v_eq (loc' := [(0, .ref x), (1, .int u)]) rfl rfl rfl ?_
  refine v_aload_n (pc := 0) X dX6_planLine_0 rfl 0 rfl ?_
  refine v_iload_n (pc := 1) X dX6_planLine_1 rfl 1 rfl ?_
  refine t_callI (pc := 2) X (m_isPlan hp) (lw_V q2235 q2237 qs61 q109 q2238) hdX6_isPlan ⟨Nat.le_of_ble_eq_true rfl, Nat.le_of_ble_eq_true rfl⟩ rfl rfl (Nat.le_of_ble_eq_true rfl) dX6_planLine_2 ⟨Nat.le_refl _, Nat.le_refl _⟩ (fun r2 σ2 hp2 => ?_)
  obtain ⟨rfl, rfl⟩ := hp2
  refine v_if_eqB (pc := 5) X 28 dX6_planLine_5 (by decide) (fun h5 => ?_) (fun h5 => ?_)
  · refine v_aload_n (pc := 28) X dX6_planLine_28 rfl 0 rfl ?_
    refine v_iconst (pc := 29) (v := nI 1) X dX6_planLine_29 rfl ?_
    refine t_callI (pc := 30) X m_fails (lw_V q2082 q2084 qs38 q109 q2085) hdX6_fails ⟨Nat.le_of_ble_eq_true rfl, Nat.le_of_ble_eq_true rfl⟩ rfl rfl (Nat.le_of_ble_eq_true rfl) dX6_planLine_30 ⟨Nat.le_refl _, Nat.le_refl _⟩ (fun r30 σ30 hp30 => ?_)
    obtain ⟨rfl, rfl⟩ := hp30
    exact t_iret (pc := 33) X hr dX6_planLine_33 ⟨_, rfl, by unfold planLineA; rw [if_neg (by rw [← hnP]; exact h5)]; exact ⟨hT.keep (((Ch.rf _ _ _).num 14 _ (by decide)).num 11 _ (by decide) : Ch scQ scQN σ _) (by decide) (by decide), rfl, fun z => by cases z⟩⟩
  · obtain ⟨i, hii, rfl⟩ := inN_of (by omega) h5
    have hci : (nI i).toNatClampNeg = i := nI_clamp (by omega)
    have hi : i < 4 := by omega
    obtain ⟨f, l, sp, hPl⟩ := hPs i hii
    have hfl := hPl.1
    have hl8 := hPl.2.1
    have hsp := hPl.2.2.1
    have hpf := hPl.2.2.2.1
    have hpl := hPl.2.2.2.2.1
    have hpe := hPl.2.2.2.2.2
    have hLn := pl_length hsp f l
    have htx := txP_eq (pE_eq hPl hT.1 hi)
    refine v_aload_n (pc := 8) X dX6_planLine_8 rfl 0 rfl ?_
    refine v_iload_n (pc := 9) X dX6_planLine_9 rfl 1 rfl ?_
    refine v_aload_n (pc := 10) X dX6_planLine_10 rfl 0 rfl ?_
    refine v_iload_n (pc := 11) X dX6_planLine_11 rfl 1 rfl ?_
    refine v_iconst (pc := 12) (v := nI 0) X dX6_planLine_12 rfl ?_
    refine t_callI (pc := 13) X (m_of (by omega) (by omega)) (lw_V q2243 q2245 qs62 q109 q2246) hdX6_of ⟨Nat.le_of_ble_eq_true rfl, Nat.le_of_ble_eq_true rfl⟩ rfl rfl (Nat.le_of_ble_eq_true rfl) dX6_planLine_13 ⟨Nat.le_refl _, Nat.le_refl _⟩ (fun r13 σ13 hp13 => ?_)
    obtain ⟨rfl, rfl⟩ := hp13
    refine v_top (y := (nI f)) hpf ?_
    refine v_aload_n (pc := 16) X dX6_planLine_16 rfl 0 rfl ?_
    refine v_iload_n (pc := 17) X dX6_planLine_17 rfl 1 rfl ?_
    refine v_iconst (pc := 18) (v := nI 1) X dX6_planLine_18 rfl ?_
    refine t_callI (pc := 19) X (m_of (by omega) (by omega)) (lw_V q2243 q2245 qs62 q109 q2246) hdX6_of ⟨Nat.le_of_ble_eq_true rfl, Nat.le_of_ble_eq_true rfl⟩ rfl rfl (Nat.le_of_ble_eq_true rfl) dX6_planLine_19 ⟨Nat.le_refl _, Nat.le_refl _⟩ (fun r19 σ19 hp19 => ?_)
    obtain ⟨rfl, rfl⟩ := hp19
    refine v_top (y := (nI l)) hpl ?_
    refine t_callI (pc := 22) X (m_writesRun hsp hfl hl8 (Or.inr ⟨i, rfl, hi, hPl⟩)) (lw_V q2327 q2329 qs77 q109 q2330) hdX6_writesRun ⟨Nat.le_of_ble_eq_true rfl, Nat.le_of_ble_eq_true rfl⟩ rfl rfl (Nat.le_of_ble_eq_true rfl) dX6_planLine_22 ⟨Nat.le_refl _, Nat.le_refl _⟩ (fun r22 σ22 hp22 => ?_)
    obtain ⟨hr22, hL22, hC22, h14⟩ := hp22
    refine v_goto (pc := 25) X 33 dX6_planLine_25 (by decide) ?_
    exact t_iret (pc := 33) X hr dX6_planLine_33 ⟨_, rfl, by unfold planLineA; rw [if_pos (by rw [← hnP]; exact h5), hci, htx]; exact ⟨tr_ln hT (hC22.mono (by decide) (by decide)) hL22 (by rw [txt_len hsp _ f l (Nat.le_refl _)]; omega) (txt_ch hsp _ f l (Nat.le_refl _) (by omega) (by omega)), h14, fun _ => hr22⟩⟩
theorem hdX6_sidesLine : yX6_sidesLine.cls = RX6 ∧ yX6_sidesLine.cls ≠ "java/lang/invoke/MethodHandle" ∧ yX6_sidesLine.cls ≠ "java/lang/invoke/VarHandle" ∧ (parseMethodDescriptor yX6_sidesLine.desc).map (fun d => d.parameters.length) = some 0 := by decide +kernel
set_option maxHeartbeats 4000000 in
theorem m_sidesLine {l_ : Launch} {D : va_G} {dd : Nat → ClassId} {x : Nat} {ad : Nat → Nat} {σ : Tw} {a : AS} (hT : TRel σ a) : TM l_ D dd x ad yX6_sidesLine cX6_sidesLine 2 (some .int) 2 42 [.ref x] σ (TI (fun r σ' => TOut (sidesLineA a).1 0 (sidesLineA a).2 r σ')) := by
  obtain ⟨hwf, hnS, hnC, hnP⟩ := hT.f
  obtain ⟨hn, h9, hsd, h50, hs1, hS, hp, hp4, hPs⟩ := id hwf
  have hsde : sdN (σ 0) = sdN a.1 := sdN_eq hT.1
  have hste : stN (σ 0) = stN a.1 := stN_eq hT.1
  rw [hsde] at hsd h50 hs1
  refine MW.intro (by decide) (Nat.le_of_ble_eq_true rfl) (fun p_ e_ s_ m_ as_ bl_ me_ c_ A_ X hr hnm => ?_)
  have X : VX p_ s_ m_ as_ me_ c_ cX6_sidesLine 2 RX6 D dd A_ := X
  refine v_eq (loc' := [(0, .ref x)]) rfl rfl rfl ?_
  refine v_aload_n (pc := 0) X dX6_sidesLine_0 rfl 0 rfl ?_
  refine v_iconst (pc := 1) (v := nI 0) X dX6_sidesLine_1 rfl ?_
  refine t_put (pc := 2) X 13 (by decide) q1969 rfl rfl rfl rfl dX6_sidesLine_2 (tf_13 _) ?_
  refine v_iconst (pc := 5) (v := nI 0) X dX6_sidesLine_5 rfl ?_
  refine v_istore_n (pc := 6) (loc' := [(1, .int (nI 0)), (0, .ref x)]) X dX6_sidesLine_6 rfl (by decide) rfl ?_
  refine v_sub [1, 0] rfl ?_
  refine v_loop2 (S := Nat) (T := Tw) (fun k τ => tw x ad dd τ) (fun k τ => [(0, .ref x), (1, .int (nI k))]) (fun k τ => k ≤ nS (σ 0) ∧ Ch [12] [13] σ τ ∧ LnIs τ (sdTx (sdN a.1) k)) (fun k τ => nS (σ 0) - k) (fun k τ hI7 ih7 => ?_) 0 _ ⟨Nat.zero_le _, (Ch.rf _ _ _).num 13 _ (by decide), ⟨TxIs.nil _, rfl⟩⟩
  obtain ⟨hk, hC, hL⟩ := hI7
  have hsl := sdTx_len (sdN a.1) k
  have hg : τ 0 = σ 0 := hC.1 0 (by decide) (by decide)
  refine v_iload_n (pc := 7) X dX6_sidesLine_7 rfl 1 rfl ?_
  refine v_aload_n (pc := 8) X dX6_sidesLine_8 rfl 0 rfl ?_
  refine t_get (pc := 9) X 0 (by decide) q1956 rfl rfl dX6_sidesLine_9 ?_
  refine v_iconst (pc := 12) (v := nI 0) X dX6_sidesLine_12 rfl ?_
  refine v_iald (pc := 13) X 1 ta_0 rfl (by omega) (by decide) dX6_sidesLine_13 ?_
  refine v_top (y := (nI (nS (σ 0)))) ((congrFun hg 0).trans hn) ?_
  refine v_ic_geN (pc := 14) X (by omega) (by omega) 45 dX6_sidesLine_14 (by decide) (fun h14 => ?_) (fun h14 => ?_)
  · refine v_aload_n (pc := 45) X dX6_sidesLine_45 rfl 0 rfl ?_
    refine v_aload_n (pc := 46) X dX6_sidesLine_46 rfl 0 rfl ?_
    refine t_get (pc := 47) X 13 (by decide) q1969 rfl rfl dX6_sidesLine_47 ?_
    refine v_top (y := (nI ((sdTx (sdN a.1) k).length))) hL.2 ?_
    refine t_callI (pc := 50) X m_done (lw_V q2094 q2096 qs41 q109 q2097) hdX6_done ⟨Nat.le_of_ble_eq_true rfl, Nat.le_of_ble_eq_true rfl⟩ rfl rfl (Nat.le_of_ble_eq_true rfl) dX6_sidesLine_50 ⟨Nat.le_refl _, Nat.le_refl _⟩ (fun r50 σ50 hp50 => ?_)
    obtain ⟨rfl, rfl⟩ := hp50
    exact t_iret (pc := 53) X hr dX6_sidesLine_53 ⟨_, rfl, by unfold sidesLineA; rw [← hnS, show nS (σ 0) = k by omega]; exact ⟨tr_ln hT ((hC.mono (Rs' := 12 :: scQ) (Ns' := 13 :: scQN) (by decide) (by decide)).num 14 _ (by decide)) (hL.same rfl rfl) (by omega) (sdTx_ch h50 k), rfl, fun _ => rfl⟩⟩
  · refine v_iload_n (pc := 17) X dX6_sidesLine_17 rfl 1 rfl ?_
    refine v_if_leN (pc := 18) X (by omega) 27 dX6_sidesLine_18 (by decide) (fun h18 => ?_) (fun h18 => ?_)
    · refine v_aload_n (pc := 27) X dX6_sidesLine_27 rfl 0 rfl ?_
      refine v_aload_n (pc := 28) X dX6_sidesLine_28 rfl 0 rfl ?_
      refine t_get (pc := 29) X 0 (by decide) q1956 rfl rfl dX6_sidesLine_29 ?_
      refine v_iconst (pc := 32) (v := nI 1) X dX6_sidesLine_32 rfl ?_
      refine v_iload_n (pc := 33) X dX6_sidesLine_33 rfl 1 rfl ?_
      refine v_iaddN (pc := 34) X dX6_sidesLine_34 ?_
      refine v_iald (pc := 35) X 1 ta_0 rfl (by omega) (by decide) dX6_sidesLine_35 ?_
      refine v_top (y := (nI (sdN a.1 k))) ((congrFun hg _).trans (hsd k (by omega))) ?_
      refine t_callV (pc := 36) X (m_writesNumber hL (by omega) (by have := h50 k; omega)) (lw_V q2343 q2345 qs79 q109 q2346) hdX6_writesNumber ⟨Nat.le_of_ble_eq_true rfl, Nat.le_of_ble_eq_true rfl⟩ rfl rfl (Nat.le_of_ble_eq_true rfl) dX6_sidesLine_36 ⟨Nat.le_refl _, Nat.le_refl _⟩ (fun σ36 hp36 => ?_)
      refine v_iinc (pc := 39) (v := (nI (k + 1))) (loc' := [(1, .int (nI (k + 1))), (0, .ref x)]) X dX6_sidesLine_39 1 rfl (nI_add _ 1) (by decide) rfl ?_
      refine v_goto (pc := 42) X 7 dX6_sidesLine_42 (by decide) ?_
      refine v_sub [1, 0] rfl ?_
      exact ih7 (k + 1) _ ⟨by omega, hC.tr hp36.2, by unfold sdTx; rw [if_pos h18, List.nil_append]; exact hp36.1⟩ (by omega)
    · refine v_aload_n (pc := 21) X dX6_sidesLine_21 rfl 0 rfl ?_
      refine v_bipush (pc := 22) (v := nI 120) X dX6_sidesLine_22 rfl ?_
      refine t_callV (pc := 24) X (m_writes hL (by omega) (by decide)) (lw_V q2331 q2333 qs78 q109 q2334) hdX6_writes ⟨Nat.le_of_ble_eq_true rfl, Nat.le_of_ble_eq_true rfl⟩ rfl rfl (Nat.le_of_ble_eq_true rfl) dX6_sidesLine_24 ⟨Nat.le_refl _, Nat.le_refl _⟩ (fun σ24 hp24 => ?_)
      refine v_aload_n (pc := 27) X dX6_sidesLine_27 rfl 0 rfl ?_
      refine v_aload_n (pc := 28) X dX6_sidesLine_28 rfl 0 rfl ?_
      refine t_get (pc := 29) X 0 (by decide) q1956 rfl rfl dX6_sidesLine_29 ?_
      refine v_iconst (pc := 32) (v := nI 1) X dX6_sidesLine_32 rfl ?_
      refine v_iload_n (pc := 33) X dX6_sidesLine_33 rfl 1 rfl ?_
      refine v_iaddN (pc := 34) X dX6_sidesLine_34 ?_
      refine v_iald (pc := 35) X 1 ta_0 rfl (by omega) (by decide) dX6_sidesLine_35 ?_
      refine v_top (y := (nI (sdN a.1 k))) ((congrFun ((hp24.2.1 0 (by decide) (by decide)).trans hg) _).trans (hsd k (by omega))) ?_
      refine t_callV (pc := 36) X (m_writesNumber hp24.1 (by rw [List.length_append]; show _ + 1 < 78; omega) (by have := h50 k; omega)) (lw_V q2343 q2345 qs79 q109 q2346) hdX6_writesNumber ⟨Nat.le_of_ble_eq_true rfl, Nat.le_of_ble_eq_true rfl⟩ rfl rfl (Nat.le_of_ble_eq_true rfl) dX6_sidesLine_36 ⟨Nat.le_refl _, Nat.le_refl _⟩ (fun σ36 hp36 => ?_)
      refine v_iinc (pc := 39) (v := (nI (k + 1))) (loc' := [(1, .int (nI (k + 1))), (0, .ref x)]) X dX6_sidesLine_39 1 rfl (nI_add _ 1) (by decide) rfl ?_
      refine v_goto (pc := 42) X 7 dX6_sidesLine_42 (by decide) ?_
      refine v_sub [1, 0] rfl ?_
      exact ih7 (k + 1) _ ⟨by omega, (hC.tr hp24.2).tr hp36.2, by unfold sdTx; rw [if_neg h18, ← List.append_assoc]; exact hp36.1⟩ (by omega)
theorem hdX6_character : yX6_character.cls = RX6 ∧ yX6_character.cls ≠ "java/lang/invoke/MethodHandle" ∧ yX6_character.cls ≠ "java/lang/invoke/VarHandle" ∧ (parseMethodDescriptor yX6_character.desc).map (fun d => d.parameters.length) = some 1 := by decide +kernel
set_option maxHeartbeats 4000000 in
theorem m_character {l_ : Launch} {D : va_G} {dd : Nat → ClassId} {x : Nat} {ad : Nat → Nat} {σ : Tw} {a : AS} {u : Int32} (hT : TRel σ a) : TM l_ D dd x ad yX6_character cX6_character 2 (some .char) 1 22 [.ref x, .int u] σ (TI (fun r σ' => TOut a (charQ a u).1 (charQ a u).2 r σ')) := by
  have hL := hT.2.2.2.2.2.2.2.2.2.2.1
  have hlb := hT.2.2.2.2.2.2.2.2.2.2.2.1
  have hlc := hT.2.2.2.2.2.2.2.2.2.2.2.2
  refine MW.intro (by decide) (Nat.le_of_ble_eq_true rfl) (fun p_ e_ s_ m_ as_ bl_ me_ c_ A_ X hr hnm => ?_)
  have X : VX p_ s_ m_ as_ me_ c_ cX6_character 2 RX6 D dd A_ := X
  refine v_eq (loc' := [(0, .ref x), (1, .int u)]) rfl rfl rfl ?_
  refine v_aload_n (pc := 0) X dX6_character_0 rfl 0 rfl ?_
  refine v_iload_n (pc := 1) X dX6_character_1 rfl 1 rfl ?_
  refine v_iconst (pc := 2) (v := nI 0) X dX6_character_2 rfl ?_
  refine v_aload_n (pc := 3) X dX6_character_3 rfl 0 rfl ?_
  refine t_get (pc := 4) X 13 (by decide) q1969 rfl rfl dX6_character_4 ?_
  refine v_top (y := (nI a.2.2.2.2.2.2.2.length)) hL.2 ?_
  refine v_iconst (pc := 7) (v := nI 1) X dX6_character_7 rfl ?_
  refine v_isub (pc := 8) X dX6_character_8 ?_
  refine t_callSI (pc := 9) X m_in (lw_S q2079 q2080 q109 q2081) hdX6_in ⟨Nat.le_of_ble_eq_true rfl, Nat.le_of_ble_eq_true rfl⟩ rfl rfl (Nat.le_of_ble_eq_true rfl) dX6_character_9 ⟨Nat.le_refl _, Nat.le_refl _⟩ (fun r9 σ9 hp9 => ?_)
  obtain ⟨rfl, rfl⟩ := hp9
  refine v_if_eqB (pc := 12) X 19 dX6_character_12 (by decide) (fun h12 => ?_) (fun h12 => ?_)
  · refine v_iconst (pc := 19) (v := nI 1) X dX6_character_19 rfl ?_
    refine t_put (pc := 20) X 14 (by decide) q1970 rfl rfl rfl rfl dX6_character_20 (tf_14 _) ?_
    refine v_aload_n (pc := 23) X dX6_character_23 rfl 0 rfl ?_
    refine t_get (pc := 24) X 14 (by decide) q1970 rfl rfl dX6_character_24 ?_
    refine v_top (y := (nI 1)) rfl ?_
    refine v_if_neN (pc := 27) X (by omega) 39 dX6_character_27 (by decide) (fun h27 => ?_) (fun h27 => absurd h27 (by decide))
    refine v_iconst (pc := 39) (v := nI 0) X dX6_character_39 rfl ?_
    exact t_zret (pc := 40) X hr rfl dX6_character_40 ⟨_, rfl, by unfold charQ; rw [if_neg h12]; exact ⟨hT.keep ((Ch.rf scQ scQN _).num 14 _ (by decide)) (by decide) (by decide), rfl, fun z => by cases z⟩⟩
  · refine v_iconst (pc := 15) (v := nI 0) X dX6_character_15 rfl ?_
    refine v_goto (pc := 16) X 20 dX6_character_16 (by decide) ?_
    refine t_put (pc := 20) X 14 (by decide) q1970 rfl rfl rfl rfl dX6_character_20 (tf_14 _) ?_
    refine v_aload_n (pc := 23) X dX6_character_23 rfl 0 rfl ?_
    refine t_get (pc := 24) X 14 (by decide) q1970 rfl rfl dX6_character_24 ?_
    refine v_top (y := (nI 0)) rfl ?_
    refine v_if_neN (pc := 27) X (by omega) 39 dX6_character_27 (by decide) (fun h27 => absurd rfl h27) (fun h27 => ?_)
    obtain ⟨i, hi, rfl⟩ := inN_of (by omega) h12
    have hci : (nI i).toNatClampNeg = i := nI_clamp (by omega)
    obtain ⟨c, hc⟩ := get_lt (L := a.2.2.2.2.2.2.2) (k := i) hi
    have hcb := hlc c (List.mem_of_getElem? hc)
    refine v_aload_n (pc := 30) X dX6_character_30 rfl 0 rfl ?_
    refine t_get (pc := 31) X 12 (by decide) q1968 rfl rfl dX6_character_31 ?_
    refine v_iload_n (pc := 34) X dX6_character_34 rfl 1 rfl ?_
    refine v_cald (pc := 35) X 6 ta_12 rfl (by omega) (by decide) dX6_character_35 ?_
    refine v_top (y := (nI c)) (hL.1 i c hc) ?_
    refine v_goto (pc := 36) X 40 dX6_character_36 (by decide) ?_
    exact t_zret (pc := 40) X hr (pk_charN hcb).1 dX6_character_40 ⟨_, rfl, by unfold charQ; rw [if_pos h12, hci]; exact ⟨hT.keep ((Ch.rf scQ scQN _).num 14 _ (by decide)) (by decide) (by decide), rfl, fun _ => by rw [List.getD_eq_getElem?_getD, hc]; rfl⟩⟩
theorem hdX6_append : yX6_append.cls = RX6 ∧ yX6_append.cls ≠ "java/lang/invoke/MethodHandle" ∧ yX6_append.cls ≠ "java/lang/invoke/VarHandle" ∧ (parseMethodDescriptor yX6_append.desc).map (fun d => d.parameters.length) = some 1 := by decide +kernel
set_option maxHeartbeats 4000000 in
theorem m_append {l_ : Launch} {D : va_G} {dd : Nat → ClassId} {x : Nat} {ad : Nat → Nat} {σ : Tw} {a : AS} {c : Nat} (hT : TRel σ a) (hc : c < 65536) : TM l_ D dd x ad yX6_append cX6_append 2 (some .int) 1 21 [.ref x, .int (nI c)] σ (TI (fun r σ' => TOut (appA a c).1 (appA a c).2.1 (appA a c).2.2 r σ')) := by
  have hI := hT.2.2.2.2.2.2.1
  obtain ⟨hI1, hI2, hI3, hI4⟩ := id hI
  refine MW.intro (by decide) (Nat.le_of_ble_eq_true rfl) (fun p_ e_ s_ m_ as_ bl_ me_ c_ A_ X hr hnm => ?_)
  have X : VX p_ s_ m_ as_ me_ c_ cX6_append 2 RX6 D dd A_ := X
  refine v_eq (loc' := [(0, .ref x), (1, .int (nI c))]) rfl rfl rfl ?_
  refine v_aload_n (pc := 0) X dX6_append_0 rfl 0 rfl ?_
  refine t_get (pc := 1) X 7 (by decide) q1963 rfl rfl dX6_append_1 ?_
  refine v_top (y := (nI a.2.2.2.1.length)) hI2 ?_
  refine v_bipush (pc := 4) (v := nI 60) X dX6_append_4 rfl ?_
  refine v_ic_neN (pc := 6) X (by omega) (by omega) 15 dX6_append_6 (by decide) (fun h6 => ?_) (fun h6 => ?_)
  · refine v_aload_n (pc := 15) X dX6_append_15 rfl 0 rfl ?_
    refine t_get (pc := 16) X 6 (by decide) q1962 rfl rfl dX6_append_16 ?_
    refine v_aload_n (pc := 19) X dX6_append_19 rfl 0 rfl ?_
    refine t_get (pc := 20) X 7 (by decide) q1963 rfl rfl dX6_append_20 ?_
    refine v_top (y := (nI a.2.2.2.1.length)) hI2 ?_
    refine v_iload_n (pc := 23) X dX6_append_23 rfl 1 rfl ?_
    refine v_cast (pc := 24) X 5 ta_6 rfl (by omega) (by decide) dX6_append_24 (tb_6 _) ?_
    refine v_aload_n (pc := 25) X dX6_append_25 rfl 0 rfl ?_
    refine v_dup (pc := 26) X dX6_append_26 rfl ?_
    refine t_get (pc := 27) X 7 (by decide) q1963 rfl rfl dX6_append_27 ?_
    refine v_top (y := (nI a.2.2.2.1.length)) hI2 ?_
    refine v_iconst (pc := 30) (v := nI 1) X dX6_append_30 rfl ?_
    refine v_iaddN (pc := 31) X dX6_append_31 ?_
    refine t_put (pc := 32) X 7 (by decide) q1963 rfl rfl rfl rfl dX6_append_32 (tf_7 _) ?_
    refine v_aload_n (pc := 35) X dX6_append_35 rfl 0 rfl ?_
    refine v_aload_n (pc := 36) X dX6_append_36 rfl 0 rfl ?_
    refine t_get (pc := 37) X 7 (by decide) q1963 rfl rfl dX6_append_37 ?_
    refine v_top (y := (nI (a.2.2.2.1.length + 1))) rfl ?_
    refine t_callI (pc := 40) X m_done (lw_V q2094 q2096 qs41 q109 q2097) hdX6_done ⟨Nat.le_of_ble_eq_true rfl, Nat.le_of_ble_eq_true rfl⟩ rfl rfl (Nat.le_of_ble_eq_true rfl) dX6_append_40 ⟨Nat.le_refl _, Nat.le_refl _⟩ (fun r40 σ40 hp40 => ?_)
    obtain ⟨rfl, rfl⟩ := hp40
    exact t_iret (pc := 43) X hr dX6_append_43 ⟨_, rfl, by unfold appA; rw [if_neg h6]; exact ⟨tr_in hT ((((Ch.rf (6 :: scQ) (7 :: scQN) _).row 6 _ (by decide) (by decide)).num 7 _ (by decide)).num 14 _ (by decide)) ⟨by show TxIs (upd _ _ (vp_nar .char (nI c))) _; rw [nar_c hc]; exact hI1.push c, by rw [List.length_append]; rfl, by rw [List.length_append]; show _ + 1 ≤ 60; omega, fun d hd => by rcases List.mem_append.mp hd with h | h; exact hI4 d h; rw [List.mem_singleton] at h; omega⟩, rfl, fun _ => rfl⟩⟩
  · refine v_aload_n (pc := 9) X dX6_append_9 rfl 0 rfl ?_
    refine v_iconst (pc := 10) (v := nI 1) X dX6_append_10 rfl ?_
    refine t_callI (pc := 11) X m_fails (lw_V q2082 q2084 qs38 q109 q2085) hdX6_fails ⟨Nat.le_of_ble_eq_true rfl, Nat.le_of_ble_eq_true rfl⟩ rfl rfl (Nat.le_of_ble_eq_true rfl) dX6_append_11 ⟨Nat.le_refl _, Nat.le_refl _⟩ (fun r11 σ11 hp11 => ?_)
    obtain ⟨rfl, rfl⟩ := hp11
    exact t_iret (pc := 14) X hr dX6_append_14 ⟨_, rfl, by unfold appA; rw [if_pos h6]; exact ⟨hT.keep (((Ch.rf scQ scQN _).num 14 _ (by decide)).num 11 _ (by decide)) (by decide) (by decide), rfl, fun z => by cases z⟩⟩
theorem hdX6_errorPosition : yX6_errorPosition.cls = RX6 ∧ yX6_errorPosition.cls ≠ "java/lang/invoke/MethodHandle" ∧ yX6_errorPosition.cls ≠ "java/lang/invoke/VarHandle" ∧ (parseMethodDescriptor yX6_errorPosition.desc).map (fun d => d.parameters.length) = some 0 := by decide +kernel
set_option maxHeartbeats 4000000 in
theorem m_errorPosition {l_ : Launch} {D : va_G} {dd : Nat → ClassId} {x : Nat} {ad : Nat → Nat} {σ : Tw} {a : AS} (hT : TRel σ a) : TM l_ D dd x ad yX6_errorPosition cX6_errorPosition 1 (some .int) 1 21 [.ref x] σ (TI (fun r σ' => TOut a 0 a.2.2.2.2.1 r σ')) := by
  refine MW.intro (by decide) (Nat.le_of_ble_eq_true rfl) (fun p_ e_ s_ m_ as_ bl_ me_ c_ A_ X hr hnm => ?_)
  have X : VX p_ s_ m_ as_ me_ c_ cX6_errorPosition 1 RX6 D dd A_ := X
  refine v_eq (loc' := [(0, .ref x)]) rfl rfl rfl ?_
  refine v_aload_n (pc := 0) X dX6_errorPosition_0 rfl 0 rfl ?_
  refine v_aload_n (pc := 1) X dX6_errorPosition_1 rfl 0 rfl ?_
  refine t_get (pc := 2) X 8 (by decide) q1964 rfl rfl dX6_errorPosition_2 ?_
  refine v_nm (fun z ez => ?_)
  refine t_callI (pc := 5) X m_done (lw_V q2094 q2096 qs41 q109 q2097) hdX6_done ⟨Nat.le_of_ble_eq_true rfl, Nat.le_of_ble_eq_true rfl⟩ rfl rfl (Nat.le_of_ble_eq_true rfl) dX6_errorPosition_5 ⟨Nat.le_refl _, Nat.le_refl _⟩ (fun r5 σ5 hp5 => ?_)
  obtain ⟨rfl, rfl⟩ := hp5
  exact t_iret (pc := 8) X hr dX6_errorPosition_8 ⟨_, rfl, hT.keep ((Ch.rf scQ scQN _).num 14 _ (by decide)) (by decide) (by decide), rfl, fun _ => ez.trans hT.2.2.2.2.2.2.2.1⟩
theorem hdX6_refusal : yX6_refusal.cls = RX6 ∧ yX6_refusal.cls ≠ "java/lang/invoke/MethodHandle" ∧ yX6_refusal.cls ≠ "java/lang/invoke/VarHandle" ∧ (parseMethodDescriptor yX6_refusal.desc).map (fun d => d.parameters.length) = some 1 := by decide +kernel
set_option maxHeartbeats 4000000 in
theorem m_refusal {l_ : Launch} {D : va_G} {dd : Nat → ClassId} {x : Nat} {ad : Nat → Nat} {σ : Tw} {a : AS} {d : Int32} (hT : TRel σ a) : TM l_ D dd x ad yX6_refusal cX6_refusal 2 (some .int) 1 21 [.ref x, .int d] σ (TI (fun r σ' => TOut a (refQ a d).1 (refQ a d).2 r σ')) := by
  have hw := hT.2.2.2.2.2.2.2.2.1
  have hd := hT.2.2.2.2.2.2.2.2.2.1
  refine MW.intro (by decide) (Nat.le_of_ble_eq_true rfl) (fun p_ e_ s_ m_ as_ bl_ me_ c_ A_ X hr hnm => ?_)
  have X : VX p_ s_ m_ as_ me_ c_ cX6_refusal 2 RX6 D dd A_ := X
  refine v_eq (loc' := [(0, .ref x), (1, .int d)]) rfl rfl rfl ?_
  refine v_aload_n (pc := 0) X dX6_refusal_0 rfl 0 rfl ?_
  refine t_get (pc := 1) X 9 (by decide) q1965 rfl rfl dX6_refusal_1 ?_
  refine v_nm (fun z ez => ?_)
  refine v_if_ne (pc := 4) X 15 dX6_refusal_4 (by decide) (fun h4 => ?_) (fun h4 => ?_)
  · refine v_aload_n (pc := 15) X dX6_refusal_15 rfl 0 rfl ?_
    refine v_iload_n (pc := 16) X dX6_refusal_16 rfl 1 rfl ?_
    refine v_if_eq (pc := 17) X 27 dX6_refusal_17 (by decide) (fun h17 => ?_) (fun h17 => ?_)
    · refine v_aload_n (pc := 27) X dX6_refusal_27 rfl 0 rfl ?_
      refine t_get (pc := 28) X 9 (by decide) q1965 rfl rfl dX6_refusal_28 ?_
      refine v_nm (fun y ey => ?_)
      refine t_callI (pc := 31) X m_done (lw_V q2094 q2096 qs41 q109 q2097) hdX6_done ⟨Nat.le_of_ble_eq_true rfl, Nat.le_of_ble_eq_true rfl⟩ rfl rfl (Nat.le_of_ble_eq_true rfl) dX6_refusal_31 ⟨Nat.le_refl _, Nat.le_refl _⟩ (fun r31 σ31 hp31 => ?_)
      obtain ⟨rfl, rfl⟩ := hp31
      exact t_iret (pc := 34) X hr dX6_refusal_34 ⟨_, rfl, by unfold refQ; rw [if_neg (by rw [← hw, ← ez]; exact h4), if_pos h17]; exact ⟨hT.keep ((Ch.rf scQ scQN _).num 14 _ (by decide)) (by decide) (by decide), rfl, fun _ => ey.trans hw⟩⟩
    · refine v_aload_n (pc := 20) X dX6_refusal_20 rfl 0 rfl ?_
      refine t_get (pc := 21) X 10 (by decide) q1966 rfl rfl dX6_refusal_21 ?_
      refine v_goto (pc := 24) X 31 dX6_refusal_24 (by decide) ?_
      refine v_nm (fun y ey => ?_)
      refine t_callI (pc := 31) X m_done (lw_V q2094 q2096 qs41 q109 q2097) hdX6_done ⟨Nat.le_of_ble_eq_true rfl, Nat.le_of_ble_eq_true rfl⟩ rfl rfl (Nat.le_of_ble_eq_true rfl) dX6_refusal_31 ⟨Nat.le_refl _, Nat.le_refl _⟩ (fun r31 σ31 hp31 => ?_)
      obtain ⟨rfl, rfl⟩ := hp31
      exact t_iret (pc := 34) X hr dX6_refusal_34 ⟨_, rfl, by unfold refQ; rw [if_neg (by rw [← hw, ← ez]; exact h4), if_neg h17]; exact ⟨hT.keep ((Ch.rf scQ scQN _).num 14 _ (by decide)) (by decide) (by decide), rfl, fun _ => ey.trans hd⟩⟩
  · refine v_aload_n (pc := 7) X dX6_refusal_7 rfl 0 rfl ?_
    refine v_iconst (pc := 8) (v := nI 1) X dX6_refusal_8 rfl ?_
    refine t_callI (pc := 9) X m_fails (lw_V q2082 q2084 qs38 q109 q2085) hdX6_fails ⟨Nat.le_of_ble_eq_true rfl, Nat.le_of_ble_eq_true rfl⟩ rfl rfl (Nat.le_of_ble_eq_true rfl) dX6_refusal_9 ⟨Nat.le_refl _, Nat.le_refl _⟩ (fun r9 σ9 hp9 => ?_)
    obtain ⟨rfl, rfl⟩ := hp9
    refine v_goto (pc := 12) X 34 dX6_refusal_12 (by decide) ?_
    exact t_iret (pc := 34) X hr dX6_refusal_34 ⟨_, rfl, by unfold refQ; rw [if_pos (by rw [← hw, ← ez]; exact h4)]; exact ⟨hT.keep (((Ch.rf scQ scQN _).num 14 _ (by decide)).num 11 _ (by decide)) (by decide) (by decide), rfl, fun z => by cases z⟩⟩
theorem hdX6_pourable : yX6_pourable.cls = RX6 ∧ yX6_pourable.cls ≠ "java/lang/invoke/MethodHandle" ∧ yX6_pourable.cls ≠ "java/lang/invoke/VarHandle" ∧ (parseMethodDescriptor yX6_pourable.desc).map (fun d => d.parameters.length) = some 0 := by decide +kernel
set_option maxHeartbeats 4000000 in
theorem m_pourable {l_ : Launch} {D : va_G} {dd : Nat → ClassId} {x : Nat} {ad : Nat → Nat} {σ : Tw} {n np : Nat} (hn : σ 0 0 = nI n) (h9 : n ≤ 9) (hp : σ 0 15 = nI np) (hp4 : np ≤ 4) (hPs : PlansOk (σ 0) np) : TM l_ D dd x ad yX6_pourable cX6_pourable 3 (some .int) 2 43 [.ref x] σ (TI (fun r σ' => nI (cntB (fun p => decide (pE (σ 0) p < n - 1)) np) = r ∧ σ = σ')) := by
  refine MW.intro (by decide) (Nat.le_of_ble_eq_true rfl) (fun p_ e_ s_ m_ as_ bl_ me_ c_ A_ X hr hnm => ?_)
  have X : VX p_ s_ m_ as_ me_ c_ cX6_pourable 3 RX6 D dd A_ := X
  refine v_eq (loc' := [(0, .ref x)]) rfl rfl rfl ?_
  refine v_iconst (pc := 0) (v := nI 0) X dX6_pourable_0 rfl ?_
  refine v_istore_n (pc := 1) (loc' := [(1, .int (nI 0)), (0, .ref x)]) X dX6_pourable_1 rfl (by decide) rfl ?_
  refine v_iconst (pc := 2) (v := nI 0) X dX6_pourable_2 rfl ?_
  refine v_istore_n (pc := 3) (loc' := [(2, .int (nI 0)), (1, .int (nI 0)), (0, .ref x)]) X dX6_pourable_3 rfl (by decide) rfl ?_
  refine v_sub [2, 1, 0] rfl ?_
  refine v_loop1 (S := Nat) (fun k => tw x ad dd σ) (fun k => [(0, .ref x), (1, .int (nI (cntB (fun p => decide (pE (σ 0) p < n - 1)) k))), (2, .int (nI k))]) (fun k => k ≤ np) (fun k => np - k) (fun k hI4 ih4 => ?_) 0 (Nat.zero_le _)
  refine v_iload_n (pc := 4) X dX6_pourable_4 rfl 2 rfl ?_
  refine v_aload_n (pc := 5) X dX6_pourable_5 rfl 0 rfl ?_
  refine t_get (pc := 6) X 0 (by decide) q1956 rfl rfl dX6_pourable_6 ?_
  refine v_bipush (pc := 9) (v := nI 15) X dX6_pourable_9 rfl ?_
  refine v_iald (pc := 11) X 1 ta_0 rfl (by omega) (by decide) dX6_pourable_11 ?_
  refine v_top (y := (nI np)) hp ?_
  refine v_ic_geN (pc := 12) X (by omega) (by omega) 37 dX6_pourable_12 (by decide) (fun h12 => ?_) (fun h12 => ?_)
  · refine v_iload_n (pc := 37) X dX6_pourable_37 rfl 1 rfl ?_
    exact t_iret (pc := 38) X hr dX6_pourable_38 ⟨_, rfl, by rw [show k = np by omega], rfl⟩
  · obtain ⟨f, l, sp, hPl⟩ := hPs k (by omega)
    obtain ⟨hbf, hbe, hbL⟩ := hPl.eqs
    refine v_iload_n (pc := 15) X dX6_pourable_15 rfl 1 rfl ?_
    refine v_aload_n (pc := 16) X dX6_pourable_16 rfl 0 rfl ?_
    refine v_iload_n (pc := 17) X dX6_pourable_17 rfl 2 rfl ?_
    refine t_callI (pc := 18) X (m_canBePoured hn h9 (by omega) hPl.2.1 hPl.2.2.2.2.1) (lw_V q2255 q2257 qs65 q109 q2258) hdX6_canBePoured ⟨Nat.le_of_ble_eq_true rfl, Nat.le_of_ble_eq_true rfl⟩ rfl rfl (Nat.le_of_ble_eq_true rfl) dX6_pourable_18 ⟨Nat.le_refl _, Nat.le_refl _⟩ (fun r18 σ18 hp18 => ?_)
    obtain ⟨rfl, rfl⟩ := hp18
    refine v_if_eqB (pc := 21) X 28 dX6_pourable_21 (by decide) (fun h21 => ?_) (fun h21 => ?_)
    · refine v_iconst (pc := 28) (v := nI 0) X dX6_pourable_28 rfl ?_
      refine v_iaddN (pc := 29) X dX6_pourable_29 ?_
      refine v_top (y := (nI (cntB (fun p => decide (pE (σ 0) p < n - 1)) (k + 1)))) (by show _ = nI (_ + if _ then 1 else 0); rw [if_neg (by show ¬ decide (pE (σ 0) k < n - 1) = true; rw [hbe]; simpa using h21)]) ?_
      refine v_istore_n (pc := 30) (loc' := [(1, .int (nI (cntB (fun p => decide (pE (σ 0) p < n - 1)) (k + 1)))), (0, .ref x), (2, .int (nI k))]) X dX6_pourable_30 rfl (by decide) rfl ?_
      refine v_iinc (pc := 31) (v := (nI (k + 1))) (loc' := [(2, .int (nI (k + 1))), (1, .int (nI (cntB (fun p => decide (pE (σ 0) p < n - 1)) (k + 1)))), (0, .ref x)]) X dX6_pourable_31 2 rfl (nI_add _ 1) (by decide) rfl ?_
      refine v_goto (pc := 34) X 4 dX6_pourable_34 (by decide) ?_
      refine v_sub [2, 1, 0] rfl ?_
      exact ih4 (k + 1) (by omega) (by omega)
    · refine v_iconst (pc := 24) (v := nI 1) X dX6_pourable_24 rfl ?_
      refine v_goto (pc := 25) X 29 dX6_pourable_25 (by decide) ?_
      refine v_iaddN (pc := 29) X dX6_pourable_29 ?_
      refine v_top (y := (nI (cntB (fun p => decide (pE (σ 0) p < n - 1)) (k + 1)))) (by show _ = nI (_ + if _ then 1 else 0); rw [if_pos (by show decide (pE (σ 0) k < n - 1) = true; rw [hbe]; simpa using h21)]) ?_
      refine v_istore_n (pc := 30) (loc' := [(1, .int (nI (cntB (fun p => decide (pE (σ 0) p < n - 1)) (k + 1)))), (0, .ref x), (2, .int (nI k))]) X dX6_pourable_30 rfl (by decide) rfl ?_
      refine v_iinc (pc := 31) (v := (nI (k + 1))) (loc' := [(2, .int (nI (k + 1))), (1, .int (nI (cntB (fun p => decide (pE (σ 0) p < n - 1)) (k + 1)))), (0, .ref x)]) X dX6_pourable_31 2 rfl (nI_add _ 1) (by decide) rfl ?_
      refine v_goto (pc := 34) X 4 dX6_pourable_34 (by decide) ?_
      refine v_sub [2, 1, 0] rfl ?_
      exact ih4 (k + 1) (by omega) (by omega)
theorem hdX6_allMost : yX6_allMost.cls = RX6 ∧ yX6_allMost.cls ≠ "java/lang/invoke/MethodHandle" ∧ yX6_allMost.cls ≠ "java/lang/invoke/VarHandle" ∧ (parseMethodDescriptor yX6_allMost.desc).map (fun d => d.parameters.length) = some 0 := by decide +kernel
set_option maxHeartbeats 4000000 in
theorem m_allMost {l_ : Launch} {D : va_G} {dd : Nat → ClassId} {x : Nat} {ad : Nat → Nat} {σ : Tw} {n : Nat} {sd : Nat → Nat} (hn : σ 0 0 = nI n) (h9 : n ≤ 9) (hsd : SdOf (σ 0) sd) (h50 : ∀ i, sd i ≤ 50) : TM l_ D dd x ad yX6_allMost cX6_allMost 1 (some .int) 3 75 [.ref x] σ (TI (fun r σ' => r = nI (allM n sd) ∧ Ch sc5 [] σ σ')) := by
  refine MW.intro (by decide) (Nat.le_of_ble_eq_true rfl) (fun p_ e_ s_ m_ as_ bl_ me_ c_ A_ X hr hnm => ?_)
  have X : VX p_ s_ m_ as_ me_ c_ cX6_allMost 1 RX6 D dd A_ := X
  refine v_eq (loc' := [(0, .ref x)]) rfl rfl rfl ?_
  refine v_aload_n (pc := 0) X dX6_allMost_0 rfl 0 rfl ?_
  refine t_callV (pc := 1) X (m_reckons hn h9 hsd h50) (lw_V q2163 q2165 qs51 q109 q2166) hdX6_reckons ⟨Nat.le_of_ble_eq_true rfl, Nat.le_of_ble_eq_true rfl⟩ rfl rfl (Nat.le_of_ble_eq_true rfl) dX6_allMost_1 ⟨Nat.le_refl _, Nat.le_refl _⟩ (fun σ1 hp1 => ?_)
  refine v_aload_n (pc := 4) X dX6_allMost_4 rfl 0 rfl ?_
  refine t_callI (pc := 5) X (m_vats (by rw [hp1.1.1 0 (by decide) (by decide)]; exact hn) h9) (lw_V q2090 q2092 qs40 q109 q2093) hdX6_vats ⟨Nat.le_of_ble_eq_true rfl, Nat.le_of_ble_eq_true rfl⟩ rfl rfl (Nat.le_of_ble_eq_true rfl) dX6_allMost_5 ⟨Nat.le_refl _, Nat.le_refl _⟩ (fun r5 σ5 hp5 => ?_)
  obtain ⟨rfl, rfl⟩ := hp5
  refine v_if_neN (pc := 8) X (by omega) 15 dX6_allMost_8 (by decide) (fun h8 => ?_) (fun h8 => ?_)
  · refine v_aload_n (pc := 15) X dX6_allMost_15 rfl 0 rfl ?_
    refine t_get (pc := 16) X 16 (by decide) q1972 rfl rfl dX6_allMost_16 ?_
    refine v_aload_n (pc := 19) X dX6_allMost_19 rfl 0 rfl ?_
    refine t_callI (pc := 20) X (m_vats (by rw [hp1.1.1 0 (by decide) (by decide)]; exact hn) h9) (lw_V q2090 q2092 qs40 q109 q2093) hdX6_vats ⟨Nat.le_of_ble_eq_true rfl, Nat.le_of_ble_eq_true rfl⟩ rfl rfl (Nat.le_of_ble_eq_true rfl) dX6_allMost_20 ⟨Nat.le_refl _, Nat.le_refl _⟩ (fun r20 σ20 hp20 => ?_)
    obtain ⟨rfl, rfl⟩ := hp20
    refine v_iconst (pc := 23) (v := nI 1) X dX6_allMost_23 rfl ?_
    refine v_isubN (pc := 24) X (by omega) dX6_allMost_24 ?_
    refine v_iald (pc := 25) X 8 ta_16 rfl (by omega) (by decide) dX6_allMost_25 ?_
    refine v_top (y := (nI ((Dv sd 0 (n - 1 - 1)).2.1))) (by have := (hp1.2 0 (n - 1 - 1) (by omega) (by omega)).2.1; rw [show 8 * 0 + (n - 1 - 1) = n - 1 - 1 by omega] at this; exact this) ?_
    exact t_iret (pc := 26) X hr dX6_allMost_26 ⟨_, rfl, by unfold allM; rw [if_neg h8], hp1.1⟩
  · refine v_iconst (pc := 11) (v := nI 0) X dX6_allMost_11 rfl ?_
    refine v_goto (pc := 12) X 26 dX6_allMost_12 (by decide) ?_
    exact t_iret (pc := 26) X hr dX6_allMost_26 ⟨_, rfl, by unfold allM; rw [if_pos h8], hp1.1⟩
theorem hdX6_sum : yX6_sum.cls = RX6 ∧ yX6_sum.cls ≠ "java/lang/invoke/MethodHandle" ∧ yX6_sum.cls ≠ "java/lang/invoke/VarHandle" ∧ (parseMethodDescriptor yX6_sum.desc).map (fun d => d.parameters.length) = some 0 := by decide +kernel
set_option maxHeartbeats 4000000 in
theorem m_sum {l_ : Launch} {D : va_G} {dd : Nat → ClassId} {x : Nat} {ad : Nat → Nat} {σ : Tw} {n : Nat} {sd : Nat → Nat} (hn : σ 0 0 = nI n) (h9 : n ≤ 9) (hsd : SdOf (σ 0) sd) (h50 : ∀ i, sd i ≤ 50) : TM l_ D dd x ad yX6_sum cX6_sum 3 (some .int) 0 0 [.ref x] σ (TI (fun r σ' => nI (sumS sd n) = r ∧ σ = σ')) := by
  refine MW.intro (by decide) (Nat.le_of_ble_eq_true rfl) (fun p_ e_ s_ m_ as_ bl_ me_ c_ A_ X hr hnm => ?_)
  have X : VX p_ s_ m_ as_ me_ c_ cX6_sum 3 RX6 D dd A_ := X
  refine v_eq (loc' := [(0, .ref x)]) rfl rfl rfl ?_
  refine v_iconst (pc := 0) (v := nI 0) X dX6_sum_0 rfl ?_
  refine v_istore_n (pc := 1) (loc' := [(1, .int (nI 0)), (0, .ref x)]) X dX6_sum_1 rfl (by decide) rfl ?_
  refine v_iconst (pc := 2) (v := nI 0) X dX6_sum_2 rfl ?_
  refine v_istore_n (pc := 3) (loc' := [(2, .int (nI 0)), (1, .int (nI 0)), (0, .ref x)]) X dX6_sum_3 rfl (by decide) rfl ?_
  refine v_sub [2, 1, 0] rfl ?_
  refine v_loop1 (S := Nat) (fun k => tw x ad dd σ) (fun k => [(0, .ref x), (1, .int (nI (sumS sd k))), (2, .int (nI k))]) (fun k => k ≤ n) (fun k => n - k) (fun k hI4 ih4 => ?_) 0 (Nat.zero_le _)
  refine v_iload_n (pc := 4) X dX6_sum_4 rfl 2 rfl ?_
  refine v_aload_n (pc := 5) X dX6_sum_5 rfl 0 rfl ?_
  refine t_get (pc := 6) X 0 (by decide) q1956 rfl rfl dX6_sum_6 ?_
  refine v_iconst (pc := 9) (v := nI 0) X dX6_sum_9 rfl ?_
  refine v_iald (pc := 10) X 1 ta_0 rfl (by omega) (by decide) dX6_sum_10 ?_
  refine v_top (y := (nI n)) hn ?_
  refine v_ic_geN (pc := 11) X (by omega) (by omega) 31 dX6_sum_11 (by decide) (fun h11 => ?_) (fun h11 => ?_)
  · refine v_iload_n (pc := 31) X dX6_sum_31 rfl 1 rfl ?_
    exact t_iret (pc := 32) X hr dX6_sum_32 ⟨_, rfl, by rw [show k = n by omega], rfl⟩
  · refine v_iload_n (pc := 14) X dX6_sum_14 rfl 1 rfl ?_
    refine v_aload_n (pc := 15) X dX6_sum_15 rfl 0 rfl ?_
    refine t_get (pc := 16) X 0 (by decide) q1956 rfl rfl dX6_sum_16 ?_
    refine v_iconst (pc := 19) (v := nI 1) X dX6_sum_19 rfl ?_
    refine v_iload_n (pc := 20) X dX6_sum_20 rfl 2 rfl ?_
    refine v_iaddN (pc := 21) X dX6_sum_21 ?_
    refine v_iald (pc := 22) X 1 ta_0 rfl (by omega) (by decide) dX6_sum_22 ?_
    refine v_top (y := (nI (sd k))) (hsd k (by omega)) ?_
    refine v_iaddN (pc := 23) X dX6_sum_23 ?_
    refine v_top (y := (nI (sumS sd (k + 1)))) rfl ?_
    refine v_istore_n (pc := 24) (loc' := [(1, .int (nI (sumS sd (k + 1)))), (0, .ref x), (2, .int (nI k))]) X dX6_sum_24 rfl (by decide) rfl ?_
    refine v_iinc (pc := 25) (v := (nI (k + 1))) (loc' := [(2, .int (nI (k + 1))), (1, .int (nI (sumS sd (k + 1)))), (0, .ref x)]) X dX6_sum_25 2 rfl (nI_add _ 1) (by decide) rfl ?_
    refine v_goto (pc := 28) X 4 dX6_sum_28 (by decide) ?_
    refine v_sub [2, 1, 0] rfl ?_
    exact ih4 (k + 1) (by omega) (by omega)
theorem hdX6_account : yX6_account.cls = RX6 ∧ yX6_account.cls ≠ "java/lang/invoke/MethodHandle" ∧ yX6_account.cls ≠ "java/lang/invoke/VarHandle" ∧ (parseMethodDescriptor yX6_account.desc).map (fun d => d.parameters.length) = some 1 := by decide +kernel
set_option maxHeartbeats 4000000 in
theorem m_account {l_ : Launch} {D : va_G} {dd : Nat → ClassId} {x : Nat} {ad : Nat → Nat} {σ : Tw} {a : AS} {w : Int32} (hT : TRel σ a) : TM l_ D dd x ad yX6_account cX6_account 2 (some .int) 5 117 [.ref x, .int w] σ (TI (fun r σ' => TOut a (accQ a w).1 (accQ a w).2 r σ')) := by
  obtain ⟨hwf, hnS, hnC, hnP⟩ := hT.f
  obtain ⟨hn, h9, hsd, h50, hs1, hS, hp, hp4, hPs⟩ := id hwf
  have hsde : sdN (σ 0) = sdN a.1 := sdN_eq hT.1
  have hste : stN (σ 0) = stN a.1 := stN_eq hT.1
  rw [hsde] at hsd h50 hs1
  obtain ⟨n, hnd⟩ : ∃ n, n = nS (σ 0) := ⟨_, rfl⟩
  have hpq : cntB (fun p => decide (pE (σ 0) p < nS (σ 0) - 1)) (nP (σ 0)) = cntB (fun p => decide (pE a.1 p < nS a.1 - 1)) (nP a.1) := by
    rw [hnP, hnS]
    refine cntB_congr (fun i hi => ?_)
    obtain ⟨f, l, sp, hPl⟩ := hPs i (by omega)
    rw [hPl.eqs.2.1, (pE_eq hPl hT.1 (by omega)).eqs.2.1]
  refine MW.intro (by decide) (Nat.le_of_ble_eq_true rfl) (fun p_ e_ s_ m_ as_ bl_ me_ c_ A_ X hr hnm => ?_)
  have X : VX p_ s_ m_ as_ me_ c_ cX6_account 2 RX6 D dd A_ := X
  refine v_eq (loc' := [(0, .ref x), (1, .int w)]) rfl rfl rfl ?_
  refine v_iload_n (pc := 0) X dX6_account_0 rfl 1 rfl ?_
  rcases tab_of w 9 with ⟨j1, hj1, ht1⟩ | ht1
  · rcases (show j1 = 0 ∨ j1 = 1 ∨ j1 = 2 ∨ j1 = 3 ∨ j1 = 4 ∨ j1 = 5 ∨ j1 = 6 ∨ j1 = 7 ∨ j1 = 8 ∨ j1 = 9 by omega) with rfl | rfl | rfl | rfl | rfl | rfl | rfl | rfl | rfl | rfl
    · refine v_top (y := nI 0) ht1 ?_
      refine v_tabIn (pc := 1) X 56 dX6_account_1 (by decide) (by decide) rfl (by decide) ?_
      refine v_aload_n (pc := 56) X dX6_account_56 rfl 0 rfl ?_
      refine v_aload_n (pc := 57) X dX6_account_57 rfl 0 rfl ?_
      refine t_get (pc := 58) X 0 (by decide) q1956 rfl rfl dX6_account_58 ?_
      refine v_iconst (pc := 61) (v := nI 0) X dX6_account_61 rfl ?_
      refine v_iald (pc := 62) X 1 ta_0 rfl (by omega) (by decide) dX6_account_62 ?_
      refine v_top (y := (nI (nS (σ 0)))) hn ?_
      refine t_callI (pc := 63) X m_done (lw_V q2094 q2096 qs41 q109 q2097) hdX6_done ⟨Nat.le_of_ble_eq_true rfl, Nat.le_of_ble_eq_true rfl⟩ rfl rfl (Nat.le_of_ble_eq_true rfl) dX6_account_63 ⟨Nat.le_refl _, Nat.le_refl _⟩ (fun r63 σ63 hp63 => ?_)
      obtain ⟨rfl, rfl⟩ := hp63
      exact t_iret (pc := 66) X hr dX6_account_66 ⟨_, rfl, by unfold accQ; rw [if_pos ht1]; exact ⟨hT.keep ((Ch.rf scQ scQN _).num 14 _ (by decide)) (by decide) (by decide), rfl, fun _ => by rw [hnS]⟩⟩
    · refine v_top (y := nI 1) ht1 ?_
      refine v_tabIn (pc := 1) X 67 dX6_account_1 (by decide) (by decide) rfl (by decide) ?_
      refine v_aload_n (pc := 67) X dX6_account_67 rfl 0 rfl ?_
      refine v_aload_n (pc := 68) X dX6_account_68 rfl 0 rfl ?_
      refine t_callI (pc := 69) X (m_vats hn h9) (lw_V q2090 q2092 qs40 q109 q2093) hdX6_vats ⟨Nat.le_of_ble_eq_true rfl, Nat.le_of_ble_eq_true rfl⟩ rfl rfl (Nat.le_of_ble_eq_true rfl) dX6_account_69 ⟨Nat.le_refl _, Nat.le_refl _⟩ (fun r69 σ69 hp69 => ?_)
      obtain ⟨rfl, rfl⟩ := hp69
      refine t_callI (pc := 72) X m_done (lw_V q2094 q2096 qs41 q109 q2097) hdX6_done ⟨Nat.le_of_ble_eq_true rfl, Nat.le_of_ble_eq_true rfl⟩ rfl rfl (Nat.le_of_ble_eq_true rfl) dX6_account_72 ⟨Nat.le_refl _, Nat.le_refl _⟩ (fun r72 σ72 hp72 => ?_)
      obtain ⟨rfl, rfl⟩ := hp72
      exact t_iret (pc := 75) X hr dX6_account_75 ⟨_, rfl, by unfold accQ; rw [if_neg (by rw [ht1]; decide), if_pos ht1]; exact ⟨hT.keep ((Ch.rf scQ scQN _).num 14 _ (by decide)) (by decide) (by decide), rfl, fun _ => by rw [hnS]⟩⟩
    · refine v_top (y := nI 2) ht1 ?_
      refine v_tabIn (pc := 1) X 76 dX6_account_1 (by decide) (by decide) rfl (by decide) ?_
      refine v_aload_n (pc := 76) X dX6_account_76 rfl 0 rfl ?_
      refine v_aload_n (pc := 77) X dX6_account_77 rfl 0 rfl ?_
      refine t_get (pc := 78) X 0 (by decide) q1956 rfl rfl dX6_account_78 ?_
      refine v_bipush (pc := 81) (v := nI 10) X dX6_account_81 rfl ?_
      refine v_iald (pc := 83) X 1 ta_0 rfl (by omega) (by decide) dX6_account_83 ?_
      refine v_top (y := (nI (nC (σ 0)))) hS.1 ?_
      refine t_callI (pc := 84) X m_done (lw_V q2094 q2096 qs41 q109 q2097) hdX6_done ⟨Nat.le_of_ble_eq_true rfl, Nat.le_of_ble_eq_true rfl⟩ rfl rfl (Nat.le_of_ble_eq_true rfl) dX6_account_84 ⟨Nat.le_refl _, Nat.le_refl _⟩ (fun r84 σ84 hp84 => ?_)
      obtain ⟨rfl, rfl⟩ := hp84
      exact t_iret (pc := 87) X hr dX6_account_87 ⟨_, rfl, by unfold accQ; rw [if_neg (by rw [ht1]; decide), if_neg (by rw [ht1]; decide), if_pos ht1]; exact ⟨hT.keep ((Ch.rf scQ scQN _).num 14 _ (by decide)) (by decide) (by decide), rfl, fun _ => by rw [hnC]⟩⟩
    · refine v_top (y := nI 3) ht1 ?_
      refine v_tabIn (pc := 1) X 88 dX6_account_1 (by decide) (by decide) rfl (by decide) ?_
      refine v_aload_n (pc := 88) X dX6_account_88 rfl 0 rfl ?_
      refine v_aload_n (pc := 89) X dX6_account_89 rfl 0 rfl ?_
      refine t_get (pc := 90) X 0 (by decide) q1956 rfl rfl dX6_account_90 ?_
      refine v_bipush (pc := 93) (v := nI 15) X dX6_account_93 rfl ?_
      refine v_iald (pc := 95) X 1 ta_0 rfl (by omega) (by decide) dX6_account_95 ?_
      refine v_top (y := (nI (nP (σ 0)))) hp ?_
      refine t_callI (pc := 96) X m_done (lw_V q2094 q2096 qs41 q109 q2097) hdX6_done ⟨Nat.le_of_ble_eq_true rfl, Nat.le_of_ble_eq_true rfl⟩ rfl rfl (Nat.le_of_ble_eq_true rfl) dX6_account_96 ⟨Nat.le_refl _, Nat.le_refl _⟩ (fun r96 σ96 hp96 => ?_)
      obtain ⟨rfl, rfl⟩ := hp96
      exact t_iret (pc := 99) X hr dX6_account_99 ⟨_, rfl, by unfold accQ; rw [if_neg (by rw [ht1]; decide), if_neg (by rw [ht1]; decide), if_neg (by rw [ht1]; decide), if_pos ht1]; exact ⟨hT.keep ((Ch.rf scQ scQN _).num 14 _ (by decide)) (by decide) (by decide), rfl, fun _ => by rw [hnP]⟩⟩
    · refine v_top (y := nI 4) ht1 ?_
      refine v_tabIn (pc := 1) X 100 dX6_account_1 (by decide) (by decide) rfl (by decide) ?_
      refine v_aload_n (pc := 100) X dX6_account_100 rfl 0 rfl ?_
      refine v_aload_n (pc := 101) X dX6_account_101 rfl 0 rfl ?_
      refine t_callI (pc := 102) X (m_pourable hn h9 hp hp4 hPs) (lw_V q2399 q2401 qs87 q109 q2402) hdX6_pourable ⟨Nat.le_of_ble_eq_true rfl, Nat.le_of_ble_eq_true rfl⟩ rfl rfl (Nat.le_of_ble_eq_true rfl) dX6_account_102 ⟨Nat.le_refl _, Nat.le_refl _⟩ (fun r102 σ102 hp102 => ?_)
      obtain ⟨rfl, rfl⟩ := hp102
      refine t_callI (pc := 105) X m_done (lw_V q2094 q2096 qs41 q109 q2097) hdX6_done ⟨Nat.le_of_ble_eq_true rfl, Nat.le_of_ble_eq_true rfl⟩ rfl rfl (Nat.le_of_ble_eq_true rfl) dX6_account_105 ⟨Nat.le_refl _, Nat.le_refl _⟩ (fun r105 σ105 hp105 => ?_)
      obtain ⟨rfl, rfl⟩ := hp105
      exact t_iret (pc := 108) X hr dX6_account_108 ⟨_, rfl, by unfold accQ; rw [if_neg (by rw [ht1]; decide), if_neg (by rw [ht1]; decide), if_neg (by rw [ht1]; decide), if_neg (by rw [ht1]; decide), if_pos ht1]; exact ⟨hT.keep ((Ch.rf scQ scQN _).num 14 _ (by decide)) (by decide) (by decide), rfl, fun _ => by rw [hpq]⟩⟩
    · refine v_top (y := nI 5) ht1 ?_
      refine v_tabIn (pc := 1) X 109 dX6_account_1 (by decide) (by decide) rfl (by decide) ?_
      refine v_aload_n (pc := 109) X dX6_account_109 rfl 0 rfl ?_
      refine v_aload_n (pc := 110) X dX6_account_110 rfl 0 rfl ?_
      refine t_callI (pc := 111) X (m_allLeast hn h9 hsd h50) (lw_V q2195 q2197 qs54 q109 q2198) hdX6_allLeast ⟨Nat.le_of_ble_eq_true rfl, Nat.le_of_ble_eq_true rfl⟩ rfl rfl (Nat.le_of_ble_eq_true rfl) dX6_account_111 ⟨Nat.le_refl _, Nat.le_refl _⟩ (fun r111 σ111 hp111 => ?_)
      obtain ⟨rfl, hp111⟩ := hp111
      refine t_callI (pc := 114) X m_done (lw_V q2094 q2096 qs41 q109 q2097) hdX6_done ⟨Nat.le_of_ble_eq_true rfl, Nat.le_of_ble_eq_true rfl⟩ rfl rfl (Nat.le_of_ble_eq_true rfl) dX6_account_114 ⟨Nat.le_refl _, Nat.le_refl _⟩ (fun r114 σ114 hp114 => ?_)
      obtain ⟨rfl, rfl⟩ := hp114
      exact t_iret (pc := 117) X hr dX6_account_117 ⟨_, rfl, by unfold accQ; rw [if_neg (by rw [ht1]; decide), if_neg (by rw [ht1]; decide), if_neg (by rw [ht1]; decide), if_neg (by rw [ht1]; decide), if_neg (by rw [ht1]; decide), if_pos ht1]; exact ⟨hT.keep ((sc5Q hp111).num 14 _ (by decide)) (by decide) (by decide), rfl, fun _ => by rw [hnS]⟩⟩
    · refine v_top (y := nI 6) ht1 ?_
      refine v_tabIn (pc := 1) X 118 dX6_account_1 (by decide) (by decide) rfl (by decide) ?_
      refine v_aload_n (pc := 118) X dX6_account_118 rfl 0 rfl ?_
      refine v_aload_n (pc := 119) X dX6_account_119 rfl 0 rfl ?_
      refine t_callI (pc := 120) X (m_allMost hn h9 hsd h50) (lw_V q2403 q2405 qs88 q109 q2406) hdX6_allMost ⟨Nat.le_of_ble_eq_true rfl, Nat.le_of_ble_eq_true rfl⟩ rfl rfl (Nat.le_of_ble_eq_true rfl) dX6_account_120 ⟨Nat.le_refl _, Nat.le_refl _⟩ (fun r120 σ120 hp120 => ?_)
      obtain ⟨rfl, hp120⟩ := hp120
      refine t_callI (pc := 123) X m_done (lw_V q2094 q2096 qs41 q109 q2097) hdX6_done ⟨Nat.le_of_ble_eq_true rfl, Nat.le_of_ble_eq_true rfl⟩ rfl rfl (Nat.le_of_ble_eq_true rfl) dX6_account_123 ⟨Nat.le_refl _, Nat.le_refl _⟩ (fun r123 σ123 hp123 => ?_)
      obtain ⟨rfl, rfl⟩ := hp123
      exact t_iret (pc := 126) X hr dX6_account_126 ⟨_, rfl, by unfold accQ; rw [if_neg (by rw [ht1]; decide), if_neg (by rw [ht1]; decide), if_neg (by rw [ht1]; decide), if_neg (by rw [ht1]; decide), if_neg (by rw [ht1]; decide), if_neg (by rw [ht1]; decide), if_pos ht1]; exact ⟨hT.keep ((sc5Q hp120).num 14 _ (by decide)) (by decide) (by decide), rfl, fun _ => by rw [hnS]⟩⟩
    · refine v_top (y := nI 7) ht1 ?_
      refine v_tabIn (pc := 1) X 127 dX6_account_1 (by decide) (by decide) rfl (by decide) ?_
      refine v_aload_n (pc := 127) X dX6_account_127 rfl 0 rfl ?_
      refine v_aload_n (pc := 128) X dX6_account_128 rfl 0 rfl ?_
      refine t_callI (pc := 129) X (m_sum hn h9 hsd h50) (lw_V q2407 q2409 qs89 q109 q2410) hdX6_sum ⟨Nat.le_of_ble_eq_true rfl, Nat.le_of_ble_eq_true rfl⟩ rfl rfl (Nat.le_of_ble_eq_true rfl) dX6_account_129 ⟨Nat.le_refl _, Nat.le_refl _⟩ (fun r129 σ129 hp129 => ?_)
      obtain ⟨rfl, rfl⟩ := hp129
      refine t_callI (pc := 132) X m_done (lw_V q2094 q2096 qs41 q109 q2097) hdX6_done ⟨Nat.le_of_ble_eq_true rfl, Nat.le_of_ble_eq_true rfl⟩ rfl rfl (Nat.le_of_ble_eq_true rfl) dX6_account_132 ⟨Nat.le_refl _, Nat.le_refl _⟩ (fun r132 σ132 hp132 => ?_)
      obtain ⟨rfl, rfl⟩ := hp132
      exact t_iret (pc := 135) X hr dX6_account_135 ⟨_, rfl, by unfold accQ; rw [if_neg (by rw [ht1]; decide), if_neg (by rw [ht1]; decide), if_neg (by rw [ht1]; decide), if_neg (by rw [ht1]; decide), if_neg (by rw [ht1]; decide), if_neg (by rw [ht1]; decide), if_neg (by rw [ht1]; decide), if_pos ht1]; exact ⟨hT.keep ((Ch.rf scQ scQN _).num 14 _ (by decide)) (by decide) (by decide), rfl, fun _ => by rw [hnS]⟩⟩
    · refine v_top (y := nI 8) ht1 ?_
      refine v_tabIn (pc := 1) X 136 dX6_account_1 (by decide) (by decide) rfl (by decide) ?_
      refine v_aload_n (pc := 136) X dX6_account_136 rfl 0 rfl ?_
      refine v_aload_n (pc := 137) X dX6_account_137 rfl 0 rfl ?_
      refine t_get (pc := 138) X 7 (by decide) q1963 rfl rfl dX6_account_138 ?_
      refine v_top (y := (nI a.2.2.2.1.length)) hT.2.2.2.2.2.2.1.2.1 ?_
      refine t_callI (pc := 141) X m_done (lw_V q2094 q2096 qs41 q109 q2097) hdX6_done ⟨Nat.le_of_ble_eq_true rfl, Nat.le_of_ble_eq_true rfl⟩ rfl rfl (Nat.le_of_ble_eq_true rfl) dX6_account_141 ⟨Nat.le_refl _, Nat.le_refl _⟩ (fun r141 σ141 hp141 => ?_)
      obtain ⟨rfl, rfl⟩ := hp141
      exact t_iret (pc := 144) X hr dX6_account_144 ⟨_, rfl, by unfold accQ; rw [if_neg (by rw [ht1]; decide), if_neg (by rw [ht1]; decide), if_neg (by rw [ht1]; decide), if_neg (by rw [ht1]; decide), if_neg (by rw [ht1]; decide), if_neg (by rw [ht1]; decide), if_neg (by rw [ht1]; decide), if_neg (by rw [ht1]; decide), if_pos ht1]; exact ⟨hT.keep ((Ch.rf scQ scQN _).num 14 _ (by decide)) (by decide) (by decide), rfl, fun _ => rfl⟩⟩
    · refine v_top (y := nI 9) ht1 ?_
      refine v_tabIn (pc := 1) X 145 dX6_account_1 (by decide) (by decide) rfl (by decide) ?_
      refine v_aload_n (pc := 145) X dX6_account_145 rfl 0 rfl ?_
      refine v_aload_n (pc := 146) X dX6_account_146 rfl 0 rfl ?_
      refine t_get (pc := 147) X 3 (by decide) q1959 rfl rfl dX6_account_147 ?_
      refine v_top (y := (nI a.2.1.length)) hT.2.2.1.1 ?_
      refine t_callI (pc := 150) X m_done (lw_V q2094 q2096 qs41 q109 q2097) hdX6_done ⟨Nat.le_of_ble_eq_true rfl, Nat.le_of_ble_eq_true rfl⟩ rfl rfl (Nat.le_of_ble_eq_true rfl) dX6_account_150 ⟨Nat.le_refl _, Nat.le_refl _⟩ (fun r150 σ150 hp150 => ?_)
      obtain ⟨rfl, rfl⟩ := hp150
      exact t_iret (pc := 153) X hr dX6_account_153 ⟨_, rfl, by unfold accQ; rw [if_neg (by rw [ht1]; decide), if_neg (by rw [ht1]; decide), if_neg (by rw [ht1]; decide), if_neg (by rw [ht1]; decide), if_neg (by rw [ht1]; decide), if_neg (by rw [ht1]; decide), if_neg (by rw [ht1]; decide), if_neg (by rw [ht1]; decide), if_neg (by rw [ht1]; decide), if_pos ht1]; exact ⟨hT.keep ((Ch.rf scQ scQN _).num 14 _ (by decide)) (by decide) (by decide), rfl, fun _ => rfl⟩⟩
  · refine v_tabOut (pc := 1) X 154 dX6_account_1 ht1 (by decide) ?_
    refine v_aload_n (pc := 154) X dX6_account_154 rfl 0 rfl ?_
    refine v_iconst (pc := 155) (v := nI 1) X dX6_account_155 rfl ?_
    refine t_callI (pc := 156) X m_fails (lw_V q2082 q2084 qs38 q109 q2085) hdX6_fails ⟨Nat.le_of_ble_eq_true rfl, Nat.le_of_ble_eq_true rfl⟩ rfl rfl (Nat.le_of_ble_eq_true rfl) dX6_account_156 ⟨Nat.le_refl _, Nat.le_refl _⟩ (fun r156 σ156 hp156 => ?_)
    obtain ⟨rfl, rfl⟩ := hp156
    exact t_iret (pc := 159) X hr dX6_account_159 ⟨_, rfl, by unfold accQ; rw [if_neg (out_ne ht1 (by decide) (by decide)), if_neg (out_ne ht1 (by decide) (by decide)), if_neg (out_ne ht1 (by decide) (by decide)), if_neg (out_ne ht1 (by decide) (by decide)), if_neg (out_ne ht1 (by decide) (by decide)), if_neg (out_ne ht1 (by decide) (by decide)), if_neg (out_ne ht1 (by decide) (by decide)), if_neg (out_ne ht1 (by decide) (by decide)), if_neg (out_ne ht1 (by decide) (by decide)), if_neg (out_ne ht1 (by decide) (by decide))]; exact ⟨hT.keep (((Ch.rf scQ scQN _).num 14 _ (by decide)).num 11 _ (by decide)) (by decide) (by decide), rfl, fun z => by cases z⟩⟩
theorem hdX6_isWell : yX6_isWell.cls = RX6 ∧ yX6_isWell.cls ≠ "java/lang/invoke/MethodHandle" ∧ yX6_isWell.cls ≠ "java/lang/invoke/VarHandle" ∧ (parseMethodDescriptor yX6_isWell.desc).map (fun d => d.parameters.length) = some 0 := by decide +kernel
set_option maxHeartbeats 4000000 in
theorem m_isWell {l_ : Launch} {D : va_G} {dd : Nat → ClassId} {x : Nat} {ad : Nat → Nat} {σ : Tw} {a : AS} (hT : TRel σ a) : TM l_ D dd x ad yX6_isWell cX6_isWell 1 (some .boolean) 0 0 [.ref x] σ (TI (fun r σ' => TOut a 0 1 r σ')) := by
  refine MW.intro (by decide) (Nat.le_of_ble_eq_true rfl) (fun p_ e_ s_ m_ as_ bl_ me_ c_ A_ X hr hnm => ?_)
  have X : VX p_ s_ m_ as_ me_ c_ cX6_isWell 1 RX6 D dd A_ := X
  refine v_eq (loc' := [(0, .ref x)]) rfl rfl rfl ?_
  refine v_aload_n (pc := 0) X dX6_isWell_0 rfl 0 rfl ?_
  refine v_iconst (pc := 1) (v := nI 0) X dX6_isWell_1 rfl ?_
  refine t_put (pc := 2) X 14 (by decide) q1970 rfl rfl rfl rfl dX6_isWell_2 (tf_14 _) ?_
  refine v_iconst (pc := 5) (v := nI 1) X dX6_isWell_5 rfl ?_
  exact t_zret (pc := 6) X hr rfl dX6_isWell_6 ⟨_, rfl, hT.keep ((Ch.rf scQ scQN _).num 14 _ (by decide)) (by decide) (by decide), rfl, fun _ => rfl⟩
theorem hdX6_meanSide : yX6_meanSide.cls = RX6 ∧ yX6_meanSide.cls ≠ "java/lang/invoke/MethodHandle" ∧ yX6_meanSide.cls ≠ "java/lang/invoke/VarHandle" ∧ (parseMethodDescriptor yX6_meanSide.desc).map (fun d => d.parameters.length) = some 0 := by decide +kernel
set_option maxHeartbeats 4000000 in
theorem m_meanSide {l_ : Launch} {D : va_G} {dd : Nat → ClassId} {x : Nat} {ad : Nat → Nat} {σ : Tw} {a : AS} (hT : TRel σ a) : TM l_ D dd x ad yX6_meanSide cX6_meanSide 1 (some .double) 1 22 [.ref x] σ (TD (fun r σ' => TRel σ' a ∧ (σ' 99 14 = nI (if nS a.1 = 0 then 1 else 0)) ∧ (nS a.1 ≠ 0 → r = FP.ddiv (FP.i2d (nI (sumS (sdN a.1) (nS a.1)))) (FP.i2d (nI (nS a.1)))))) := by
  obtain ⟨hwf, hnS, hnC, hnP⟩ := hT.f
  obtain ⟨hn, h9, hsd, h50, hs1, hS, hp, hp4, hPs⟩ := id hwf
  have hsde : sdN (σ 0) = sdN a.1 := sdN_eq hT.1
  have hste : stN (σ 0) = stN a.1 := stN_eq hT.1
  rw [hsde] at hsd h50 hs1
  refine MW.intro (by decide) (Nat.le_of_ble_eq_true rfl) (fun p_ e_ s_ m_ as_ bl_ me_ c_ A_ X hr hnm => ?_)
  have X : VX p_ s_ m_ as_ me_ c_ cX6_meanSide 1 RX6 D dd A_ := X
  refine v_eq (loc' := [(0, .ref x)]) rfl rfl rfl ?_
  refine v_aload_n (pc := 0) X dX6_meanSide_0 rfl 0 rfl ?_
  refine v_aload_n (pc := 1) X dX6_meanSide_1 rfl 0 rfl ?_
  refine t_get (pc := 2) X 0 (by decide) q1956 rfl rfl dX6_meanSide_2 ?_
  refine v_iconst (pc := 5) (v := nI 0) X dX6_meanSide_5 rfl ?_
  refine v_iald (pc := 6) X 1 ta_0 rfl (by omega) (by decide) dX6_meanSide_6 ?_
  refine v_top (y := (nI (nS (σ 0)))) hn ?_
  refine v_if_neN (pc := 7) X (by omega) 14 dX6_meanSide_7 (by decide) (fun h7 => ?_) (fun h7 => ?_)
  · refine v_iconst (pc := 14) (v := nI 0) X dX6_meanSide_14 rfl ?_
    refine t_put (pc := 15) X 14 (by decide) q1970 rfl rfl rfl rfl dX6_meanSide_15 (tf_14 _) ?_
    refine v_aload_n (pc := 18) X dX6_meanSide_18 rfl 0 rfl ?_
    refine t_get (pc := 19) X 14 (by decide) q1970 rfl rfl dX6_meanSide_19 ?_
    refine v_top (y := (nI 0)) rfl ?_
    refine v_if_neN (pc := 22) X (by omega) 41 dX6_meanSide_22 (by decide) (fun h22 => absurd rfl h22) (fun h22 => ?_)
    refine v_aload_n (pc := 25) X dX6_meanSide_25 rfl 0 rfl ?_
    refine t_callI (pc := 26) X (m_sum hn h9 hsd h50) (lw_V q2407 q2409 qs89 q109 q2410) hdX6_sum ⟨Nat.le_of_ble_eq_true rfl, Nat.le_of_ble_eq_true rfl⟩ rfl rfl (Nat.le_of_ble_eq_true rfl) dX6_meanSide_26 ⟨Nat.le_refl _, Nat.le_refl _⟩ (fun r26 σ26 hp26 => ?_)
    obtain ⟨rfl, rfl⟩ := hp26
    refine v_i2d (pc := 29) X dX6_meanSide_29 ?_
    refine v_aload_n (pc := 30) X dX6_meanSide_30 rfl 0 rfl ?_
    refine t_get (pc := 31) X 0 (by decide) q1956 rfl rfl dX6_meanSide_31 ?_
    refine v_iconst (pc := 34) (v := nI 0) X dX6_meanSide_34 rfl ?_
    refine v_iald (pc := 35) X 1 ta_0 rfl (by omega) (by decide) dX6_meanSide_35 ?_
    refine v_top (y := (nI (nS (σ 0)))) hn ?_
    refine v_i2d (pc := 36) X dX6_meanSide_36 ?_
    refine v_ddiv (pc := 37) X (by have hb := sumS_le h50 (nS (σ 0)); exact mean_ok ⟨nS (σ 0), by omega⟩ ⟨sumS (sdN a.1) (nS (σ 0)), by omega⟩ (by show 0 < nS (σ 0); omega)) dX6_meanSide_37 ?_
    refine v_goto (pc := 38) X 42 dX6_meanSide_38 (by decide) ?_
    exact t_dret (pc := 42) X hr dX6_meanSide_42 ⟨_, rfl, hT.keep ((Ch.rf scQ scQN _).num 14 _ (by decide)) (by decide) (by decide), by rw [if_neg (by rw [← hnS]; exact h7)]; rfl, fun _ => by rw [hnS]⟩
  · refine v_iconst (pc := 10) (v := nI 1) X dX6_meanSide_10 rfl ?_
    refine v_goto (pc := 11) X 15 dX6_meanSide_11 (by decide) ?_
    refine t_put (pc := 15) X 14 (by decide) q1970 rfl rfl rfl rfl dX6_meanSide_15 (tf_14 _) ?_
    refine v_aload_n (pc := 18) X dX6_meanSide_18 rfl 0 rfl ?_
    refine t_get (pc := 19) X 14 (by decide) q1970 rfl rfl dX6_meanSide_19 ?_
    refine v_top (y := (nI 1)) rfl ?_
    refine v_if_neN (pc := 22) X (by omega) 41 dX6_meanSide_22 (by decide) (fun h22 => ?_) (fun h22 => absurd h22 (by decide))
    refine v_dconst0 (pc := 41) X dX6_meanSide_41 ?_
    exact t_dret (pc := 42) X hr dX6_meanSide_42 ⟨_, rfl, hT.keep ((Ch.rf scQ scQN _).num 14 _ (by decide)) (by decide) (by decide), by rw [if_pos (by rw [← hnS]; exact h7)]; rfl, fun z => absurd (by rw [← hnS]; exact h7) z⟩
theorem hdX6_bestShare : yX6_bestShare.cls = RX6 ∧ yX6_bestShare.cls ≠ "java/lang/invoke/MethodHandle" ∧ yX6_bestShare.cls ≠ "java/lang/invoke/VarHandle" ∧ (parseMethodDescriptor yX6_bestShare.desc).map (fun d => d.parameters.length) = some 0 := by decide +kernel
set_option maxHeartbeats 4000000 in
theorem m_bestShare {l_ : Launch} {D : va_G} {dd : Nat → ClassId} {x : Nat} {ad : Nat → Nat} {σ : Tw} {a : AS} (hT : TRel σ a) : TM l_ D dd x ad yX6_bestShare cX6_bestShare 1 (some .float) 3 75 [.ref x] σ (TF (fun r σ' => TRel σ' a ∧ (σ' 99 14 = nI (if nS a.1 - 1 = 0 then 1 else 0)) ∧ (nS a.1 - 1 ≠ 0 → r = FP.fdiv (FP.i2f (nI (Dv (sdN a.1) 0 (nS a.1 - 1 - 1)).2.2.2.2)) (FP.i2f (nI (Dv (sdN a.1) 0 (nS a.1 - 1 - 1)).2.2.2.1))))) := by
  obtain ⟨hwf, hnS, hnC, hnP⟩ := hT.f
  obtain ⟨hn, h9, hsd, h50, hs1, hS, hp, hp4, hPs⟩ := id hwf
  have hsde : sdN (σ 0) = sdN a.1 := sdN_eq hT.1
  have hste : stN (σ 0) = stN a.1 := stN_eq hT.1
  rw [hsde] at hsd h50 hs1
  refine MW.intro (by decide) (Nat.le_of_ble_eq_true rfl) (fun p_ e_ s_ m_ as_ bl_ me_ c_ A_ X hr hnm => ?_)
  have X : VX p_ s_ m_ as_ me_ c_ cX6_bestShare 1 RX6 D dd A_ := X
  refine v_eq (loc' := [(0, .ref x)]) rfl rfl rfl ?_
  refine v_aload_n (pc := 0) X dX6_bestShare_0 rfl 0 rfl ?_
  refine v_aload_n (pc := 1) X dX6_bestShare_1 rfl 0 rfl ?_
  refine t_callI (pc := 2) X (m_vats hn h9) (lw_V q2090 q2092 qs40 q109 q2093) hdX6_vats ⟨Nat.le_of_ble_eq_true rfl, Nat.le_of_ble_eq_true rfl⟩ rfl rfl (Nat.le_of_ble_eq_true rfl) dX6_bestShare_2 ⟨Nat.le_refl _, Nat.le_refl _⟩ (fun r2 σ2 hp2 => ?_)
  obtain ⟨rfl, rfl⟩ := hp2
  refine v_if_neN (pc := 5) X (by omega) 12 dX6_bestShare_5 (by decide) (fun h5 => ?_) (fun h5 => ?_)
  · refine v_iconst (pc := 12) (v := nI 0) X dX6_bestShare_12 rfl ?_
    refine t_put (pc := 13) X 14 (by decide) q1970 rfl rfl rfl rfl dX6_bestShare_13 (tf_14 _) ?_
    refine v_aload_n (pc := 16) X dX6_bestShare_16 rfl 0 rfl ?_
    refine t_get (pc := 17) X 14 (by decide) q1970 rfl rfl dX6_bestShare_17 ?_
    refine v_top (y := (nI 0)) rfl ?_
    refine v_if_eqN (pc := 20) X (by omega) 25 dX6_bestShare_20 (by decide) (fun h20 => ?_) (fun h20 => absurd rfl h20)
    refine v_aload_n (pc := 25) X dX6_bestShare_25 rfl 0 rfl ?_
    refine t_callV (pc := 26) X (m_reckons hn h9 hsd h50) (lw_V q2163 q2165 qs51 q109 q2166) hdX6_reckons ⟨Nat.le_of_ble_eq_true rfl, Nat.le_of_ble_eq_true rfl⟩ rfl rfl (Nat.le_of_ble_eq_true rfl) dX6_bestShare_26 ⟨Nat.le_refl _, Nat.le_refl _⟩ (fun σ26 hp26 => ?_)
    refine v_aload_n (pc := 29) X dX6_bestShare_29 rfl 0 rfl ?_
    refine t_get (pc := 30) X 19 (by decide) q1975 rfl rfl dX6_bestShare_30 ?_
    refine v_aload_n (pc := 33) X dX6_bestShare_33 rfl 0 rfl ?_
    refine t_callI (pc := 34) X (m_vats (by rw [hp26.1.1 0 (by decide) (by decide)]; exact hn) h9) (lw_V q2090 q2092 qs40 q109 q2093) hdX6_vats ⟨Nat.le_of_ble_eq_true rfl, Nat.le_of_ble_eq_true rfl⟩ rfl rfl (Nat.le_of_ble_eq_true rfl) dX6_bestShare_34 ⟨Nat.le_refl _, Nat.le_refl _⟩ (fun r34 σ34 hp34 => ?_)
    obtain ⟨rfl, rfl⟩ := hp34
    refine v_iconst (pc := 37) (v := nI 1) X dX6_bestShare_37 rfl ?_
    refine v_isubN (pc := 38) X (by omega) dX6_bestShare_38 ?_
    refine v_iald (pc := 39) X 11 ta_19 rfl (by omega) (by decide) dX6_bestShare_39 ?_
    refine v_top (y := (nI ((Dv (sdN a.1) 0 (nS (σ 0) - 1 - 1)).2.2.2.2))) (by have := (hp26.2 0 (nS (σ 0) - 1 - 1) (by omega) (by omega)).2.2.2.2; rw [show 8 * 0 + (nS (σ 0) - 1 - 1) = nS (σ 0) - 1 - 1 by omega] at this; exact this) ?_
    refine v_i2f (pc := 40) X dX6_bestShare_40 ?_
    refine v_aload_n (pc := 41) X dX6_bestShare_41 rfl 0 rfl ?_
    refine t_get (pc := 42) X 18 (by decide) q1974 rfl rfl dX6_bestShare_42 ?_
    refine v_aload_n (pc := 45) X dX6_bestShare_45 rfl 0 rfl ?_
    refine t_callI (pc := 46) X (m_vats (by rw [hp26.1.1 0 (by decide) (by decide)]; exact hn) h9) (lw_V q2090 q2092 qs40 q109 q2093) hdX6_vats ⟨Nat.le_of_ble_eq_true rfl, Nat.le_of_ble_eq_true rfl⟩ rfl rfl (Nat.le_of_ble_eq_true rfl) dX6_bestShare_46 ⟨Nat.le_refl _, Nat.le_refl _⟩ (fun r46 σ46 hp46 => ?_)
    obtain ⟨rfl, rfl⟩ := hp46
    refine v_iconst (pc := 49) (v := nI 1) X dX6_bestShare_49 rfl ?_
    refine v_isubN (pc := 50) X (by omega) dX6_bestShare_50 ?_
    refine v_iald (pc := 51) X 10 ta_18 rfl (by omega) (by decide) dX6_bestShare_51 ?_
    refine v_top (y := (nI ((Dv (sdN a.1) 0 (nS (σ 0) - 1 - 1)).2.2.2.1))) (by have := (hp26.2 0 (nS (σ 0) - 1 - 1) (by omega) (by omega)).2.2.2.1; rw [show 8 * 0 + (nS (σ 0) - 1 - 1) = nS (σ 0) - 1 - 1 by omega] at this; exact this) ?_
    refine v_i2f (pc := 52) X dX6_bestShare_52 ?_
    refine v_fdiv (pc := 53) X (by have hw := Dv_ways (sdN a.1) 0 (nS (σ 0) - 1 - 1); rw [Nat.zero_add] at hw; have hb := Dv_best (sdN a.1) 0 (nS (σ 0) - 1 - 1); have hcb := catW_le (nS (σ 0) - 1 - 1) (by omega); rw [hw] at hb ⊢; exact share_ok ⟨nS (σ 0) - 1 - 1, by omega⟩ ⟨(Dv (sdN a.1) 0 (nS (σ 0) - 1 - 1)).2.2.2.2, by omega⟩ hb) dX6_bestShare_53 ?_
    exact t_fret (pc := 54) X hr dX6_bestShare_54 ⟨_, rfl, hT.keep (((((Ch.rf scQ scQN _).num 14 _ (by decide)).tr (hp26.1.mono (by decide) (by simp))))) (by decide) (by decide), by rw [if_neg (by rw [← hnS]; exact h5), hp26.1.2 14 (by decide)]; rfl, fun _ => by rw [hnS]⟩
  · refine v_iconst (pc := 8) (v := nI 1) X dX6_bestShare_8 rfl ?_
    refine v_goto (pc := 9) X 13 dX6_bestShare_9 (by decide) ?_
    refine t_put (pc := 13) X 14 (by decide) q1970 rfl rfl rfl rfl dX6_bestShare_13 (tf_14 _) ?_
    refine v_aload_n (pc := 16) X dX6_bestShare_16 rfl 0 rfl ?_
    refine t_get (pc := 17) X 14 (by decide) q1970 rfl rfl dX6_bestShare_17 ?_
    refine v_top (y := (nI 1)) rfl ?_
    refine v_if_eqN (pc := 20) X (by omega) 25 dX6_bestShare_20 (by decide) (fun h20 => absurd h20 (by decide)) (fun h20 => ?_)
    refine v_fconst0 (pc := 23) X dX6_bestShare_23 ?_
    exact t_fret (pc := 24) X hr dX6_bestShare_24 ⟨_, rfl, hT.keep ((Ch.rf scQ scQN _).num 14 _ (by decide)) (by decide) (by decide), by rw [if_pos (by rw [← hnS]; exact h5)]; rfl, fun z => absurd (by rw [← hnS]; exact h5) z⟩
theorem hdX6_undo : yX6_undo.cls = RX6 ∧ yX6_undo.cls ≠ "java/lang/invoke/MethodHandle" ∧ yX6_undo.cls ≠ "java/lang/invoke/VarHandle" ∧ (parseMethodDescriptor yX6_undo.desc).map (fun d => d.parameters.length) = some 0 := by decide +kernel
set_option maxHeartbeats 4000000 in
theorem m_undo {l_ : Launch} {D : va_G} {dd : Nat → ClassId} {x : Nat} {ad : Nat → Nat} {σ : Tw} {a : AS} (hT : TRel σ a) : TM l_ D dd x ad yX6_undo cX6_undo 1 (some .int) 1 24 [.ref x] σ (TI (fun r σ' => TOut (undoA a).1 (undoA a).2.1 (undoA a).2.2 r σ')) := by
  obtain ⟨hH1, hH2, hH3⟩ := id hT.2.2.1
  have hTb := hT.2.2.2.1
  refine MW.intro (by decide) (Nat.le_of_ble_eq_true rfl) (fun p_ e_ s_ m_ as_ bl_ me_ c_ A_ X hr hnm => ?_)
  have X : VX p_ s_ m_ as_ me_ c_ cX6_undo 1 RX6 D dd A_ := X
  refine v_eq (loc' := [(0, .ref x)]) rfl rfl rfl ?_
  refine v_aload_n (pc := 0) X dX6_undo_0 rfl 0 rfl ?_
  refine t_get (pc := 1) X 3 (by decide) q1959 rfl rfl dX6_undo_1 ?_
  refine v_top (y := (nI a.2.1.length)) hH1 ?_
  refine v_if_neN (pc := 4) X (by omega) 13 dX6_undo_4 (by decide) (fun h4 => ?_) (fun h4 => ?_)
  · have hne : a.2.1 ≠ [] := fun z => h4 (by rw [z]; rfl)
    have hgl := hist_last hT.2.2.1 hne
    refine v_aload_n (pc := 13) X dX6_undo_13 rfl 0 rfl ?_
    refine v_dup (pc := 14) X dX6_undo_14 rfl ?_
    refine t_get (pc := 15) X 3 (by decide) q1959 rfl rfl dX6_undo_15 ?_
    refine v_top (y := (nI a.2.1.length)) hH1 ?_
    refine v_iconst (pc := 18) (v := nI 1) X dX6_undo_18 rfl ?_
    refine v_isubN (pc := 19) X (by omega) dX6_undo_19 ?_
    refine t_put (pc := 20) X 3 (by decide) q1959 rfl rfl rfl rfl dX6_undo_20 (tf_3 _) ?_
    refine v_aload_n (pc := 23) X dX6_undo_23 rfl 0 rfl ?_
    refine t_get (pc := 24) X 2 (by decide) q1958 rfl rfl dX6_undo_24 ?_
    refine v_aload_n (pc := 27) X dX6_undo_27 rfl 0 rfl ?_
    refine t_get (pc := 28) X 3 (by decide) q1959 rfl rfl dX6_undo_28 ?_
    refine v_top (y := (nI (a.2.1.length - 1))) rfl ?_
    refine v_bipush (pc := 31) (v := nI 112) X dX6_undo_31 rfl ?_
    refine v_imulN (pc := 33) X dX6_undo_33 ?_
    refine v_aload_n (pc := 34) X dX6_undo_34 rfl 0 rfl ?_
    refine t_get (pc := 35) X 0 (by decide) q1956 rfl rfl dX6_undo_35 ?_
    refine v_iconst (pc := 38) (v := nI 0) X dX6_undo_38 rfl ?_
    refine t_callSV (pc := 39) X (m_copy (fun _ => ta_2) (fun _ => ta_0) (fun _ f => tb_0 f) (by decide) (by omega) (by decide) (by decide) (by decide)) (lw_S q2072 q2073 q109 q2074) hdX6_copy ⟨Nat.le_of_ble_eq_true rfl, Nat.le_of_ble_eq_true rfl⟩ rfl rfl (Nat.le_of_ble_eq_true rfl) dX6_undo_39 ⟨Nat.le_refl _, Nat.le_refl _⟩ (fun σ39 hp39 => ?_)
    subst hp39
    refine v_aload_n (pc := 42) X dX6_undo_42 rfl 0 rfl ?_
    refine v_aload_n (pc := 43) X dX6_undo_43 rfl 0 rfl ?_
    refine t_get (pc := 44) X 3 (by decide) q1959 rfl rfl dX6_undo_44 ?_
    refine v_top (y := (nI (a.2.1.length - 1))) rfl ?_
    refine t_callI (pc := 47) X m_done (lw_V q2094 q2096 qs41 q109 q2097) hdX6_done ⟨Nat.le_of_ble_eq_true rfl, Nat.le_of_ble_eq_true rfl⟩ rfl rfl (Nat.le_of_ble_eq_true rfl) dX6_undo_47 ⟨Nat.le_refl _, Nat.le_refl _⟩ (fun r47 σ47 hp47 => ?_)
    obtain ⟨rfl, rfl⟩ := hp47
    exact t_iret (pc := 50) X hr dX6_undo_50 ⟨_, rfl, by unfold undoA; rw [dif_neg hne]; exact ⟨tr_back hT ((((Ch.rf (0 :: scQ) (3 :: scQN) _).num 3 _ (by decide)).row 0 _ (by decide) (by decide)).num 14 _ (by decide)) (hgl (ws1 σ 3 (nI (a.2.1.length - 1))) (σ 0)) (hTb _ (List.getLast_mem hne)) (by rw [List.length_dropLast]; rfl) (fun i b h => by rw [List.getElem?_dropLast] at h; split at h; exact h; cases h) (by rw [List.length_dropLast]; omega), rfl, fun _ => rfl⟩⟩
  · refine v_aload_n (pc := 7) X dX6_undo_7 rfl 0 rfl ?_
    refine v_iconst (pc := 8) (v := nI 1) X dX6_undo_8 rfl ?_
    refine t_callI (pc := 9) X m_fails (lw_V q2082 q2084 qs38 q109 q2085) hdX6_fails ⟨Nat.le_of_ble_eq_true rfl, Nat.le_of_ble_eq_true rfl⟩ rfl rfl (Nat.le_of_ble_eq_true rfl) dX6_undo_9 ⟨Nat.le_refl _, Nat.le_refl _⟩ (fun r9 σ9 hp9 => ?_)
    obtain ⟨rfl, rfl⟩ := hp9
    exact t_iret (pc := 12) X hr dX6_undo_12 ⟨_, rfl, by unfold undoA; rw [dif_pos (List.length_eq_zero_iff.mp h4)]; exact ⟨hT.keep (((Ch.rf scQ scQN _).num 14 _ (by decide)).num 11 _ (by decide)) (by decide) (by decide), rfl, fun z => by cases z⟩⟩
theorem hdX6_save : yX6_save.cls = RX6 ∧ yX6_save.cls ≠ "java/lang/invoke/MethodHandle" ∧ yX6_save.cls ≠ "java/lang/invoke/VarHandle" ∧ (parseMethodDescriptor yX6_save.desc).map (fun d => d.parameters.length) = some 0 := by decide +kernel
set_option maxHeartbeats 4000000 in
theorem m_save {l_ : Launch} {D : va_G} {dd : Nat → ClassId} {x : Nat} {ad : Nat → Nat} {σ : Tw} {a : AS} (hT : TRel σ a) : TM l_ D dd x ad yX6_save cX6_save 1 (some .int) 1 24 [.ref x] σ (TI (fun r σ' => TOut (saveA a).1 0 (saveA a).2 r σ')) := by
  obtain ⟨hwf, hnS, hnC, hnP⟩ := hT.f
  obtain ⟨hn, h9, hsd, h50, hs1, hS, hp, hp4, hPs⟩ := id hwf
  have hsde : sdN (σ 0) = sdN a.1 := sdN_eq hT.1
  have hste : stN (σ 0) = stN a.1 := stN_eq hT.1
  rw [hsde] at hsd h50 hs1
  refine MW.intro (by decide) (Nat.le_of_ble_eq_true rfl) (fun p_ e_ s_ m_ as_ bl_ me_ c_ A_ X hr hnm => ?_)
  have X : VX p_ s_ m_ as_ me_ c_ cX6_save 1 RX6 D dd A_ := X
  refine v_eq (loc' := [(0, .ref x)]) rfl rfl rfl ?_
  refine v_aload_n (pc := 0) X dX6_save_0 rfl 0 rfl ?_
  refine t_get (pc := 1) X 0 (by decide) q1956 rfl rfl dX6_save_1 ?_
  refine v_iconst (pc := 4) (v := nI 0) X dX6_save_4 rfl ?_
  refine v_aload_n (pc := 5) X dX6_save_5 rfl 0 rfl ?_
  refine t_get (pc := 6) X 4 (by decide) q1960 rfl rfl dX6_save_6 ?_
  refine v_iconst (pc := 9) (v := nI 0) X dX6_save_9 rfl ?_
  refine t_callSV (pc := 10) X (m_copy (fun _ => ta_0) (fun _ => ta_4) (fun _ f => tb_4 f) (by decide) (by decide) (by decide) (by decide) (by decide)) (lw_S q2072 q2073 q109 q2074) hdX6_copy ⟨Nat.le_of_ble_eq_true rfl, Nat.le_of_ble_eq_true rfl⟩ rfl rfl (Nat.le_of_ble_eq_true rfl) dX6_save_10 ⟨Nat.le_refl _, Nat.le_refl _⟩ (fun σ10 hp10 => ?_)
  subst hp10
  refine v_aload_n (pc := 13) X dX6_save_13 rfl 0 rfl ?_
  refine v_iconst (pc := 14) (v := nI 1) X dX6_save_14 rfl ?_
  refine t_put (pc := 15) X 5 (by decide) q1961 rfl rfl rfl rfl dX6_save_15 (tf_5 _) ?_
  refine v_aload_n (pc := 18) X dX6_save_18 rfl 0 rfl ?_
  refine v_aload_n (pc := 19) X dX6_save_19 rfl 0 rfl ?_
  refine t_callI (pc := 20) X (m_vats hn h9) (lw_V q2090 q2092 qs40 q109 q2093) hdX6_vats ⟨Nat.le_of_ble_eq_true rfl, Nat.le_of_ble_eq_true rfl⟩ rfl rfl (Nat.le_of_ble_eq_true rfl) dX6_save_20 ⟨Nat.le_refl _, Nat.le_refl _⟩ (fun r20 σ20 hp20 => ?_)
  obtain ⟨rfl, rfl⟩ := hp20
  refine t_callI (pc := 23) X m_done (lw_V q2094 q2096 qs41 q109 q2097) hdX6_done ⟨Nat.le_of_ble_eq_true rfl, Nat.le_of_ble_eq_true rfl⟩ rfl rfl (Nat.le_of_ble_eq_true rfl) dX6_save_23 ⟨Nat.le_refl _, Nat.le_refl _⟩ (fun r23 σ23 hp23 => ?_)
  obtain ⟨rfl, rfl⟩ := hp23
  exact t_iret (pc := 26) X hr dX6_save_26 ⟨_, rfl, tr_save hT ((((Ch.rf (4 :: scQ) (5 :: scQN) _).row 4 _ (by decide) (by decide)).num 5 _ (by decide)).num 14 _ (by decide)) ((cpy_beq _ _).tr hT.1) rfl, rfl, fun _ => by unfold saveA; rw [hnS]⟩
theorem hdX6_restore : yX6_restore.cls = RX6 ∧ yX6_restore.cls ≠ "java/lang/invoke/MethodHandle" ∧ yX6_restore.cls ≠ "java/lang/invoke/VarHandle" ∧ (parseMethodDescriptor yX6_restore.desc).map (fun d => d.parameters.length) = some 0 := by decide +kernel
set_option maxHeartbeats 4000000 in
theorem m_restore {l_ : Launch} {D : va_G} {dd : Nat → ClassId} {x : Nat} {ad : Nat → Nat} {σ : Tw} {a : AS} (hT : TRel σ a) : TM l_ D dd x ad yX6_restore cX6_restore 1 (some .int) 1 24 [.ref x] σ (TI (fun r σ' => TOut (restA a).1 (restA a).2.1 (restA a).2.2 r σ')) := by
  obtain ⟨hwf, hnS, hnC, hnP⟩ := hT.f
  obtain ⟨hn, h9, hsd, h50, hs1, hS, hp, hp4, hPs⟩ := id hwf
  have hsde : sdN (σ 0) = sdN a.1 := sdN_eq hT.1
  have hste : stN (σ 0) = stN a.1 := stN_eq hT.1
  rw [hsde] at hsd h50 hs1
  have h5s := hT.2.2.2.2.1
  have h6s := hT.2.2.2.2.2.1
  refine MW.intro (by decide) (Nat.le_of_ble_eq_true rfl) (fun p_ e_ s_ m_ as_ bl_ me_ c_ A_ X hr hnm => ?_)
  have X : VX p_ s_ m_ as_ me_ c_ cX6_restore 1 RX6 D dd A_ := X
  refine v_eq (loc' := [(0, .ref x)]) rfl rfl rfl ?_
  refine v_aload_n (pc := 0) X dX6_restore_0 rfl 0 rfl ?_
  refine t_get (pc := 1) X 5 (by decide) q1961 rfl rfl dX6_restore_1 ?_
  refine v_top (y := (bI (a.2.2.1 ≠ none))) h5s ?_
  refine v_if_neB (pc := 4) X 13 dX6_restore_4 (by decide) (fun h4 => ?_) (fun h4 => ?_)
  · obtain ⟨b, hb⟩ := Option.ne_none_iff_exists'.mp h4
    obtain ⟨hbe, hbw⟩ := h6s b hb
    have hbw2 := hbw.congr (hbe.sm.tr (cpy_beq (σ 4) (σ 0)).sm)
    refine v_aload_n (pc := 13) X dX6_restore_13 rfl 0 rfl ?_
    refine t_get (pc := 14) X 4 (by decide) q1960 rfl rfl dX6_restore_14 ?_
    refine v_iconst (pc := 17) (v := nI 0) X dX6_restore_17 rfl ?_
    refine v_aload_n (pc := 18) X dX6_restore_18 rfl 0 rfl ?_
    refine t_get (pc := 19) X 0 (by decide) q1956 rfl rfl dX6_restore_19 ?_
    refine v_iconst (pc := 22) (v := nI 0) X dX6_restore_22 rfl ?_
    refine t_callSV (pc := 23) X (m_copy (fun _ => ta_4) (fun _ => ta_0) (fun _ f => tb_0 f) (by decide) (by decide) (by decide) (by decide) (by decide)) (lw_S q2072 q2073 q109 q2074) hdX6_copy ⟨Nat.le_of_ble_eq_true rfl, Nat.le_of_ble_eq_true rfl⟩ rfl rfl (Nat.le_of_ble_eq_true rfl) dX6_restore_23 ⟨Nat.le_refl _, Nat.le_refl _⟩ (fun σ23 hp23 => ?_)
    subst hp23
    refine v_aload_n (pc := 26) X dX6_restore_26 rfl 0 rfl ?_
    refine v_iconst (pc := 27) (v := nI 0) X dX6_restore_27 rfl ?_
    refine t_put (pc := 28) X 3 (by decide) q1959 rfl rfl rfl rfl dX6_restore_28 (tf_3 _) ?_
    refine v_aload_n (pc := 31) X dX6_restore_31 rfl 0 rfl ?_
    refine v_aload_n (pc := 32) X dX6_restore_32 rfl 0 rfl ?_
    refine t_callI (pc := 33) X (m_vats (n := nS b) (by rw [← hbw2.2.1]; exact hbw2.1.1) hbw.2.1) (lw_V q2090 q2092 qs40 q109 q2093) hdX6_vats ⟨Nat.le_of_ble_eq_true rfl, Nat.le_of_ble_eq_true rfl⟩ rfl rfl (Nat.le_of_ble_eq_true rfl) dX6_restore_33 ⟨Nat.le_refl _, Nat.le_refl _⟩ (fun r33 σ33 hp33 => ?_)
    obtain ⟨rfl, rfl⟩ := hp33
    refine t_callI (pc := 36) X m_done (lw_V q2094 q2096 qs41 q109 q2097) hdX6_done ⟨Nat.le_of_ble_eq_true rfl, Nat.le_of_ble_eq_true rfl⟩ rfl rfl (Nat.le_of_ble_eq_true rfl) dX6_restore_36 ⟨Nat.le_refl _, Nat.le_refl _⟩ (fun r36 σ36 hp36 => ?_)
    obtain ⟨rfl, rfl⟩ := hp36
    exact t_iret (pc := 39) X hr dX6_restore_39 ⟨_, rfl, by unfold restA; rw [hb]; exact ⟨tr_back hT ((((Ch.rf (0 :: scQ) (3 :: scQN) _).row 0 _ (by decide) (by decide)).num 3 _ (by decide)).num 14 _ (by decide)) ((cpy_beq _ _).tr hbe) hbw rfl (fun i b h => by cases h) (by decide), rfl, fun _ => rfl⟩⟩
  · refine v_aload_n (pc := 7) X dX6_restore_7 rfl 0 rfl ?_
    refine v_iconst (pc := 8) (v := nI 1) X dX6_restore_8 rfl ?_
    refine t_callI (pc := 9) X m_fails (lw_V q2082 q2084 qs38 q109 q2085) hdX6_fails ⟨Nat.le_of_ble_eq_true rfl, Nat.le_of_ble_eq_true rfl⟩ rfl rfl (Nat.le_of_ble_eq_true rfl) dX6_restore_9 ⟨Nat.le_refl _, Nat.le_refl _⟩ (fun r9 σ9 hp9 => ?_)
    obtain ⟨rfl, rfl⟩ := hp9
    exact t_iret (pc := 12) X hr dX6_restore_12 ⟨_, rfl, by unfold restA; rw [Classical.not_not.mp h4]; exact ⟨hT.keep (((Ch.rf scQ scQN _).num 14 _ (by decide)).num 11 _ (by decide)) (by decide) (by decide), rfl, fun z => by cases z⟩⟩

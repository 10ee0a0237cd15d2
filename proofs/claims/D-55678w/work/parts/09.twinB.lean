theorem hdX6_sideComes : yX6_sideComes.cls = RX6 ∧ yX6_sideComes.cls ≠ "java/lang/invoke/MethodHandle" ∧ yX6_sideComes.cls ≠ "java/lang/invoke/VarHandle" ∧ (parseMethodDescriptor yX6_sideComes.desc).map (fun d => d.parameters.length) = some 1 := by decide +kernel
set_option maxHeartbeats 4000000 in
theorem m_sideComes {l_ : Launch} {D : va_G} {dd : Nat → ClassId} {x : Nat} {ad : Nat → Nat} {σ : Tw} {n : Nat} {v : Int32} (hn : σ 0 0 = nI n) (h9 : n ≤ 9) : TM l_ D dd x ad yX6_sideComes cX6_sideComes 2 (some .int) 1 23 [.ref x, .int v] σ (TI (fun r σ' => Cr σ (opSide (σ 0) n v) r σ')) := by
  refine MW.intro (by decide) (Nat.le_of_ble_eq_true rfl) (fun p_ e_ s_ m_ as_ bl_ me_ c_ A_ X hr hnm => ?_)
  have X : VX p_ s_ m_ as_ me_ c_ cX6_sideComes 2 RX6 D dd A_ := X
  refine v_eq (loc' := [(0, .ref x), (1, .int v)]) rfl rfl rfl ?_
  refine v_iload_n (pc := 0) X dX6_sideComes_0 rfl 1 rfl ?_
  refine v_iconst (pc := 1) (v := nI 1) X dX6_sideComes_1 rfl ?_
  refine v_bipush (pc := 2) (v := nI 50) X dX6_sideComes_2 rfl ?_
  refine t_callSI (pc := 4) X m_in (lw_S q2079 q2080 q109 q2081) hdX6_in ⟨Nat.le_of_ble_eq_true rfl, Nat.le_of_ble_eq_true rfl⟩ rfl rfl (Nat.le_of_ble_eq_true rfl) dX6_sideComes_4 ⟨Nat.le_refl _, Nat.le_refl _⟩ (fun r4 σ4 hp4 => ?_)
  obtain ⟨rfl, rfl⟩ := hp4
  refine v_if_neB (pc := 7) X 16 dX6_sideComes_7 (by decide) (fun h7 => ?_) (fun h7 => ?_)
  · refine v_aload_n (pc := 16) X dX6_sideComes_16 rfl 0 rfl ?_
    refine t_get (pc := 17) X 0 (by decide) q1956 rfl rfl dX6_sideComes_17 ?_
    refine v_iconst (pc := 20) (v := nI 0) X dX6_sideComes_20 rfl ?_
    refine v_iald (pc := 21) X 1 ta_0 rfl (by omega) (by decide) dX6_sideComes_21 ?_
    refine v_top (y := (nI n)) hn ?_
    refine v_bipush (pc := 22) (v := nI 9) X dX6_sideComes_22 rfl ?_
    refine v_ic_neN (pc := 24) X (by omega) (by omega) 36 dX6_sideComes_24 (by decide) (fun h24 => ?_) (fun h24 => ?_)
    · refine v_aload_n (pc := 36) X dX6_sideComes_36 rfl 0 rfl ?_
      refine t_get (pc := 37) X 0 (by decide) q1956 rfl rfl dX6_sideComes_37 ?_
      refine v_iconst (pc := 40) (v := nI 1) X dX6_sideComes_40 rfl ?_
      refine v_aload_n (pc := 41) X dX6_sideComes_41 rfl 0 rfl ?_
      refine t_get (pc := 42) X 0 (by decide) q1956 rfl rfl dX6_sideComes_42 ?_
      refine v_iconst (pc := 45) (v := nI 0) X dX6_sideComes_45 rfl ?_
      refine v_iald (pc := 46) X 1 ta_0 rfl (by omega) (by decide) dX6_sideComes_46 ?_
      refine v_top (y := (nI n)) hn ?_
      refine v_iaddN (pc := 47) X dX6_sideComes_47 ?_
      refine v_iload_n (pc := 48) X dX6_sideComes_48 rfl 1 rfl ?_
      refine v_iast (pc := 49) X 1 ta_0 rfl (by omega) (by decide) dX6_sideComes_49 (tb_0 _) ?_
      refine v_aload_n (pc := 50) X dX6_sideComes_50 rfl 0 rfl ?_
      refine t_get (pc := 51) X 0 (by decide) q1956 rfl rfl dX6_sideComes_51 ?_
      refine v_iconst (pc := 54) (v := nI 0) X dX6_sideComes_54 rfl ?_
      refine v_dup2 (pc := 55) X dX6_sideComes_55 rfl rfl ?_
      refine v_iald (pc := 56) X 1 ta_0 rfl (by omega) (by decide) dX6_sideComes_56 ?_
      refine v_top (y := (nI n)) ((rd_n (by omega)).trans hn) ?_
      refine v_iconst (pc := 57) (v := nI 1) X dX6_sideComes_57 rfl ?_
      refine v_iaddN (pc := 58) X dX6_sideComes_58 ?_
      refine v_iast (pc := 59) X 1 ta_0 rfl (by omega) (by decide) dX6_sideComes_59 (tb_0 _) ?_
      refine v_aload_n (pc := 60) X dX6_sideComes_60 rfl 0 rfl ?_
      refine v_aload_n (pc := 61) X dX6_sideComes_61 rfl 0 rfl ?_
      refine t_callI (pc := 62) X (m_vats (n := n + 1) rd_s (by omega)) (lw_V q2090 q2092 qs40 q109 q2093) hdX6_vats ⟨Nat.le_of_ble_eq_true rfl, Nat.le_of_ble_eq_true rfl⟩ rfl rfl (Nat.le_of_ble_eq_true rfl) dX6_sideComes_62 ⟨Nat.le_refl _, Nat.le_refl _⟩ (fun r62 σ62 hp62 => ?_)
      obtain ⟨rfl, rfl⟩ := hp62
      refine v_top (y := (nI n)) rfl ?_
      refine t_callI (pc := 65) X m_done (lw_V q2094 q2096 qs41 q109 q2097) hdX6_done ⟨Nat.le_of_ble_eq_true rfl, Nat.le_of_ble_eq_true rfl⟩ rfl rfl (Nat.le_of_ble_eq_true rfl) dX6_sideComes_65 ⟨Nat.le_refl _, Nat.le_refl _⟩ (fun r65 σ65 hp65 => ?_)
      obtain ⟨rfl, rfl⟩ := hp65
      exact t_iret (pc := 68) X hr dX6_sideComes_68 ⟨_, rfl, Cr.ok (by unfold opSide; rw [if_pos h7, if_neg h24]) rfl (by rw [rw2_s, rw2_s]; exact BEq.rf _) ((((Ch.rf _ _ _)).row 0 _ (by decide) (by decide)).row 0 _ (by decide) (by decide)) rfl rfl⟩
    · refine v_aload_n (pc := 27) X dX6_sideComes_27 rfl 0 rfl ?_
      refine v_iconst (pc := 28) (v := nI 1) X dX6_sideComes_28 rfl ?_
      refine v_bipush (pc := 29) (v := nI 9) X dX6_sideComes_29 rfl ?_
      refine v_iconst (pc := 31) (v := nI 2) X dX6_sideComes_31 rfl ?_
      refine t_callI (pc := 32) X m_refused (lw_V q2086 q2088 qs39 q109 q2089) hdX6_refused ⟨Nat.le_of_ble_eq_true rfl, Nat.le_of_ble_eq_true rfl⟩ rfl rfl (Nat.le_of_ble_eq_true rfl) dX6_sideComes_32 ⟨Nat.le_refl _, Nat.le_refl _⟩ (fun r32 σ32 hp32 => ?_)
      obtain ⟨rfl, rfl⟩ := hp32
      exact t_iret (pc := 35) X hr dX6_sideComes_35 ⟨_, rfl, Cr.ref (by unfold opSide; rw [if_pos h7, if_pos h24]) (by decide) (Ch.rf _ _ _)⟩
  · refine v_aload_n (pc := 10) X dX6_sideComes_10 rfl 0 rfl ?_
    refine v_iconst (pc := 11) (v := nI 1) X dX6_sideComes_11 rfl ?_
    refine t_callI (pc := 12) X m_fails (lw_V q2082 q2084 qs38 q109 q2085) hdX6_fails ⟨Nat.le_of_ble_eq_true rfl, Nat.le_of_ble_eq_true rfl⟩ rfl rfl (Nat.le_of_ble_eq_true rfl) dX6_sideComes_12 ⟨Nat.le_refl _, Nat.le_refl _⟩ (fun r12 σ12 hp12 => ?_)
    obtain ⟨rfl, rfl⟩ := hp12
    exact t_iret (pc := 15) X hr dX6_sideComes_15 ⟨_, rfl, Cr.fail (by unfold opSide; rw [if_neg h7]) (by decide) (Ch.rf _ _ _) rfl rfl⟩
theorem hdX6_isSide : yX6_isSide.cls = RX6 ∧ yX6_isSide.cls ≠ "java/lang/invoke/MethodHandle" ∧ yX6_isSide.cls ≠ "java/lang/invoke/VarHandle" ∧ (parseMethodDescriptor yX6_isSide.desc).map (fun d => d.parameters.length) = some 1 := by decide +kernel
set_option maxHeartbeats 4000000 in
theorem m_isSide {l_ : Launch} {D : va_G} {dd : Nat → ClassId} {x : Nat} {ad : Nat → Nat} {σ : Tw} {n : Nat} {a : Int32} (hn : σ 0 0 = nI n) : TM l_ D dd x ad yX6_isSide cX6_isSide 2 (some .boolean) 1 22 [.ref x, .int a] σ (TI (fun r σ' => bI (nI 0 ≤ a ∧ a ≤ nI n - nI 1) = r ∧ σ = σ')) := by
  refine MW.intro (by decide) (Nat.le_of_ble_eq_true rfl) (fun p_ e_ s_ m_ as_ bl_ me_ c_ A_ X hr hnm => ?_)
  have X : VX p_ s_ m_ as_ me_ c_ cX6_isSide 2 RX6 D dd A_ := X
  refine v_eq (loc' := [(0, .ref x), (1, .int a)]) rfl rfl rfl ?_
  refine v_iload_n (pc := 0) X dX6_isSide_0 rfl 1 rfl ?_
  refine v_iconst (pc := 1) (v := nI 0) X dX6_isSide_1 rfl ?_
  refine v_aload_n (pc := 2) X dX6_isSide_2 rfl 0 rfl ?_
  refine t_get (pc := 3) X 0 (by decide) q1956 rfl rfl dX6_isSide_3 ?_
  refine v_iconst (pc := 6) (v := nI 0) X dX6_isSide_6 rfl ?_
  refine v_iald (pc := 7) X 1 ta_0 rfl (by omega) (by decide) dX6_isSide_7 ?_
  refine v_top (y := (nI n)) hn ?_
  refine v_iconst (pc := 8) (v := nI 1) X dX6_isSide_8 rfl ?_
  refine v_isub (pc := 9) X dX6_isSide_9 ?_
  refine t_callSI (pc := 10) X m_in (lw_S q2079 q2080 q109 q2081) hdX6_in ⟨Nat.le_of_ble_eq_true rfl, Nat.le_of_ble_eq_true rfl⟩ rfl rfl (Nat.le_of_ble_eq_true rfl) dX6_isSide_10 ⟨Nat.le_refl _, Nat.le_refl _⟩ (fun r10 σ10 hp10 => ?_)
  obtain ⟨rfl, rfl⟩ := hp10
  exact t_zret (pc := 13) X hr (nzb _) dX6_isSide_13 ⟨_, rfl, rfl, rfl⟩
theorem hdX6_sideIs : yX6_sideIs.cls = RX6 ∧ yX6_sideIs.cls ≠ "java/lang/invoke/MethodHandle" ∧ yX6_sideIs.cls ≠ "java/lang/invoke/VarHandle" ∧ (parseMethodDescriptor yX6_sideIs.desc).map (fun d => d.parameters.length) = some 2 := by decide +kernel
set_option maxHeartbeats 4000000 in
theorem m_sideIs {l_ : Launch} {D : va_G} {dd : Nat → ClassId} {x : Nat} {ad : Nat → Nat} {σ : Tw} {n : Nat} {q v : Int32} (hn : σ 0 0 = nI n) (h9 : n ≤ 9) : TM l_ D dd x ad yX6_sideIs cX6_sideIs 4 (some .int) 2 43 [.ref x, .int q, .int v] σ (TI (fun r σ' => Cr σ (opSet (σ 0) n q v) r σ')) := by
  refine MW.intro (by decide) (Nat.le_of_ble_eq_true rfl) (fun p_ e_ s_ m_ as_ bl_ me_ c_ A_ X hr hnm => ?_)
  have X : VX p_ s_ m_ as_ me_ c_ cX6_sideIs 4 RX6 D dd A_ := X
  refine v_eq (loc' := [(0, .ref x), (1, .int q), (2, .int v)]) rfl rfl rfl ?_
  refine v_aload_n (pc := 0) X dX6_sideIs_0 rfl 0 rfl ?_
  refine v_iload_n (pc := 1) X dX6_sideIs_1 rfl 1 rfl ?_
  refine t_callI (pc := 2) X (m_isSide hn) (lw_V q2110 q2112 qs44 q109 q2113) hdX6_isSide ⟨Nat.le_of_ble_eq_true rfl, Nat.le_of_ble_eq_true rfl⟩ rfl rfl (Nat.le_of_ble_eq_true rfl) dX6_sideIs_2 ⟨Nat.le_refl _, Nat.le_refl _⟩ (fun r2 σ2 hp2 => ?_)
  obtain ⟨rfl, rfl⟩ := hp2
  refine v_if_neB (pc := 5) X 14 dX6_sideIs_5 (by decide) (fun h5 => ?_) (fun h5 => ?_)
  · refine v_iload_n (pc := 14) X dX6_sideIs_14 rfl 2 rfl ?_
    refine v_iconst (pc := 15) (v := nI 1) X dX6_sideIs_15 rfl ?_
    refine v_bipush (pc := 16) (v := nI 50) X dX6_sideIs_16 rfl ?_
    refine t_callSI (pc := 18) X m_in (lw_S q2079 q2080 q109 q2081) hdX6_in ⟨Nat.le_of_ble_eq_true rfl, Nat.le_of_ble_eq_true rfl⟩ rfl rfl (Nat.le_of_ble_eq_true rfl) dX6_sideIs_18 ⟨Nat.le_refl _, Nat.le_refl _⟩ (fun r18 σ18 hp18 => ?_)
    obtain ⟨rfl, rfl⟩ := hp18
    refine v_if_neB (pc := 21) X 30 dX6_sideIs_21 (by decide) (fun h21 => ?_) (fun h21 => ?_)
    · obtain ⟨i, hi, rfl⟩ := inN_of (by omega) h5
      have hcl : (nI i).toNatClampNeg = i := nI_clamp (by omega)
      refine v_aload_n (pc := 30) X dX6_sideIs_30 rfl 0 rfl ?_
      refine t_get (pc := 31) X 0 (by decide) q1956 rfl rfl dX6_sideIs_31 ?_
      refine v_iconst (pc := 34) (v := nI 1) X dX6_sideIs_34 rfl ?_
      refine v_iload_n (pc := 35) X dX6_sideIs_35 rfl 1 rfl ?_
      refine v_iaddN (pc := 36) X dX6_sideIs_36 ?_
      refine v_iald (pc := 37) X 1 ta_0 rfl (by omega) (by decide) dX6_sideIs_37 ?_
      refine v_nm (fun z1 ez1 => ?_)
      refine v_istore_n (pc := 38) (loc' := [(3, .int z1), (0, .ref x), (1, .int (nI i)), (2, .int v)]) X dX6_sideIs_38 rfl (by decide) rfl ?_
      refine v_iload_n (pc := 39) X dX6_sideIs_39 rfl 0 rfl ?_
      refine v_iload_n (pc := 40) X dX6_sideIs_40 rfl 3 rfl ?_
      refine v_ic_ne (pc := 41) X 52 dX6_sideIs_41 (by decide) (fun h41 => ?_) (fun h41 => ?_)
      · refine v_aload_n (pc := 52) X dX6_sideIs_52 rfl 1 rfl ?_
        refine t_get (pc := 53) X 0 (by decide) q1956 rfl rfl dX6_sideIs_53 ?_
        refine v_iconst (pc := 56) (v := nI 1) X dX6_sideIs_56 rfl ?_
        refine v_iload_n (pc := 57) X dX6_sideIs_57 rfl 2 rfl ?_
        refine v_iaddN (pc := 58) X dX6_sideIs_58 ?_
        refine v_iload_n (pc := 59) X dX6_sideIs_59 rfl 3 rfl ?_
        refine v_iast (pc := 60) X 1 ta_0 rfl (by omega) (by decide) dX6_sideIs_60 (tb_0 _) ?_
        refine v_aload_n (pc := 61) X dX6_sideIs_61 rfl 1 rfl ?_
        refine v_iload_n (pc := 62) X dX6_sideIs_62 rfl 0 rfl ?_
        refine t_callI (pc := 63) X m_done (lw_V q2094 q2096 qs41 q109 q2097) hdX6_done ⟨Nat.le_of_ble_eq_true rfl, Nat.le_of_ble_eq_true rfl⟩ rfl rfl (Nat.le_of_ble_eq_true rfl) dX6_sideIs_63 ⟨Nat.le_refl _, Nat.le_refl _⟩ (fun r63 σ63 hp63 => ?_)
        obtain ⟨rfl, rfl⟩ := hp63
        exact t_iret (pc := 66) X hr dX6_sideIs_66 ⟨_, rfl, Cr.ok (by unfold opSet; rw [if_pos h5, if_pos h21, hcl, if_neg (fun z => h41 (ez1.trans z))]) ez1 (by rw [rw2_s]; exact BEq.rf _) ((Ch.rf _ _ _).row 0 _ (by decide) (by decide)) rfl rfl⟩
      · refine v_aload_n (pc := 44) X dX6_sideIs_44 rfl 1 rfl ?_
        refine v_iconst (pc := 45) (v := nI 3) X dX6_sideIs_45 rfl ?_
        refine v_iload_n (pc := 46) X dX6_sideIs_46 rfl 3 rfl ?_
        refine v_iconst (pc := 47) (v := nI 3) X dX6_sideIs_47 rfl ?_
        refine t_callI (pc := 48) X m_refused (lw_V q2086 q2088 qs39 q109 q2089) hdX6_refused ⟨Nat.le_of_ble_eq_true rfl, Nat.le_of_ble_eq_true rfl⟩ rfl rfl (Nat.le_of_ble_eq_true rfl) dX6_sideIs_48 ⟨Nat.le_refl _, Nat.le_refl _⟩ (fun r48 σ48 hp48 => ?_)
        obtain ⟨rfl, rfl⟩ := hp48
        exact t_iret (pc := 51) X hr dX6_sideIs_51 ⟨_, rfl, Cr.ref (by unfold opSet; rw [if_pos h5, if_pos h21, hcl, if_pos (ez1.symm.trans h41)]) (by decide) (Ch.rf _ _ _)⟩
    · refine v_aload_n (pc := 24) X dX6_sideIs_24 rfl 0 rfl ?_
      refine v_iconst (pc := 25) (v := nI 2) X dX6_sideIs_25 rfl ?_
      refine t_callI (pc := 26) X m_fails (lw_V q2082 q2084 qs38 q109 q2085) hdX6_fails ⟨Nat.le_of_ble_eq_true rfl, Nat.le_of_ble_eq_true rfl⟩ rfl rfl (Nat.le_of_ble_eq_true rfl) dX6_sideIs_26 ⟨Nat.le_refl _, Nat.le_refl _⟩ (fun r26 σ26 hp26 => ?_)
      obtain ⟨rfl, rfl⟩ := hp26
      exact t_iret (pc := 29) X hr dX6_sideIs_29 ⟨_, rfl, Cr.fail (by unfold opSet; rw [if_pos h5, if_neg h21]) (by decide) (Ch.rf _ _ _) rfl rfl⟩
  · refine v_aload_n (pc := 8) X dX6_sideIs_8 rfl 0 rfl ?_
    refine v_iconst (pc := 9) (v := nI 1) X dX6_sideIs_9 rfl ?_
    refine t_callI (pc := 10) X m_fails (lw_V q2082 q2084 qs38 q109 q2085) hdX6_fails ⟨Nat.le_of_ble_eq_true rfl, Nat.le_of_ble_eq_true rfl⟩ rfl rfl (Nat.le_of_ble_eq_true rfl) dX6_sideIs_10 ⟨Nat.le_refl _, Nat.le_refl _⟩ (fun r10 σ10 hp10 => ?_)
    obtain ⟨rfl, rfl⟩ := hp10
    exact t_iret (pc := 13) X hr dX6_sideIs_13 ⟨_, rfl, Cr.fail (by unfold opSet; rw [if_neg h5]) (by decide) (Ch.rf _ _ _) rfl rfl⟩
theorem hdX6_takes : yX6_takes.cls = RX6 ∧ yX6_takes.cls ≠ "java/lang/invoke/MethodHandle" ∧ yX6_takes.cls ≠ "java/lang/invoke/VarHandle" ∧ (parseMethodDescriptor yX6_takes.desc).map (fun d => d.parameters.length) = some 0 := by decide +kernel
set_option maxHeartbeats 4000000 in
theorem m_takes {l_ : Launch} {D : va_G} {dd : Nat → ClassId} {x : Nat} {ad : Nat → Nat} {σ : Tw} {n : Nat} (hn : σ 0 0 = nI n) (h9 : n ≤ 9) : TM l_ D dd x ad yX6_takes cX6_takes 2 (some .int) 1 23 [.ref x] σ (TI (fun r σ' => Cr σ (opTake (σ 0) n) r σ')) := by
  refine MW.intro (by decide) (Nat.le_of_ble_eq_true rfl) (fun p_ e_ s_ m_ as_ bl_ me_ c_ A_ X hr hnm => ?_)
  have X : VX p_ s_ m_ as_ me_ c_ cX6_takes 2 RX6 D dd A_ := X
  refine v_eq (loc' := [(0, .ref x)]) rfl rfl rfl ?_
  refine v_aload_n (pc := 0) X dX6_takes_0 rfl 0 rfl ?_
  refine t_get (pc := 1) X 0 (by decide) q1956 rfl rfl dX6_takes_1 ?_
  refine v_iconst (pc := 4) (v := nI 0) X dX6_takes_4 rfl ?_
  refine v_iald (pc := 5) X 1 ta_0 rfl (by omega) (by decide) dX6_takes_5 ?_
  refine v_top (y := (nI n)) hn ?_
  refine v_if_neN (pc := 6) X (by omega) 17 dX6_takes_6 (by decide) (fun h6 => ?_) (fun h6 => ?_)
  · refine v_aload_n (pc := 17) X dX6_takes_17 rfl 0 rfl ?_
    refine t_get (pc := 18) X 0 (by decide) q1956 rfl rfl dX6_takes_18 ?_
    refine v_iconst (pc := 21) (v := nI 0) X dX6_takes_21 rfl ?_
    refine v_dup2 (pc := 22) X dX6_takes_22 rfl rfl ?_
    refine v_iald (pc := 23) X 1 ta_0 rfl (by omega) (by decide) dX6_takes_23 ?_
    refine v_top (y := (nI n)) hn ?_
    refine v_iconst (pc := 24) (v := nI 1) X dX6_takes_24 rfl ?_
    refine v_isubN (pc := 25) X (by omega) dX6_takes_25 ?_
    refine v_iast (pc := 26) X 1 ta_0 rfl (by omega) (by decide) dX6_takes_26 (tb_0 _) ?_
    refine v_aload_n (pc := 27) X dX6_takes_27 rfl 0 rfl ?_
    refine t_get (pc := 28) X 0 (by decide) q1956 rfl rfl dX6_takes_28 ?_
    refine v_iconst (pc := 31) (v := nI 1) X dX6_takes_31 rfl ?_
    refine v_aload_n (pc := 32) X dX6_takes_32 rfl 0 rfl ?_
    refine t_get (pc := 33) X 0 (by decide) q1956 rfl rfl dX6_takes_33 ?_
    refine v_iconst (pc := 36) (v := nI 0) X dX6_takes_36 rfl ?_
    refine v_iald (pc := 37) X 1 ta_0 rfl (by omega) (by decide) dX6_takes_37 ?_
    refine v_top (y := (nI (n - 1))) rd_s ?_
    refine v_iaddN (pc := 38) X dX6_takes_38 ?_
    refine v_iald (pc := 39) X 1 ta_0 rfl (by omega) (by decide) dX6_takes_39 ?_
    refine v_top (y := σ 0 n) (by rw [show 1 + (n - 1) = n by omega]; exact rd_n (by omega)) ?_
    refine v_nm (fun z1 ez1 => ?_)
    refine v_istore_n (pc := 40) (loc' := [(1, .int z1), (0, .ref x)]) X dX6_takes_40 rfl (by decide) rfl ?_
    refine v_aload_n (pc := 41) X dX6_takes_41 rfl 1 rfl ?_
    refine t_get (pc := 42) X 0 (by decide) q1956 rfl rfl dX6_takes_42 ?_
    refine v_iconst (pc := 45) (v := nI 1) X dX6_takes_45 rfl ?_
    refine v_aload_n (pc := 46) X dX6_takes_46 rfl 1 rfl ?_
    refine t_get (pc := 47) X 0 (by decide) q1956 rfl rfl dX6_takes_47 ?_
    refine v_iconst (pc := 50) (v := nI 0) X dX6_takes_50 rfl ?_
    refine v_iald (pc := 51) X 1 ta_0 rfl (by omega) (by decide) dX6_takes_51 ?_
    refine v_top (y := (nI (n - 1))) rd_s ?_
    refine v_iaddN (pc := 52) X dX6_takes_52 ?_
    refine v_top (y := nI n) (by rw [show 1 + (n - 1) = n by omega]) ?_
    refine v_iconst (pc := 53) (v := nI 0) X dX6_takes_53 rfl ?_
    refine v_iast (pc := 54) X 1 ta_0 rfl (by omega) (by decide) dX6_takes_54 (tb_0 _) ?_
    refine v_aload_n (pc := 55) X dX6_takes_55 rfl 1 rfl ?_
    refine v_iload_n (pc := 56) X dX6_takes_56 rfl 0 rfl ?_
    refine t_callI (pc := 57) X m_done (lw_V q2094 q2096 qs41 q109 q2097) hdX6_done ⟨Nat.le_of_ble_eq_true rfl, Nat.le_of_ble_eq_true rfl⟩ rfl rfl (Nat.le_of_ble_eq_true rfl) dX6_takes_57 ⟨Nat.le_refl _, Nat.le_refl _⟩ (fun r57 σ57 hp57 => ?_)
    obtain ⟨rfl, rfl⟩ := hp57
    exact t_iret (pc := 60) X hr dX6_takes_60 ⟨_, rfl, Cr.ok (by unfold opTake; rw [if_neg h6]) ez1 (by rw [rw2_s, rw2_s]; exact BEq.rf _) (((Ch.rf _ _ _).row 0 _ (by decide) (by decide)).row 0 _ (by decide) (by decide)) rfl rfl⟩
  · refine v_aload_n (pc := 9) X dX6_takes_9 rfl 0 rfl ?_
    refine v_iconst (pc := 10) (v := nI 2) X dX6_takes_10 rfl ?_
    refine v_iconst (pc := 11) (v := nI 0) X dX6_takes_11 rfl ?_
    refine v_iconst (pc := 12) (v := nI 1) X dX6_takes_12 rfl ?_
    refine t_callI (pc := 13) X m_refused (lw_V q2086 q2088 qs39 q109 q2089) hdX6_refused ⟨Nat.le_of_ble_eq_true rfl, Nat.le_of_ble_eq_true rfl⟩ rfl rfl (Nat.le_of_ble_eq_true rfl) dX6_takes_13 ⟨Nat.le_refl _, Nat.le_refl _⟩ (fun r13 σ13 hp13 => ?_)
    obtain ⟨rfl, rfl⟩ := hp13
    exact t_iret (pc := 16) X hr dX6_takes_16 ⟨_, rfl, Cr.ref (by unfold opTake; rw [if_pos h6]) (by decide) (Ch.rf _ _ _)⟩
theorem hdX6_cooperComes : yX6_cooperComes.cls = RX6 ∧ yX6_cooperComes.cls ≠ "java/lang/invoke/MethodHandle" ∧ yX6_cooperComes.cls ≠ "java/lang/invoke/VarHandle" ∧ (parseMethodDescriptor yX6_cooperComes.desc).map (fun d => d.parameters.length) = some 1 := by decide +kernel
set_option maxHeartbeats 4000000 in
theorem m_cooperComes {l_ : Launch} {D : va_G} {dd : Nat → ClassId} {x : Nat} {ad : Nat → Nat} {σ : Tw} {n : Nat} {v : Int32} (hc : σ 0 10 = nI n) (h4 : n ≤ 4) : TM l_ D dd x ad yX6_cooperComes cX6_cooperComes 3 (some .int) 1 23 [.ref x, .int v] σ (TI (fun r σ' => Cr σ (opCoop (σ 0) n v) r σ')) := by
  refine MW.intro (by decide) (Nat.le_of_ble_eq_true rfl) (fun p_ e_ s_ m_ as_ bl_ me_ c_ A_ X hr hnm => ?_)
  have X : VX p_ s_ m_ as_ me_ c_ cX6_cooperComes 3 RX6 D dd A_ := X
  refine v_eq (loc' := [(0, .ref x), (1, .int v)]) rfl rfl rfl ?_
  refine v_iload_n (pc := 0) X dX6_cooperComes_0 rfl 1 rfl ?_
  refine v_iconst (pc := 1) (v := nI 1) X dX6_cooperComes_1 rfl ?_
  refine v_ldc (pc := 2) X q2134 dX6_cooperComes_2 ?_
  refine v_top (y := nI 99999) rfl ?_
  refine t_callSI (pc := 4) X m_in (lw_S q2079 q2080 q109 q2081) hdX6_in ⟨Nat.le_of_ble_eq_true rfl, Nat.le_of_ble_eq_true rfl⟩ rfl rfl (Nat.le_of_ble_eq_true rfl) dX6_cooperComes_4 ⟨Nat.le_refl _, Nat.le_refl _⟩ (fun r4 σ4 hp4 => ?_)
  obtain ⟨rfl, rfl⟩ := hp4
  refine v_if_neB (pc := 7) X 16 dX6_cooperComes_7 (by decide) (fun h7 => ?_) (fun h7 => ?_)
  · refine v_aload_n (pc := 16) X dX6_cooperComes_16 rfl 0 rfl ?_
    refine t_get (pc := 17) X 0 (by decide) q1956 rfl rfl dX6_cooperComes_17 ?_
    refine v_bipush (pc := 20) (v := nI 10) X dX6_cooperComes_20 rfl ?_
    refine v_iald (pc := 22) X 1 ta_0 rfl (by omega) (by decide) dX6_cooperComes_22 ?_
    refine v_top (y := (nI n)) hc ?_
    refine v_istore_n (pc := 23) (loc' := [(2, .int (nI n)), (0, .ref x), (1, .int v)]) X dX6_cooperComes_23 rfl (by decide) rfl ?_
    refine v_iload_n (pc := 24) X dX6_cooperComes_24 rfl 0 rfl ?_
    refine v_iconst (pc := 25) (v := nI 4) X dX6_cooperComes_25 rfl ?_
    refine v_ic_neN (pc := 26) X (by omega) (by omega) 37 dX6_cooperComes_26 (by decide) (fun h26 => ?_) (fun h26 => ?_)
    · refine v_aload_n (pc := 37) X dX6_cooperComes_37 rfl 1 rfl ?_
      refine t_get (pc := 38) X 0 (by decide) q1956 rfl rfl dX6_cooperComes_38 ?_
      refine v_bipush (pc := 41) (v := nI 11) X dX6_cooperComes_41 rfl ?_
      refine v_iload_n (pc := 43) X dX6_cooperComes_43 rfl 0 rfl ?_
      refine v_iaddN (pc := 44) X dX6_cooperComes_44 ?_
      refine v_iload_n (pc := 45) X dX6_cooperComes_45 rfl 2 rfl ?_
      refine v_iast (pc := 46) X 1 ta_0 rfl (by omega) (by decide) dX6_cooperComes_46 (tb_0 _) ?_
      refine v_aload_n (pc := 47) X dX6_cooperComes_47 rfl 1 rfl ?_
      refine t_get (pc := 48) X 0 (by decide) q1956 rfl rfl dX6_cooperComes_48 ?_
      refine v_bipush (pc := 51) (v := nI 10) X dX6_cooperComes_51 rfl ?_
      refine v_dup2 (pc := 53) X dX6_cooperComes_53 rfl rfl ?_
      refine v_iald (pc := 54) X 1 ta_0 rfl (by omega) (by decide) dX6_cooperComes_54 ?_
      refine v_top (y := (nI n)) ((rd_n (by omega)).trans hc) ?_
      refine v_iconst (pc := 55) (v := nI 1) X dX6_cooperComes_55 rfl ?_
      refine v_iaddN (pc := 56) X dX6_cooperComes_56 ?_
      refine v_iast (pc := 57) X 1 ta_0 rfl (by omega) (by decide) dX6_cooperComes_57 (tb_0 _) ?_
      refine v_aload_n (pc := 58) X dX6_cooperComes_58 rfl 1 rfl ?_
      refine v_iload_n (pc := 59) X dX6_cooperComes_59 rfl 0 rfl ?_
      refine t_callI (pc := 60) X m_done (lw_V q2094 q2096 qs41 q109 q2097) hdX6_done ⟨Nat.le_of_ble_eq_true rfl, Nat.le_of_ble_eq_true rfl⟩ rfl rfl (Nat.le_of_ble_eq_true rfl) dX6_cooperComes_60 ⟨Nat.le_refl _, Nat.le_refl _⟩ (fun r60 σ60 hp60 => ?_)
      obtain ⟨rfl, rfl⟩ := hp60
      exact t_iret (pc := 63) X hr dX6_cooperComes_63 ⟨_, rfl, Cr.ok (by unfold opCoop; rw [if_pos h7, if_neg h26]) rfl (by rw [rw2_s, rw2_s]; exact BEq.rf _) (((Ch.rf _ _ _).row 0 _ (by decide) (by decide)).row 0 _ (by decide) (by decide)) rfl rfl⟩
    · refine v_aload_n (pc := 29) X dX6_cooperComes_29 rfl 1 rfl ?_
      refine v_iconst (pc := 30) (v := nI 1) X dX6_cooperComes_30 rfl ?_
      refine v_iconst (pc := 31) (v := nI 4) X dX6_cooperComes_31 rfl ?_
      refine v_iconst (pc := 32) (v := nI 2) X dX6_cooperComes_32 rfl ?_
      refine t_callI (pc := 33) X m_refused (lw_V q2086 q2088 qs39 q109 q2089) hdX6_refused ⟨Nat.le_of_ble_eq_true rfl, Nat.le_of_ble_eq_true rfl⟩ rfl rfl (Nat.le_of_ble_eq_true rfl) dX6_cooperComes_33 ⟨Nat.le_refl _, Nat.le_refl _⟩ (fun r33 σ33 hp33 => ?_)
      obtain ⟨rfl, rfl⟩ := hp33
      exact t_iret (pc := 36) X hr dX6_cooperComes_36 ⟨_, rfl, Cr.ref (by unfold opCoop; rw [if_pos h7, if_pos h26]) (by decide) (Ch.rf _ _ _)⟩
  · refine v_aload_n (pc := 10) X dX6_cooperComes_10 rfl 0 rfl ?_
    refine v_iconst (pc := 11) (v := nI 1) X dX6_cooperComes_11 rfl ?_
    refine t_callI (pc := 12) X m_fails (lw_V q2082 q2084 qs38 q109 q2085) hdX6_fails ⟨Nat.le_of_ble_eq_true rfl, Nat.le_of_ble_eq_true rfl⟩ rfl rfl (Nat.le_of_ble_eq_true rfl) dX6_cooperComes_12 ⟨Nat.le_refl _, Nat.le_refl _⟩ (fun r12 σ12 hp12 => ?_)
    obtain ⟨rfl, rfl⟩ := hp12
    exact t_iret (pc := 15) X hr dX6_cooperComes_15 ⟨_, rfl, Cr.fail (by unfold opCoop; rw [if_neg h7]) (by decide) (Ch.rf _ _ _) rfl rfl⟩
theorem hdX6_isCooper : yX6_isCooper.cls = RX6 ∧ yX6_isCooper.cls ≠ "java/lang/invoke/MethodHandle" ∧ yX6_isCooper.cls ≠ "java/lang/invoke/VarHandle" ∧ (parseMethodDescriptor yX6_isCooper.desc).map (fun d => d.parameters.length) = some 1 := by decide +kernel
set_option maxHeartbeats 4000000 in
theorem m_isCooper {l_ : Launch} {D : va_G} {dd : Nat → ClassId} {x : Nat} {ad : Nat → Nat} {σ : Tw} {n : Nat} {a : Int32} (hc : σ 0 10 = nI n) : TM l_ D dd x ad yX6_isCooper cX6_isCooper 2 (some .boolean) 1 22 [.ref x, .int a] σ (TI (fun r σ' => bI (nI 0 ≤ a ∧ a ≤ nI n - nI 1) = r ∧ σ = σ')) := by
  refine MW.intro (by decide) (Nat.le_of_ble_eq_true rfl) (fun p_ e_ s_ m_ as_ bl_ me_ c_ A_ X hr hnm => ?_)
  have X : VX p_ s_ m_ as_ me_ c_ cX6_isCooper 2 RX6 D dd A_ := X
  refine v_eq (loc' := [(0, .ref x), (1, .int a)]) rfl rfl rfl ?_
  refine v_iload_n (pc := 0) X dX6_isCooper_0 rfl 1 rfl ?_
  refine v_iconst (pc := 1) (v := nI 0) X dX6_isCooper_1 rfl ?_
  refine v_aload_n (pc := 2) X dX6_isCooper_2 rfl 0 rfl ?_
  refine t_get (pc := 3) X 0 (by decide) q1956 rfl rfl dX6_isCooper_3 ?_
  refine v_bipush (pc := 6) (v := nI 10) X dX6_isCooper_6 rfl ?_
  refine v_iald (pc := 8) X 1 ta_0 rfl (by omega) (by decide) dX6_isCooper_8 ?_
  refine v_top (y := (nI n)) hc ?_
  refine v_iconst (pc := 9) (v := nI 1) X dX6_isCooper_9 rfl ?_
  refine v_isub (pc := 10) X dX6_isCooper_10 ?_
  refine t_callSI (pc := 11) X m_in (lw_S q2079 q2080 q109 q2081) hdX6_in ⟨Nat.le_of_ble_eq_true rfl, Nat.le_of_ble_eq_true rfl⟩ rfl rfl (Nat.le_of_ble_eq_true rfl) dX6_isCooper_11 ⟨Nat.le_refl _, Nat.le_refl _⟩ (fun r11 σ11 hp11 => ?_)
  obtain ⟨rfl, rfl⟩ := hp11
  exact t_zret (pc := 14) X hr (nzb _) dX6_isCooper_14 ⟨_, rfl, rfl, rfl⟩
theorem hdX6_leaves : yX6_leaves.cls = RX6 ∧ yX6_leaves.cls ≠ "java/lang/invoke/MethodHandle" ∧ yX6_leaves.cls ≠ "java/lang/invoke/VarHandle" ∧ (parseMethodDescriptor yX6_leaves.desc).map (fun d => d.parameters.length) = some 1 := by decide +kernel
set_option maxHeartbeats 4000000 in
theorem m_leaves {l_ : Launch} {D : va_G} {dd : Nat → ClassId} {x : Nat} {ad : Nat → Nat} {σ : Tw} {n : Nat} {q : Int32} (hc : σ 0 10 = nI n) (h4 : n ≤ 4) : TM l_ D dd x ad yX6_leaves cX6_leaves 4 (some .int) 2 43 [.ref x, .int q] σ (TI (fun r σ' => Cr σ (opLeave (σ 0) n q) r σ')) := by
  refine MW.intro (by decide) (Nat.le_of_ble_eq_true rfl) (fun p_ e_ s_ m_ as_ bl_ me_ c_ A_ X hr hnm => ?_)
  have X : VX p_ s_ m_ as_ me_ c_ cX6_leaves 4 RX6 D dd A_ := X
  refine v_eq (loc' := [(0, .ref x), (1, .int q)]) rfl rfl rfl ?_
  refine v_aload_n (pc := 0) X dX6_leaves_0 rfl 0 rfl ?_
  refine v_iload_n (pc := 1) X dX6_leaves_1 rfl 1 rfl ?_
  refine t_callI (pc := 2) X (m_isCooper hc) (lw_V q2143 q2145 qs48 q109 q2146) hdX6_isCooper ⟨Nat.le_of_ble_eq_true rfl, Nat.le_of_ble_eq_true rfl⟩ rfl rfl (Nat.le_of_ble_eq_true rfl) dX6_leaves_2 ⟨Nat.le_refl _, Nat.le_refl _⟩ (fun r2 σ2 hp2 => ?_)
  obtain ⟨rfl, rfl⟩ := hp2
  refine v_if_neB (pc := 5) X 14 dX6_leaves_5 (by decide) (fun h5 => ?_) (fun h5 => ?_)
  · obtain ⟨i, hi, rfl⟩ := inN_of (by omega) h5
    have hcl : (nI i).toNatClampNeg = i := nI_clamp (by omega)
    refine v_aload_n (pc := 14) X dX6_leaves_14 rfl 0 rfl ?_
    refine t_get (pc := 15) X 0 (by decide) q1956 rfl rfl dX6_leaves_15 ?_
    refine v_bipush (pc := 18) (v := nI 11) X dX6_leaves_18 rfl ?_
    refine v_iload_n (pc := 20) X dX6_leaves_20 rfl 1 rfl ?_
    refine v_iaddN (pc := 21) X dX6_leaves_21 ?_
    refine v_iald (pc := 22) X 1 ta_0 rfl (by omega) (by decide) dX6_leaves_22 ?_
    refine v_nm (fun z1 ez1 => ?_)
    refine v_istore_n (pc := 23) (loc' := [(2, .int z1), (0, .ref x), (1, .int (nI i))]) X dX6_leaves_23 rfl (by decide) rfl ?_
    refine v_aload_n (pc := 24) X dX6_leaves_24 rfl 1 rfl ?_
    refine t_get (pc := 25) X 0 (by decide) q1956 rfl rfl dX6_leaves_25 ?_
    refine v_bipush (pc := 28) (v := nI 10) X dX6_leaves_28 rfl ?_
    refine v_dup2 (pc := 30) X dX6_leaves_30 rfl rfl ?_
    refine v_iald (pc := 31) X 1 ta_0 rfl (by omega) (by decide) dX6_leaves_31 ?_
    refine v_top (y := (nI n)) hc ?_
    refine v_iconst (pc := 32) (v := nI 1) X dX6_leaves_32 rfl ?_
    refine v_isubN (pc := 33) X (by omega) dX6_leaves_33 ?_
    refine v_iast (pc := 34) X 1 ta_0 rfl (by omega) (by decide) dX6_leaves_34 (tb_0 _) ?_
    refine v_iload_n (pc := 35) X dX6_leaves_35 rfl 2 rfl ?_
    refine v_istore_n (pc := 36) (loc' := [(3, .int (nI i)), (2, .int z1), (0, .ref x), (1, .int (nI i))]) X dX6_leaves_36 rfl (by decide) rfl ?_
    refine v_sub [2, 3, 1, 0] rfl ?_
    refine v_loop2 (S := Nat) (T := Tw) (fun k τ => tw x ad dd τ) (fun k τ => [(0, .ref x), (1, .int (nI i)), (2, .int z1), (3, .int (nI k))]) (fun k τ => i ≤ k ∧ k ≤ n - 1 ∧ τ = rw2 σ 0 (shiftC (upd (σ 0) 10 (nI (n - 1))) i k)) (fun k τ => n - k) (fun k τ hI37 ih37 => ?_) i _ ⟨Nat.le_refl _, by omega, by rw [shiftC_0]⟩
    obtain ⟨hk1, hk2, rfl⟩ := hI37
    refine v_iload_n (pc := 37) X dX6_leaves_37 rfl 3 rfl ?_
    refine v_aload_n (pc := 38) X dX6_leaves_38 rfl 0 rfl ?_
    refine t_get (pc := 39) X 0 (by decide) q1956 rfl rfl dX6_leaves_39 ?_
    refine v_bipush (pc := 42) (v := nI 10) X dX6_leaves_42 rfl ?_
    refine v_iald (pc := 44) X 1 ta_0 rfl (by omega) (by decide) dX6_leaves_44 ?_
    refine v_top (y := (nI (n - 1))) (lv_t10 hk2 h4) ?_
    refine v_ic_geN (pc := 45) X (by omega) (by omega) 74 dX6_leaves_45 (by decide) (fun h45 => ?_) (fun h45 => ?_)
    · refine v_aload_n (pc := 74) X dX6_leaves_74 rfl 0 rfl ?_
      refine t_get (pc := 75) X 0 (by decide) q1956 rfl rfl dX6_leaves_75 ?_
      refine v_bipush (pc := 78) (v := nI 11) X dX6_leaves_78 rfl ?_
      refine v_aload_n (pc := 80) X dX6_leaves_80 rfl 0 rfl ?_
      refine t_get (pc := 81) X 0 (by decide) q1956 rfl rfl dX6_leaves_81 ?_
      refine v_bipush (pc := 84) (v := nI 10) X dX6_leaves_84 rfl ?_
      refine v_iald (pc := 86) X 1 ta_0 rfl (by omega) (by decide) dX6_leaves_86 ?_
      refine v_top (y := (nI (n - 1))) (lv_t10 hk2 h4) ?_
      refine v_iaddN (pc := 87) X dX6_leaves_87 ?_
      refine v_iconst (pc := 88) (v := nI 0) X dX6_leaves_88 rfl ?_
      refine v_iast (pc := 89) X 1 ta_0 rfl (by omega) (by decide) dX6_leaves_89 (tb_0 _) ?_
      refine v_aload_n (pc := 90) X dX6_leaves_90 rfl 0 rfl ?_
      refine v_iload_n (pc := 91) X dX6_leaves_91 rfl 2 rfl ?_
      refine t_callI (pc := 92) X m_done (lw_V q2094 q2096 qs41 q109 q2097) hdX6_done ⟨Nat.le_of_ble_eq_true rfl, Nat.le_of_ble_eq_true rfl⟩ rfl rfl (Nat.le_of_ble_eq_true rfl) dX6_leaves_92 ⟨Nat.le_refl _, Nat.le_refl _⟩ (fun r92 σ92 hp92 => ?_)
      obtain ⟨rfl, rfl⟩ := hp92
      exact t_iret (pc := 95) X hr dX6_leaves_95 ⟨_, rfl, Cr.ok (by unfold opLeave; rw [if_pos h5, hcl]) ez1 (by rw [rw2_s, rw2_s, show k = n - 1 by omega]; exact BEq.rf _) (((Ch.rf _ _ _).row 0 _ (by decide) (by decide)).row 0 _ (by decide) (by decide)) rfl rfl⟩
    · refine v_aload_n (pc := 48) X dX6_leaves_48 rfl 0 rfl ?_
      refine t_get (pc := 49) X 0 (by decide) q1956 rfl rfl dX6_leaves_49 ?_
      refine v_bipush (pc := 52) (v := nI 11) X dX6_leaves_52 rfl ?_
      refine v_iload_n (pc := 54) X dX6_leaves_54 rfl 3 rfl ?_
      refine v_iaddN (pc := 55) X dX6_leaves_55 ?_
      refine v_aload_n (pc := 56) X dX6_leaves_56 rfl 0 rfl ?_
      refine t_get (pc := 57) X 0 (by decide) q1956 rfl rfl dX6_leaves_57 ?_
      refine v_bipush (pc := 60) (v := nI 11) X dX6_leaves_60 rfl ?_
      refine v_iload_n (pc := 62) X dX6_leaves_62 rfl 3 rfl ?_
      refine v_iaddN (pc := 63) X dX6_leaves_63 ?_
      refine v_iconst (pc := 64) (v := nI 1) X dX6_leaves_64 rfl ?_
      refine v_iaddN (pc := 65) X dX6_leaves_65 ?_
      refine v_iald (pc := 66) X 1 ta_0 rfl (by omega) (by decide) dX6_leaves_66 ?_
      refine v_iast (pc := 67) X 1 ta_0 rfl (by omega) (by decide) dX6_leaves_67 (tb_0 _) ?_
      refine v_iinc (pc := 68) (v := (nI (k + 1))) (loc' := [(3, .int (nI (k + 1))), (0, .ref x), (1, .int (nI i)), (2, .int z1)]) X dX6_leaves_68 3 rfl (nI_add _ 1) (by decide) rfl ?_
      refine v_goto (pc := 71) X 37 dX6_leaves_71 (by decide) ?_
      refine v_sub [1, 2, 3, 0] rfl ?_
      exact ih37 _ _ ⟨by omega, by omega, lv_step hk1 (by omega) h4⟩ (by omega)
  · refine v_aload_n (pc := 8) X dX6_leaves_8 rfl 0 rfl ?_
    refine v_iconst (pc := 9) (v := nI 1) X dX6_leaves_9 rfl ?_
    refine t_callI (pc := 10) X m_fails (lw_V q2082 q2084 qs38 q109 q2085) hdX6_fails ⟨Nat.le_of_ble_eq_true rfl, Nat.le_of_ble_eq_true rfl⟩ rfl rfl (Nat.le_of_ble_eq_true rfl) dX6_leaves_10 ⟨Nat.le_refl _, Nat.le_refl _⟩ (fun r10 σ10 hp10 => ?_)
    obtain ⟨rfl, rfl⟩ := hp10
    exact t_iret (pc := 13) X hr dX6_leaves_13 ⟨_, rfl, Cr.fail (by unfold opLeave; rw [if_neg h5]) (by decide) (Ch.rf _ _ _) rfl rfl⟩

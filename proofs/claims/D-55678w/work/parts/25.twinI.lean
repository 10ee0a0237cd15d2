theorem hdX6_kept : yX6_kept.cls = RX6 ∧ yX6_kept.cls ≠ "java/lang/invoke/MethodHandle" ∧ yX6_kept.cls ≠ "java/lang/invoke/VarHandle" ∧ (parseMethodDescriptor yX6_kept.desc).map (fun d => d.parameters.length) = some 1 := by decide +kernel
set_option maxHeartbeats 4000000 in
theorem m_kept {l_ : Launch} {D : va_G} {dd : Nat → ClassId} {x : Nat} {ad : Nat → Nat} {σ : Tw} {v : Int32} {hs : List Blk} {k : Nat} (hH : HsIs σ hs) (ht : σ 99 14 = nI k) (hk : k < 1000) : TM l_ D dd x ad yX6_kept cX6_kept 3 (some .int) 1 24 [.ref x, .int v] σ (TI (fun r σ' => KeptP σ hs v r σ')) := by
  obtain ⟨hH1, hH2, hH3⟩ := id hH
  refine MW.intro (by decide) (Nat.le_of_ble_eq_true rfl) (fun p_ e_ s_ m_ as_ bl_ me_ c_ A_ X hr hnm => ?_)
  have X : VX p_ s_ m_ as_ me_ c_ cX6_kept 3 RX6 D dd A_ := X
  refine v_eq (loc' := [(0, .ref x), (1, .int v)]) rfl rfl rfl ?_
  refine v_aload_n (pc := 0) X dX6_kept_0 rfl 0 rfl ?_
  refine t_get (pc := 1) X 14 (by decide) q1970 rfl rfl dX6_kept_1 ?_
  refine v_top (y := (nI k)) ht ?_
  refine v_if_eqN (pc := 4) X (by omega) 22 dX6_kept_4 (by decide) (fun h4 => ?_) (fun h4 => ?_)
  · refine v_aload_n (pc := 22) X dX6_kept_22 rfl 0 rfl ?_
    refine t_get (pc := 23) X 3 (by decide) q1959 rfl rfl dX6_kept_23 ?_
    refine v_top (y := (nI hs.length)) hH1 ?_
    refine v_bipush (pc := 26) (v := nI 8) X dX6_kept_26 rfl ?_
    refine v_ic_neN (pc := 28) X (by omega) (by omega) 71 dX6_kept_28 (by decide) (fun h28 => ?_) (fun h28 => ?_)
    · refine v_aload_n (pc := 71) X dX6_kept_71 rfl 0 rfl ?_
      refine t_get (pc := 72) X 1 (by decide) q1957 rfl rfl dX6_kept_72 ?_
      refine v_iconst (pc := 75) (v := nI 0) X dX6_kept_75 rfl ?_
      refine v_aload_n (pc := 76) X dX6_kept_76 rfl 0 rfl ?_
      refine t_get (pc := 77) X 2 (by decide) q1958 rfl rfl dX6_kept_77 ?_
      refine v_aload_n (pc := 80) X dX6_kept_80 rfl 0 rfl ?_
      refine t_get (pc := 81) X 3 (by decide) q1959 rfl rfl dX6_kept_81 ?_
      refine v_top (y := (nI hs.length)) hH1 ?_
      refine v_bipush (pc := 84) (v := nI 112) X dX6_kept_84 rfl ?_
      refine v_imulN (pc := 86) X dX6_kept_86 ?_
      refine t_callSV (pc := 87) X (m_copy (fun _ => ta_1) (fun _ => ta_2) (fun _ f => tb_2 f) (by decide) (by decide) (by omega) (by decide) (by decide)) (lw_S q2072 q2073 q109 q2074) hdX6_copy ⟨Nat.le_of_ble_eq_true rfl, Nat.le_of_ble_eq_true rfl⟩ rfl rfl (Nat.le_of_ble_eq_true rfl) dX6_kept_87 ⟨Nat.le_refl _, Nat.le_refl _⟩ (fun σ87 hp87 => ?_)
      subst hp87
      refine v_aload_n (pc := 90) X dX6_kept_90 rfl 0 rfl ?_
      refine v_dup (pc := 91) X dX6_kept_91 rfl ?_
      refine t_get (pc := 92) X 3 (by decide) q1959 rfl rfl dX6_kept_92 ?_
      refine v_top (y := (nI hs.length)) hH1 ?_
      refine v_iconst (pc := 95) (v := nI 1) X dX6_kept_95 rfl ?_
      refine v_iaddN (pc := 96) X dX6_kept_96 ?_
      refine t_put (pc := 97) X 3 (by decide) q1959 rfl rfl rfl rfl dX6_kept_97 (tf_3 _) ?_
      refine v_iload_n (pc := 100) X dX6_kept_100 rfl 1 rfl ?_
      exact t_iret (pc := 101) X hr dX6_kept_101 ⟨_, rfl, fun z => absurd (by rw [ht, h4]; rfl) z, fun _ => ⟨rfl, ((Ch.rf _ _ _).row 2 _ (by decide) (by decide)).num 3 _ (by decide), fun gb hb => hs_push hH hb h28 rfl rfl⟩⟩
    · refine v_iconst (pc := 31) (v := nI 0) X dX6_kept_31 rfl ?_
      refine v_istore_n (pc := 32) (loc' := [(2, .int (nI 0)), (0, .ref x), (1, .int v)]) X dX6_kept_32 rfl (by decide) rfl ?_
      refine v_sub [1, 2, 0] rfl ?_
      refine v_loop2 (S := Nat) (T := Tw) (fun j τ => tw x ad dd τ) (fun j τ => [(0, .ref x), (1, .int v), (2, .int (nI j))]) (fun j τ => j ≤ 784 ∧ τ = rw2 σ 2 (fun i => if i < j then σ 2 (i + 112) else σ 2 i)) (fun j τ => 784 - j) (fun j τ hI33 ih33 => ?_) 0 σ ⟨Nat.zero_le _, by rw [show (fun i => if i < 0 then σ 2 (i + 112) else σ 2 i) = σ 2 from funext (fun i => if_neg (by omega)), rw2_id]⟩
      obtain ⟨hj, rfl⟩ := hI33
      refine v_iload_n (pc := 33) X dX6_kept_33 rfl 2 rfl ?_
      refine v_sipush (pc := 34) (v := nI 784) X dX6_kept_34 rfl ?_
      refine v_ic_geN (pc := 37) X (by omega) (by omega) 61 dX6_kept_37 (by decide) (fun h37 => ?_) (fun h37 => ?_)
      · have hj7 : j = 784 := by omega
        subst hj7
        have h7 : hs.length - 1 = 7 := by omega
        refine v_aload_n (pc := 61) X dX6_kept_61 rfl 0 rfl ?_
        refine v_dup (pc := 62) X dX6_kept_62 rfl ?_
        refine t_get (pc := 63) X 3 (by decide) q1959 rfl rfl dX6_kept_63 ?_
        refine v_top (y := (nI hs.length)) hH1 ?_
        refine v_iconst (pc := 66) (v := nI 1) X dX6_kept_66 rfl ?_
        refine v_isubN (pc := 67) X (by omega) dX6_kept_67 ?_
        refine t_put (pc := 68) X 3 (by decide) q1959 rfl rfl rfl rfl dX6_kept_68 (tf_3 _) ?_
        refine v_aload_n (pc := 71) X dX6_kept_71 rfl 0 rfl ?_
        refine t_get (pc := 72) X 1 (by decide) q1957 rfl rfl dX6_kept_72 ?_
        refine v_iconst (pc := 75) (v := nI 0) X dX6_kept_75 rfl ?_
        refine v_aload_n (pc := 76) X dX6_kept_76 rfl 0 rfl ?_
        refine t_get (pc := 77) X 2 (by decide) q1958 rfl rfl dX6_kept_77 ?_
        refine v_aload_n (pc := 80) X dX6_kept_80 rfl 0 rfl ?_
        refine t_get (pc := 81) X 3 (by decide) q1959 rfl rfl dX6_kept_81 ?_
        refine v_top (y := (nI (hs.length - 1))) rfl ?_
        refine v_bipush (pc := 84) (v := nI 112) X dX6_kept_84 rfl ?_
        refine v_imulN (pc := 86) X dX6_kept_86 ?_
        refine t_callSV (pc := 87) X (m_copy (fun _ => ta_1) (fun _ => ta_2) (fun _ f => tb_2 f) (by decide) (by decide) (by omega) (by decide) (by decide)) (lw_S q2072 q2073 q109 q2074) hdX6_copy ⟨Nat.le_of_ble_eq_true rfl, Nat.le_of_ble_eq_true rfl⟩ rfl rfl (Nat.le_of_ble_eq_true rfl) dX6_kept_87 ⟨Nat.le_refl _, Nat.le_refl _⟩ (fun σ87 hp87 => ?_)
        subst hp87
        refine v_aload_n (pc := 90) X dX6_kept_90 rfl 0 rfl ?_
        refine v_dup (pc := 91) X dX6_kept_91 rfl ?_
        refine t_get (pc := 92) X 3 (by decide) q1959 rfl rfl dX6_kept_92 ?_
        refine v_top (y := (nI (hs.length - 1))) rfl ?_
        refine v_iconst (pc := 95) (v := nI 1) X dX6_kept_95 rfl ?_
        refine v_iaddN (pc := 96) X dX6_kept_96 ?_
        refine t_put (pc := 97) X 3 (by decide) q1959 rfl rfl rfl rfl dX6_kept_97 (tf_3 _) ?_
        refine v_iload_n (pc := 100) X dX6_kept_100 rfl 1 rfl ?_
        exact t_iret (pc := 101) X hr dX6_kept_101 ⟨_, rfl, fun z => absurd (by rw [ht, h4]; rfl) z, fun _ => ⟨rfl, ((((Ch.rf _ _ _).row 2 _ (by decide) (by decide)).num 3 _ (by decide)).row 2 _ (by decide) (by decide)).num 3 _ (by decide), fun gb hb => kp_8 hH hb h28 h7⟩⟩
      · refine v_aload_n (pc := 40) X dX6_kept_40 rfl 0 rfl ?_
        refine t_get (pc := 41) X 2 (by decide) q1958 rfl rfl dX6_kept_41 ?_
        refine v_iload_n (pc := 44) X dX6_kept_44 rfl 2 rfl ?_
        refine v_aload_n (pc := 45) X dX6_kept_45 rfl 0 rfl ?_
        refine t_get (pc := 46) X 2 (by decide) q1958 rfl rfl dX6_kept_46 ?_
        refine v_iload_n (pc := 49) X dX6_kept_49 rfl 2 rfl ?_
        refine v_bipush (pc := 50) (v := nI 112) X dX6_kept_50 rfl ?_
        refine v_iaddN (pc := 52) X dX6_kept_52 ?_
        refine v_iald (pc := 53) X 3 ta_2 rfl (by omega) (by decide) dX6_kept_53 ?_
        refine v_iast (pc := 54) X 3 ta_2 rfl (by omega) (by decide) dX6_kept_54 (tb_2 _) ?_
        refine v_iinc (pc := 55) (v := (nI (j + 1))) (loc' := [(2, .int (nI (j + 1))), (0, .ref x), (1, .int v)]) X dX6_kept_55 2 rfl (nI_add _ 1) (by decide) rfl ?_
        refine v_goto (pc := 58) X 33 dX6_kept_58 (by decide) ?_
        refine v_sub [1, 2, 0] rfl ?_
        exact ih33 _ _ ⟨by omega, kp_step⟩ (by omega)
  · refine v_aload_n (pc := 7) X dX6_kept_7 rfl 0 rfl ?_
    refine t_get (pc := 8) X 1 (by decide) q1957 rfl rfl dX6_kept_8 ?_
    refine v_iconst (pc := 11) (v := nI 0) X dX6_kept_11 rfl ?_
    refine v_aload_n (pc := 12) X dX6_kept_12 rfl 0 rfl ?_
    refine t_get (pc := 13) X 0 (by decide) q1956 rfl rfl dX6_kept_13 ?_
    refine v_iconst (pc := 16) (v := nI 0) X dX6_kept_16 rfl ?_
    refine t_callSV (pc := 17) X (m_copy (fun _ => ta_1) (fun _ => ta_0) (fun _ f => tb_0 f) (by decide) (by decide) (by decide) (by decide) (by decide)) (lw_S q2072 q2073 q109 q2074) hdX6_copy ⟨Nat.le_of_ble_eq_true rfl, Nat.le_of_ble_eq_true rfl⟩ rfl rfl (Nat.le_of_ble_eq_true rfl) dX6_kept_17 ⟨Nat.le_refl _, Nat.le_refl _⟩ (fun σ17 hp17 => ?_)
    subst hp17
    refine v_iconst (pc := 20) (v := nI 0) X dX6_kept_20 rfl ?_
    exact t_iret (pc := 21) X hr dX6_kept_21 ⟨_, rfl, fun _ => rfl, fun z => absurd (by rw [ht] at z; exact (nI_eq (by omega) (by decide)).mp (z.trans nI_0.symm)) h4⟩
theorem hdX6_side : yX6_side.cls = RX6 ∧ yX6_side.cls ≠ "java/lang/invoke/MethodHandle" ∧ yX6_side.cls ≠ "java/lang/invoke/VarHandle" ∧ (parseMethodDescriptor yX6_side.desc).map (fun d => d.parameters.length) = some 1 := by decide +kernel
set_option maxHeartbeats 4000000 in
theorem m_side {l_ : Launch} {D : va_G} {dd : Nat → ClassId} {x : Nat} {ad : Nat → Nat} {σ : Tw} {v : Int32} {a : AS} (hT : TRel σ a) : TM l_ D dd x ad yX6_side cX6_side 2 (some .int) 2 46 [.ref x, .int v] σ (TI (fun r σ' => TOut (stepA a (o_side a.1 v)) (o_side a.1 v).1 (o_side a.1 v).2.2.1 r σ')) := by
  obtain ⟨hwf, hnS, hnC, hnP⟩ := hT.f
  obtain ⟨hn, h9, hsd, h50, hs1, hS, hp, hp4, hPs⟩ := id hwf
  have hoe := oe_side hwf hT.1 v
  have hwo := wf_side hT.2.1 v
  have hok := ok_side a.1 v
  refine MW.intro (by decide) (Nat.le_of_ble_eq_true rfl) (fun p_ e_ s_ m_ as_ bl_ me_ c_ A_ X hr hnm => ?_)
  have X : VX p_ s_ m_ as_ me_ c_ cX6_side 2 RX6 D dd A_ := X
  refine v_eq (loc' := [(0, .ref x), (1, .int v)]) rfl rfl rfl ?_
  refine v_aload_n (pc := 0) X dX6_side_0 rfl 0 rfl ?_
  refine t_callV (pc := 1) X m_looksBack (lw_V q2068 q2070 qs36 q109 q2071) hdX6_looksBack ⟨Nat.le_of_ble_eq_true rfl, Nat.le_of_ble_eq_true rfl⟩ rfl rfl (Nat.le_of_ble_eq_true rfl) dX6_side_1 ⟨Nat.le_refl _, Nat.le_refl _⟩ (fun σ1 hp1 => ?_)
  subst hp1
  refine v_aload_n (pc := 4) X dX6_side_4 rfl 0 rfl ?_
  refine v_aload_n (pc := 5) X dX6_side_5 rfl 0 rfl ?_
  refine v_iload_n (pc := 6) X dX6_side_6 rfl 1 rfl ?_
  refine t_callI (pc := 7) X (m_sideComes (by rw [rw2_n (by decide)]; exact hn) h9) (lw_V q2075 q2077 qs37 q109 q2078) hdX6_sideComes ⟨Nat.le_of_ble_eq_true rfl, Nat.le_of_ble_eq_true rfl⟩ rfl rfl (Nat.le_of_ble_eq_true rfl) dX6_side_7 ⟨Nat.le_refl _, Nat.le_refl _⟩ (fun r7 σ7 hp7 => ?_)
  have hcr := hp7.eq hoe
  refine t_callI (pc := 10) X (m_kept (k := (o_side a.1 v).1) (hs := a.2.1) (hT.2.2.1.same ((hcr.1.1 2 (by decide) (by decide)).trans (rw2_n (by decide))) ((hcr.1.2 3 (by decide)).trans (by rw [rw2_n (by decide)]))) hcr.2.1 hok.1) (lw_V q2098 q2100 qs42 q109 q2101) hdX6_kept ⟨Nat.le_of_ble_eq_true rfl, Nat.le_of_ble_eq_true rfl⟩ rfl rfl (Nat.le_of_ble_eq_true rfl) dX6_side_10 ⟨Nat.le_refl _, Nat.le_refl _⟩ (fun r10 σ10 hp10 => ?_)
  exact t_iret (pc := 13) X hr dX6_side_13 ⟨_, rfl, tr_done hT hcr hwo hp10 hok.1 hok.2⟩
theorem hdX6_set : yX6_set.cls = RX6 ∧ yX6_set.cls ≠ "java/lang/invoke/MethodHandle" ∧ yX6_set.cls ≠ "java/lang/invoke/VarHandle" ∧ (parseMethodDescriptor yX6_set.desc).map (fun d => d.parameters.length) = some 2 := by decide +kernel
set_option maxHeartbeats 4000000 in
theorem m_set {l_ : Launch} {D : va_G} {dd : Nat → ClassId} {x : Nat} {ad : Nat → Nat} {σ : Tw} {q v : Int32} {a : AS} (hT : TRel σ a) : TM l_ D dd x ad yX6_set cX6_set 3 (some .int) 3 66 [.ref x, .int q, .int v] σ (TI (fun r σ' => TOut (stepA a (o_set a.1 q v)) (o_set a.1 q v).1 (o_set a.1 q v).2.2.1 r σ')) := by
  obtain ⟨hwf, hnS, hnC, hnP⟩ := hT.f
  obtain ⟨hn, h9, hsd, h50, hs1, hS, hp, hp4, hPs⟩ := id hwf
  have hoe := oe_set hwf hT.1 q v
  have hwo := wf_set hT.2.1 q v
  have hok := ok_set a.1 q v
  refine MW.intro (by decide) (Nat.le_of_ble_eq_true rfl) (fun p_ e_ s_ m_ as_ bl_ me_ c_ A_ X hr hnm => ?_)
  have X : VX p_ s_ m_ as_ me_ c_ cX6_set 3 RX6 D dd A_ := X
  refine v_eq (loc' := [(0, .ref x), (1, .int q), (2, .int v)]) rfl rfl rfl ?_
  refine v_aload_n (pc := 0) X dX6_set_0 rfl 0 rfl ?_
  refine t_callV (pc := 1) X m_looksBack (lw_V q2068 q2070 qs36 q109 q2071) hdX6_looksBack ⟨Nat.le_of_ble_eq_true rfl, Nat.le_of_ble_eq_true rfl⟩ rfl rfl (Nat.le_of_ble_eq_true rfl) dX6_set_1 ⟨Nat.le_refl _, Nat.le_refl _⟩ (fun σ1 hp1 => ?_)
  subst hp1
  refine v_aload_n (pc := 4) X dX6_set_4 rfl 0 rfl ?_
  refine v_aload_n (pc := 5) X dX6_set_5 rfl 0 rfl ?_
  refine v_iload_n (pc := 6) X dX6_set_6 rfl 1 rfl ?_
  refine v_iload_n (pc := 7) X dX6_set_7 rfl 2 rfl ?_
  refine t_callI (pc := 8) X (m_sideIs (by rw [rw2_n (by decide)]; exact hn) h9) (lw_V q2106 q2108 qs43 q109 q2109) hdX6_sideIs ⟨Nat.le_of_ble_eq_true rfl, Nat.le_of_ble_eq_true rfl⟩ rfl rfl (Nat.le_of_ble_eq_true rfl) dX6_set_8 ⟨Nat.le_refl _, Nat.le_refl _⟩ (fun r8 σ8 hp8 => ?_)
  have hcr := hp8.eq hoe
  refine t_callI (pc := 11) X (m_kept (k := (o_set a.1 q v).1) (hs := a.2.1) (hT.2.2.1.same ((hcr.1.1 2 (by decide) (by decide)).trans (rw2_n (by decide))) ((hcr.1.2 3 (by decide)).trans (by rw [rw2_n (by decide)]))) hcr.2.1 hok.1) (lw_V q2098 q2100 qs42 q109 q2101) hdX6_kept ⟨Nat.le_of_ble_eq_true rfl, Nat.le_of_ble_eq_true rfl⟩ rfl rfl (Nat.le_of_ble_eq_true rfl) dX6_set_11 ⟨Nat.le_refl _, Nat.le_refl _⟩ (fun r11 σ11 hp11 => ?_)
  exact t_iret (pc := 14) X hr dX6_set_14 ⟨_, rfl, tr_done hT hcr hwo hp11 hok.1 hok.2⟩
theorem hdX6_take : yX6_take.cls = RX6 ∧ yX6_take.cls ≠ "java/lang/invoke/MethodHandle" ∧ yX6_take.cls ≠ "java/lang/invoke/VarHandle" ∧ (parseMethodDescriptor yX6_take.desc).map (fun d => d.parameters.length) = some 0 := by decide +kernel
set_option maxHeartbeats 4000000 in
theorem m_take {l_ : Launch} {D : va_G} {dd : Nat → ClassId} {x : Nat} {ad : Nat → Nat} {σ : Tw}  {a : AS} (hT : TRel σ a) : TM l_ D dd x ad yX6_take cX6_take 1 (some .int) 2 46 [.ref x] σ (TI (fun r σ' => TOut (stepA a (o_take a.1)) (o_take a.1).1 (o_take a.1).2.2.1 r σ')) := by
  obtain ⟨hwf, hnS, hnC, hnP⟩ := hT.f
  obtain ⟨hn, h9, hsd, h50, hs1, hS, hp, hp4, hPs⟩ := id hwf
  have hoe := oe_take hwf hT.1
  have hwo := wf_take hT.2.1
  have hok := ok_take a.1
  refine MW.intro (by decide) (Nat.le_of_ble_eq_true rfl) (fun p_ e_ s_ m_ as_ bl_ me_ c_ A_ X hr hnm => ?_)
  have X : VX p_ s_ m_ as_ me_ c_ cX6_take 1 RX6 D dd A_ := X
  refine v_eq (loc' := [(0, .ref x)]) rfl rfl rfl ?_
  refine v_aload_n (pc := 0) X dX6_take_0 rfl 0 rfl ?_
  refine t_callV (pc := 1) X m_looksBack (lw_V q2068 q2070 qs36 q109 q2071) hdX6_looksBack ⟨Nat.le_of_ble_eq_true rfl, Nat.le_of_ble_eq_true rfl⟩ rfl rfl (Nat.le_of_ble_eq_true rfl) dX6_take_1 ⟨Nat.le_refl _, Nat.le_refl _⟩ (fun σ1 hp1 => ?_)
  subst hp1
  refine v_aload_n (pc := 4) X dX6_take_4 rfl 0 rfl ?_
  refine v_aload_n (pc := 5) X dX6_take_5 rfl 0 rfl ?_
  refine t_callI (pc := 6) X (m_takes (by rw [rw2_n (by decide)]; exact hn) h9) (lw_V q2118 q2120 qs45 q109 q2121) hdX6_takes ⟨Nat.le_of_ble_eq_true rfl, Nat.le_of_ble_eq_true rfl⟩ rfl rfl (Nat.le_of_ble_eq_true rfl) dX6_take_6 ⟨Nat.le_refl _, Nat.le_refl _⟩ (fun r6 σ6 hp6 => ?_)
  have hcr := hp6.eq hoe
  refine t_callI (pc := 9) X (m_kept (k := (o_take a.1).1) (hs := a.2.1) (hT.2.2.1.same ((hcr.1.1 2 (by decide) (by decide)).trans (rw2_n (by decide))) ((hcr.1.2 3 (by decide)).trans (by rw [rw2_n (by decide)]))) hcr.2.1 hok.1) (lw_V q2098 q2100 qs42 q109 q2101) hdX6_kept ⟨Nat.le_of_ble_eq_true rfl, Nat.le_of_ble_eq_true rfl⟩ rfl rfl (Nat.le_of_ble_eq_true rfl) dX6_take_9 ⟨Nat.le_refl _, Nat.le_refl _⟩ (fun r9 σ9 hp9 => ?_)
  exact t_iret (pc := 12) X hr dX6_take_12 ⟨_, rfl, tr_done hT hcr hwo hp9 hok.1 hok.2⟩
theorem hdX6_cooper : yX6_cooper.cls = RX6 ∧ yX6_cooper.cls ≠ "java/lang/invoke/MethodHandle" ∧ yX6_cooper.cls ≠ "java/lang/invoke/VarHandle" ∧ (parseMethodDescriptor yX6_cooper.desc).map (fun d => d.parameters.length) = some 1 := by decide +kernel
set_option maxHeartbeats 4000000 in
theorem m_cooper {l_ : Launch} {D : va_G} {dd : Nat → ClassId} {x : Nat} {ad : Nat → Nat} {σ : Tw} {v : Int32} {a : AS} (hT : TRel σ a) : TM l_ D dd x ad yX6_cooper cX6_cooper 2 (some .int) 2 46 [.ref x, .int v] σ (TI (fun r σ' => TOut (stepA a (o_coop a.1 v)) (o_coop a.1 v).1 (o_coop a.1 v).2.2.1 r σ')) := by
  obtain ⟨hwf, hnS, hnC, hnP⟩ := hT.f
  obtain ⟨hn, h9, hsd, h50, hs1, hS, hp, hp4, hPs⟩ := id hwf
  have hoe := oe_coop hwf hT.1 v
  have hwo := wf_coop hT.2.1 v
  have hok := ok_coop a.1 v
  refine MW.intro (by decide) (Nat.le_of_ble_eq_true rfl) (fun p_ e_ s_ m_ as_ bl_ me_ c_ A_ X hr hnm => ?_)
  have X : VX p_ s_ m_ as_ me_ c_ cX6_cooper 2 RX6 D dd A_ := X
  refine v_eq (loc' := [(0, .ref x), (1, .int v)]) rfl rfl rfl ?_
  refine v_aload_n (pc := 0) X dX6_cooper_0 rfl 0 rfl ?_
  refine t_callV (pc := 1) X m_looksBack (lw_V q2068 q2070 qs36 q109 q2071) hdX6_looksBack ⟨Nat.le_of_ble_eq_true rfl, Nat.le_of_ble_eq_true rfl⟩ rfl rfl (Nat.le_of_ble_eq_true rfl) dX6_cooper_1 ⟨Nat.le_refl _, Nat.le_refl _⟩ (fun σ1 hp1 => ?_)
  subst hp1
  refine v_aload_n (pc := 4) X dX6_cooper_4 rfl 0 rfl ?_
  refine v_aload_n (pc := 5) X dX6_cooper_5 rfl 0 rfl ?_
  refine v_iload_n (pc := 6) X dX6_cooper_6 rfl 1 rfl ?_
  refine t_callI (pc := 7) X (m_cooperComes (by rw [rw2_n (by decide)]; exact hS.1) hS.2.1) (lw_V q2130 q2132 qs46 q109 q2133) hdX6_cooperComes ⟨Nat.le_of_ble_eq_true rfl, Nat.le_of_ble_eq_true rfl⟩ rfl rfl (Nat.le_of_ble_eq_true rfl) dX6_cooper_7 ⟨Nat.le_refl _, Nat.le_refl _⟩ (fun r7 σ7 hp7 => ?_)
  have hcr := hp7.eq hoe
  refine t_callI (pc := 10) X (m_kept (k := (o_coop a.1 v).1) (hs := a.2.1) (hT.2.2.1.same ((hcr.1.1 2 (by decide) (by decide)).trans (rw2_n (by decide))) ((hcr.1.2 3 (by decide)).trans (by rw [rw2_n (by decide)]))) hcr.2.1 hok.1) (lw_V q2098 q2100 qs42 q109 q2101) hdX6_kept ⟨Nat.le_of_ble_eq_true rfl, Nat.le_of_ble_eq_true rfl⟩ rfl rfl (Nat.le_of_ble_eq_true rfl) dX6_cooper_10 ⟨Nat.le_refl _, Nat.le_refl _⟩ (fun r10 σ10 hp10 => ?_)
  exact t_iret (pc := 13) X hr dX6_cooper_13 ⟨_, rfl, tr_done hT hcr hwo hp10 hok.1 hok.2⟩
theorem hdX6_leave : yX6_leave.cls = RX6 ∧ yX6_leave.cls ≠ "java/lang/invoke/MethodHandle" ∧ yX6_leave.cls ≠ "java/lang/invoke/VarHandle" ∧ (parseMethodDescriptor yX6_leave.desc).map (fun d => d.parameters.length) = some 1 := by decide +kernel
set_option maxHeartbeats 4000000 in
theorem m_leave {l_ : Launch} {D : va_G} {dd : Nat → ClassId} {x : Nat} {ad : Nat → Nat} {σ : Tw} {q : Int32} {a : AS} (hT : TRel σ a) : TM l_ D dd x ad yX6_leave cX6_leave 2 (some .int) 3 66 [.ref x, .int q] σ (TI (fun r σ' => TOut (stepA a (o_leave a.1 q)) (o_leave a.1 q).1 (o_leave a.1 q).2.2.1 r σ')) := by
  obtain ⟨hwf, hnS, hnC, hnP⟩ := hT.f
  obtain ⟨hn, h9, hsd, h50, hs1, hS, hp, hp4, hPs⟩ := id hwf
  have hoe := oe_leave hwf hT.1 q
  have hwo := wf_leave hT.2.1 q
  have hok := ok_leave a.1 q
  refine MW.intro (by decide) (Nat.le_of_ble_eq_true rfl) (fun p_ e_ s_ m_ as_ bl_ me_ c_ A_ X hr hnm => ?_)
  have X : VX p_ s_ m_ as_ me_ c_ cX6_leave 2 RX6 D dd A_ := X
  refine v_eq (loc' := [(0, .ref x), (1, .int q)]) rfl rfl rfl ?_
  refine v_aload_n (pc := 0) X dX6_leave_0 rfl 0 rfl ?_
  refine t_callV (pc := 1) X m_looksBack (lw_V q2068 q2070 qs36 q109 q2071) hdX6_looksBack ⟨Nat.le_of_ble_eq_true rfl, Nat.le_of_ble_eq_true rfl⟩ rfl rfl (Nat.le_of_ble_eq_true rfl) dX6_leave_1 ⟨Nat.le_refl _, Nat.le_refl _⟩ (fun σ1 hp1 => ?_)
  subst hp1
  refine v_aload_n (pc := 4) X dX6_leave_4 rfl 0 rfl ?_
  refine v_aload_n (pc := 5) X dX6_leave_5 rfl 0 rfl ?_
  refine v_iload_n (pc := 6) X dX6_leave_6 rfl 1 rfl ?_
  refine t_callI (pc := 7) X (m_leaves (by rw [rw2_n (by decide)]; exact hS.1) hS.2.1) (lw_V q2139 q2141 qs47 q109 q2142) hdX6_leaves ⟨Nat.le_of_ble_eq_true rfl, Nat.le_of_ble_eq_true rfl⟩ rfl rfl (Nat.le_of_ble_eq_true rfl) dX6_leave_7 ⟨Nat.le_refl _, Nat.le_refl _⟩ (fun r7 σ7 hp7 => ?_)
  have hcr := hp7.eq hoe
  refine t_callI (pc := 10) X (m_kept (k := (o_leave a.1 q).1) (hs := a.2.1) (hT.2.2.1.same ((hcr.1.1 2 (by decide) (by decide)).trans (rw2_n (by decide))) ((hcr.1.2 3 (by decide)).trans (by rw [rw2_n (by decide)]))) hcr.2.1 hok.1) (lw_V q2098 q2100 qs42 q109 q2101) hdX6_kept ⟨Nat.le_of_ble_eq_true rfl, Nat.le_of_ble_eq_true rfl⟩ rfl rfl (Nat.le_of_ble_eq_true rfl) dX6_leave_10 ⟨Nat.le_refl _, Nat.le_refl _⟩ (fun r10 σ10 hp10 => ?_)
  exact t_iret (pc := 13) X hr dX6_leave_13 ⟨_, rfl, tr_done hT hcr hwo hp10 hok.1 hok.2⟩
theorem hdX6_plan : yX6_plan.cls = RX6 ∧ yX6_plan.cls ≠ "java/lang/invoke/MethodHandle" ∧ yX6_plan.cls ≠ "java/lang/invoke/VarHandle" ∧ (parseMethodDescriptor yX6_plan.desc).map (fun d => d.parameters.length) = some 2 := by decide +kernel
set_option maxHeartbeats 4000000 in
theorem m_plan {l_ : Launch} {D : va_G} {dd : Nat → ClassId} {x : Nat} {ad : Nat → Nat} {σ : Tw} {u v : Int32} {a : AS} (hT : TRel σ a) : TM l_ D dd x ad yX6_plan cX6_plan 3 (some .int) 4 103 [.ref x, .int u, .int v] σ (TI (fun r σ' => TOut (stepA a (o_plan a.1 u v)) (o_plan a.1 u v).1 (o_plan a.1 u v).2.2.1 r σ')) := by
  obtain ⟨hwf, hnS, hnC, hnP⟩ := hT.f
  obtain ⟨hn, h9, hsd, h50, hs1, hS, hp, hp4, hPs⟩ := id hwf
  have hoe := oe_plan hwf hT.1 u v
  have hwo := wf_plan hT.2.1 u v
  have hok := ok_plan a.1 u v
  refine MW.intro (by decide) (Nat.le_of_ble_eq_true rfl) (fun p_ e_ s_ m_ as_ bl_ me_ c_ A_ X hr hnm => ?_)
  have X : VX p_ s_ m_ as_ me_ c_ cX6_plan 3 RX6 D dd A_ := X
  refine v_eq (loc' := [(0, .ref x), (1, .int u), (2, .int v)]) rfl rfl rfl ?_
  refine v_aload_n (pc := 0) X dX6_plan_0 rfl 0 rfl ?_
  refine t_callV (pc := 1) X m_looksBack (lw_V q2068 q2070 qs36 q109 q2071) hdX6_looksBack ⟨Nat.le_of_ble_eq_true rfl, Nat.le_of_ble_eq_true rfl⟩ rfl rfl (Nat.le_of_ble_eq_true rfl) dX6_plan_1 ⟨Nat.le_refl _, Nat.le_refl _⟩ (fun σ1 hp1 => ?_)
  subst hp1
  refine v_aload_n (pc := 4) X dX6_plan_4 rfl 0 rfl ?_
  refine v_aload_n (pc := 5) X dX6_plan_5 rfl 0 rfl ?_
  refine v_iload_n (pc := 6) X dX6_plan_6 rfl 1 rfl ?_
  refine v_iload_n (pc := 7) X dX6_plan_7 rfl 2 rfl ?_
  refine t_callI (pc := 8) X (m_planComes (by rw [rw2_n (by decide)]; exact hn) h9 (by rw [rw2_n (by decide)]; exact hsd) h50 (by rw [rw2_n (by decide)]; exact hp) hp4) (lw_V q2219 q2221 qs58 q109 q2222) hdX6_planComes ⟨Nat.le_of_ble_eq_true rfl, Nat.le_of_ble_eq_true rfl⟩ rfl rfl (Nat.le_of_ble_eq_true rfl) dX6_plan_8 ⟨Nat.le_refl _, Nat.le_refl _⟩ (fun r8 σ8 hp8 => ?_)
  have hcr := hp8.eq hoe
  refine t_callI (pc := 11) X (m_kept (k := (o_plan a.1 u v).1) (hs := a.2.1) (hT.2.2.1.same ((hcr.1.1 2 (by decide) (by decide)).trans (rw2_n (by decide))) ((hcr.1.2 3 (by decide)).trans (by rw [rw2_n (by decide)]))) hcr.2.1 hok.1) (lw_V q2098 q2100 qs42 q109 q2101) hdX6_kept ⟨Nat.le_of_ble_eq_true rfl, Nat.le_of_ble_eq_true rfl⟩ rfl rfl (Nat.le_of_ble_eq_true rfl) dX6_plan_11 ⟨Nat.le_refl _, Nat.le_refl _⟩ (fun r11 σ11 hp11 => ?_)
  exact t_iret (pc := 14) X hr dX6_plan_14 ⟨_, rfl, tr_done hT hcr hwo hp11 hok.1 hok.2⟩
theorem hdX6_drop : yX6_drop.cls = RX6 ∧ yX6_drop.cls ≠ "java/lang/invoke/MethodHandle" ∧ yX6_drop.cls ≠ "java/lang/invoke/VarHandle" ∧ (parseMethodDescriptor yX6_drop.desc).map (fun d => d.parameters.length) = some 1 := by decide +kernel
set_option maxHeartbeats 4000000 in
theorem m_drop {l_ : Launch} {D : va_G} {dd : Nat → ClassId} {x : Nat} {ad : Nat → Nat} {σ : Tw} {q : Int32} {a : AS} (hT : TRel σ a) : TM l_ D dd x ad yX6_drop cX6_drop 2 (some .int) 3 65 [.ref x, .int q] σ (TI (fun r σ' => TOut (stepA a (o_drop a.1 q)) (o_drop a.1 q).1 (o_drop a.1 q).2.2.1 r σ')) := by
  obtain ⟨hwf, hnS, hnC, hnP⟩ := hT.f
  obtain ⟨hn, h9, hsd, h50, hs1, hS, hp, hp4, hPs⟩ := id hwf
  have hoe := oe_drop hwf hT.1 q
  have hwo := wf_drop hT.2.1 q
  have hok := ok_drop a.1 q
  refine MW.intro (by decide) (Nat.le_of_ble_eq_true rfl) (fun p_ e_ s_ m_ as_ bl_ me_ c_ A_ X hr hnm => ?_)
  have X : VX p_ s_ m_ as_ me_ c_ cX6_drop 2 RX6 D dd A_ := X
  refine v_eq (loc' := [(0, .ref x), (1, .int q)]) rfl rfl rfl ?_
  refine v_aload_n (pc := 0) X dX6_drop_0 rfl 0 rfl ?_
  refine t_callV (pc := 1) X m_looksBack (lw_V q2068 q2070 qs36 q109 q2071) hdX6_looksBack ⟨Nat.le_of_ble_eq_true rfl, Nat.le_of_ble_eq_true rfl⟩ rfl rfl (Nat.le_of_ble_eq_true rfl) dX6_drop_1 ⟨Nat.le_refl _, Nat.le_refl _⟩ (fun σ1 hp1 => ?_)
  subst hp1
  refine v_aload_n (pc := 4) X dX6_drop_4 rfl 0 rfl ?_
  refine v_aload_n (pc := 5) X dX6_drop_5 rfl 0 rfl ?_
  refine v_iload_n (pc := 6) X dX6_drop_6 rfl 1 rfl ?_
  refine t_callI (pc := 7) X (m_drops (by rw [rw2_n (by decide)]; exact hp) hp4) (lw_V q2231 q2233 qs60 q109 q2234) hdX6_drops ⟨Nat.le_of_ble_eq_true rfl, Nat.le_of_ble_eq_true rfl⟩ rfl rfl (Nat.le_of_ble_eq_true rfl) dX6_drop_7 ⟨Nat.le_refl _, Nat.le_refl _⟩ (fun r7 σ7 hp7 => ?_)
  have hcr := hp7.eq hoe
  refine t_callI (pc := 10) X (m_kept (k := (o_drop a.1 q).1) (hs := a.2.1) (hT.2.2.1.same ((hcr.1.1 2 (by decide) (by decide)).trans (rw2_n (by decide))) ((hcr.1.2 3 (by decide)).trans (by rw [rw2_n (by decide)]))) hcr.2.1 hok.1) (lw_V q2098 q2100 qs42 q109 q2101) hdX6_kept ⟨Nat.le_of_ble_eq_true rfl, Nat.le_of_ble_eq_true rfl⟩ rfl rfl (Nat.le_of_ble_eq_true rfl) dX6_drop_10 ⟨Nat.le_refl _, Nat.le_refl _⟩ (fun r10 σ10 hp10 => ?_)
  exact t_iret (pc := 13) X hr dX6_drop_13 ⟨_, rfl, tr_done hT hcr hwo hp10 hok.1 hok.2⟩

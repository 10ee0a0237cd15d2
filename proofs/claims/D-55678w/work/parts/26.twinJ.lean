theorem hdX6_readsS : yX6_readsS.cls = RX6 ∧ yX6_readsS.cls ≠ "java/lang/invoke/MethodHandle" ∧ yX6_readsS.cls ≠ "java/lang/invoke/VarHandle" ∧ (parseMethodDescriptor yX6_readsS.desc).map (fun d => d.parameters.length) = some 1 := by decide +kernel
set_option maxHeartbeats 4000000 in
theorem m_readsS {l_ : Launch} {D : va_G} {dd : Nat → ClassId} {x : Nat} {ad : Nat → Nat} {σ : Tw} {p : Nat} {t : List Nat} (hI : InIs σ t) (hR : RdIs σ (p, false)) (hp : p ≤ t.length) {k : Nat} (hk : k + 2 < 180) (h115 : σ 33 k = nI 115) : TM l_ D dd x ad yX6_readsS cX6_readsS 2 none 3 64 [.ref x, .int (nI k)] σ (TV (fun σ' => Ch [33] rdN σ σ' ∧ RdIs σ' (readS t p).1 ∧ WdIs (σ' 33) k (readS t p).2 ∧ ∀ j, j < k → σ' 33 j = σ 33 j)) := by
  obtain ⟨hI1, hI2, hI3, hI4⟩ := id hI
  refine MW.intro (by decide) (Nat.le_of_ble_eq_true rfl) (fun p_ e_ s_ m_ as_ bl_ me_ c_ A_ X hr hnm => ?_)
  have X : VX p_ s_ m_ as_ me_ c_ cX6_readsS 2 RX6 D dd A_ := X
  refine v_eq (loc' := [(0, .ref x), (1, .int (nI k))]) rfl rfl rfl ?_
  refine v_aload_n (pc := 0) X dX6_readsS_0 rfl 0 rfl ?_
  refine t_callI (pc := 1) X (m_here hI hR.1 (by omega)) (lw_V q2363 q2365 qs81 q109 q2366) hdX6_here ⟨Nat.le_of_ble_eq_true rfl, Nat.le_of_ble_eq_true rfl⟩ rfl rfl (Nat.le_of_ble_eq_true rfl) dX6_readsS_1 ⟨Nat.le_refl _, Nat.le_refl _⟩ (fun r1 σ1 hp1 => ?_)
  obtain ⟨rfl, rfl⟩ := hp1
  refine v_bipush (pc := 4) (v := nI 101) X dX6_readsS_4 rfl ?_
  refine v_ic_ne (pc := 6) X 58 dX6_readsS_6 (by decide) (fun h6 => ?_) (fun h6 => ?_)
  · have hpe : ¬ t[p]? = some 101 := fun z => h6 ((hr_eq hI4 (show 101 < 65536 by decide)).mpr z)
    refine v_aload_n (pc := 58) X dX6_readsS_58 rfl 0 rfl ?_
    refine v_bipush (pc := 59) (v := nI 105) X dX6_readsS_59 rfl ?_
    refine v_bipush (pc := 61) (v := nI 100) X dX6_readsS_61 rfl ?_
    refine v_bipush (pc := 63) (v := nI 101) X dX6_readsS_63 rfl ?_
    refine t_callV (pc := 65) X (m_needsThree hI hR hp (by decide) (by decide) (by decide)) (lw_V q2379 q2381 qs85 q109 q2382) hdX6_needsThree ⟨Nat.le_of_ble_eq_true rfl, Nat.le_of_ble_eq_true rfl⟩ rfl rfl (Nat.le_of_ble_eq_true rfl) dX6_readsS_65 ⟨Nat.le_refl _, Nat.le_refl _⟩ (fun σ65 hp65 => ?_)
    obtain ⟨hC65, hR65⟩ := hp65
    have hq65 := (need_le (t := t) (c := 101) (need_le (t := t) (c := 100) (need_le (t := t) (c := 105) (s := (p, false)) hp).2).2).2
    refine v_aload_n (pc := 68) X dX6_readsS_68 rfl 0 rfl ?_
    refine t_get (pc := 69) X 33 (by decide) q1989 rfl rfl dX6_readsS_69 ?_
    refine v_iload_n (pc := 72) X dX6_readsS_72 rfl 1 rfl ?_
    refine v_iconst (pc := 73) (v := nI 1) X dX6_readsS_73 rfl ?_
    refine v_iaddN (pc := 74) X dX6_readsS_74 ?_
    refine v_aload_n (pc := 75) X dX6_readsS_75 rfl 0 rfl ?_
    refine v_iconst (pc := 76) (v := nI 2) X dX6_readsS_76 rfl ?_
    refine t_callI (pc := 77) X (m_number (hI.same (hC65.1 6 (by decide) (by decide)) (hC65.2 7 (by decide))) hR65 hq65 (by decide)) (lw_V q2375 q2377 qs84 q109 q2378) hdX6_number ⟨Nat.le_of_ble_eq_true rfl, Nat.le_of_ble_eq_true rfl⟩ rfl rfl (Nat.le_of_ble_eq_true rfl) dX6_readsS_77 ⟨Nat.le_refl _, Nat.le_refl _⟩ (fun r77 σ77 hp77 => ?_)
    obtain ⟨rfl, hC77, hR77⟩ := hp77
    have hC77 := hC65.tr hC77
    refine v_iast (pc := 80) X 20 ta_33 rfl (by omega) (by decide) dX6_readsS_80 (tb_33 _) ?_
    exact t_vret (pc := 81) X hr dX6_readsS_81 ⟨rfl, (hC77.mono (by decide) (fun _ z => z)).row 33 _ (by decide) (by decide), by unfold readS; rw [if_neg hpe]; exact hR77, by unfold readS; rw [if_neg hpe]; exact rs_1 h115 (hC77.1 33 (by decide) (by decide)) (by decide) 0, lo_1 (hC77.1 33 (by decide) (by decide))⟩
  · have hpe := (hr_eq hI4 (show 101 < 65536 by decide)).mp h6
    have hCa : Ch [33] rdN σ _ := (Ch.rf _ _ _).row 33 (upd (σ 33) k (nI 101)) (by decide) (by decide)
    refine v_aload_n (pc := 9) X dX6_readsS_9 rfl 0 rfl ?_
    refine t_get (pc := 10) X 33 (by decide) q1989 rfl rfl dX6_readsS_10 ?_
    refine v_iload_n (pc := 13) X dX6_readsS_13 rfl 1 rfl ?_
    refine v_bipush (pc := 14) (v := nI 101) X dX6_readsS_14 rfl ?_
    refine v_iast (pc := 16) X 20 ta_33 rfl (by omega) (by decide) dX6_readsS_16 (tb_33 _) ?_
    refine v_aload_n (pc := 17) X dX6_readsS_17 rfl 0 rfl ?_
    refine v_bipush (pc := 18) (v := nI 101) X dX6_readsS_18 rfl ?_
    refine t_callV (pc := 20) X (m_needs (q := (p, false)) (hI.same (hCa.1 6 (by decide) (by decide)) (hCa.2 7 (by decide))) hR hp (by decide)) (lw_V q2371 q2373 qs83 q109 q2374) hdX6_needs ⟨Nat.le_of_ble_eq_true rfl, Nat.le_of_ble_eq_true rfl⟩ rfl rfl (Nat.le_of_ble_eq_true rfl) dX6_readsS_20 ⟨Nat.le_refl _, Nat.le_refl _⟩ (fun σ20 hp20 => ?_)
    obtain ⟨hC20, hR20⟩ := hp20
    have h3320 := hC20.1 33 (by decide) (by decide)
    have hC20 := hCa.tr (hC20.mono (by decide) (fun _ z => z))
    have hq20 := (need_le (t := t) (c := 101) (s := (p, false)) hp).2
    refine v_aload_n (pc := 23) X dX6_readsS_23 rfl 0 rfl ?_
    refine v_bipush (pc := 24) (v := nI 116) X dX6_readsS_24 rfl ?_
    refine t_callV (pc := 26) X (m_needs (hI.same (hC20.1 6 (by decide) (by decide)) (hC20.2 7 (by decide))) hR20 hq20 (by decide)) (lw_V q2371 q2373 qs83 q109 q2374) hdX6_needs ⟨Nat.le_of_ble_eq_true rfl, Nat.le_of_ble_eq_true rfl⟩ rfl rfl (Nat.le_of_ble_eq_true rfl) dX6_readsS_26 ⟨Nat.le_refl _, Nat.le_refl _⟩ (fun σ26 hp26 => ?_)
    obtain ⟨hC26, hR26⟩ := hp26
    have h3326 := hC26.1 33 (by decide) (by decide)
    have hC26 := hC20.tr (hC26.mono (by decide) (fun _ z => z))
    have hq26 := (need_le (t := t) (c := 116) hq20).2
    refine v_aload_n (pc := 29) X dX6_readsS_29 rfl 0 rfl ?_
    refine t_get (pc := 30) X 33 (by decide) q1989 rfl rfl dX6_readsS_30 ?_
    refine v_iload_n (pc := 33) X dX6_readsS_33 rfl 1 rfl ?_
    refine v_iconst (pc := 34) (v := nI 1) X dX6_readsS_34 rfl ?_
    refine v_iaddN (pc := 35) X dX6_readsS_35 ?_
    refine v_aload_n (pc := 36) X dX6_readsS_36 rfl 0 rfl ?_
    refine v_iconst (pc := 37) (v := nI 1) X dX6_readsS_37 rfl ?_
    refine t_callI (pc := 38) X (m_number (hI.same (hC26.1 6 (by decide) (by decide)) (hC26.2 7 (by decide))) hR26 hq26 (by decide)) (lw_V q2375 q2377 qs84 q109 q2378) hdX6_number ⟨Nat.le_of_ble_eq_true rfl, Nat.le_of_ble_eq_true rfl⟩ rfl rfl (Nat.le_of_ble_eq_true rfl) dX6_readsS_38 ⟨Nat.le_refl _, Nat.le_refl _⟩ (fun r38 σ38 hp38 => ?_)
    obtain ⟨rfl, hC38, hR38⟩ := hp38
    have h3338 := hC38.1 33 (by decide) (by decide)
    have hC38 := hC26.tr (hC38.mono (by decide) (fun _ z => z))
    have hq38 := (numF_le (t := t) (m := 1) hq26).2
    refine v_iast (pc := 41) X 20 ta_33 rfl (by omega) (by decide) dX6_readsS_41 (tb_33 _) ?_
    refine v_aload_n (pc := 42) X dX6_readsS_42 rfl 0 rfl ?_
    refine t_get (pc := 43) X 33 (by decide) q1989 rfl rfl dX6_readsS_43 ?_
    refine v_iload_n (pc := 46) X dX6_readsS_46 rfl 1 rfl ?_
    refine v_iconst (pc := 47) (v := nI 2) X dX6_readsS_47 rfl ?_
    refine v_iaddN (pc := 48) X dX6_readsS_48 ?_
    refine v_aload_n (pc := 49) X dX6_readsS_49 rfl 0 rfl ?_
    refine v_iconst (pc := 50) (v := nI 2) X dX6_readsS_50 rfl ?_
    refine t_callI (pc := 51) X (m_number (hI.same ((hC38.row 33 (upd (σ38 33) (k + 1) (nI (numF t 1 (needF t 116 (needF t 101 (p, false)))).2)) (by decide) (by decide)).1 6 (by decide) (by decide)) ((hC38.row 33 (upd (σ38 33) (k + 1) (nI (numF t 1 (needF t 116 (needF t 101 (p, false)))).2)) (by decide) (by decide)).2 7 (by decide))) hR38 hq38 (by decide)) (lw_V q2375 q2377 qs84 q109 q2378) hdX6_number ⟨Nat.le_of_ble_eq_true rfl, Nat.le_of_ble_eq_true rfl⟩ rfl rfl (Nat.le_of_ble_eq_true rfl) dX6_readsS_51 ⟨Nat.le_refl _, Nat.le_refl _⟩ (fun r51 σ51 hp51 => ?_)
    obtain ⟨rfl, hC51, hR51⟩ := hp51
    have h3351 := hC51.1 33 (by decide) (by decide)
    have hC51 := (hC38.row 33 (upd (σ38 33) (k + 1) (nI (numF t 1 (needF t 116 (needF t 101 (p, false)))).2)) (by decide) (by decide)).tr (hC51.mono (by decide) (fun _ z => z))
    refine v_iast (pc := 54) X 20 ta_33 rfl (by omega) (by decide) dX6_readsS_54 (tb_33 _) ?_
    refine v_goto (pc := 55) X 81 dX6_readsS_55 (by decide) ?_
    exact t_vret (pc := 81) X hr dX6_readsS_81 ⟨rfl, hC51.row 33 _ (by decide) (by decide), by unfold readS; rw [if_pos hpe]; exact hR51, by unfold readS; rw [if_pos hpe]; exact rs_e (r0 := σ 33) h3320 h3326 h3338 h3351, lo_e (r0 := σ 33) h3320 h3326 h3338 h3351⟩
theorem hdX6_readsOrder : yX6_readsOrder.cls = RX6 ∧ yX6_readsOrder.cls ≠ "java/lang/invoke/MethodHandle" ∧ yX6_readsOrder.cls ≠ "java/lang/invoke/VarHandle" ∧ (parseMethodDescriptor yX6_readsOrder.desc).map (fun d => d.parameters.length) = some 1 := by decide +kernel
set_option maxHeartbeats 4000000 in
theorem m_readsOrder {l_ : Launch} {D : va_G} {dd : Nat → ClassId} {x : Nat} {ad : Nat → Nat} {σ : Tw} {p : Nat} {t : List Nat} (hI : InIs σ t) (hR : RdIs σ (p, false)) (hp : p ≤ t.length) {k : Nat} (hk : k + 2 < 180) : TM l_ D dd x ad yX6_readsOrder cX6_readsOrder 3 none 4 85 [.ref x, .int (nI k)] σ (TV (fun σ' => Ch [33] rdN σ σ' ∧ RdIs σ' (readO t p).1 ∧ ((readO t p).1.2 = false → WdIs (σ' 33) k (readO t p).2) ∧ ∀ j, j < k → σ' 33 j = σ 33 j)) := by
  obtain ⟨hI1, hI2, hI3, hI4⟩ := id hI
  obtain ⟨hRp, hRw⟩ := id hR
  refine MW.intro (by decide) (Nat.le_of_ble_eq_true rfl) (fun p_ e_ s_ m_ as_ bl_ me_ c_ A_ X hr hnm => ?_)
  have X : VX p_ s_ m_ as_ me_ c_ cX6_readsOrder 3 RX6 D dd A_ := X
  refine v_eq (loc' := [(0, .ref x), (1, .int (nI k))]) rfl rfl rfl ?_
  refine v_aload_n (pc := 0) X dX6_readsOrder_0 rfl 0 rfl ?_
  refine t_callI (pc := 1) X (m_here hI hRp (by omega)) (lw_V q2363 q2365 qs81 q109 q2366) hdX6_here ⟨Nat.le_of_ble_eq_true rfl, Nat.le_of_ble_eq_true rfl⟩ rfl rfl (Nat.le_of_ble_eq_true rfl) dX6_readsOrder_1 ⟨Nat.le_refl _, Nat.le_refl _⟩ (fun r1 σ1 hp1 => ?_)
  obtain ⟨rfl, rfl⟩ := hp1
  refine v_nm (fun z ez => ?_)
  refine v_istore_n (pc := 4) (loc' := [(2, .int z), (0, .ref x), (1, .int (nI k))]) X dX6_readsOrder_4 rfl (by decide) rfl ?_
  refine v_aload_n (pc := 5) X dX6_readsOrder_5 rfl 1 rfl ?_
  refine v_dup (pc := 6) X dX6_readsOrder_6 rfl ?_
  refine t_get (pc := 7) X 31 (by decide) q1987 rfl rfl dX6_readsOrder_7 ?_
  refine v_top (y := (nI p)) hRp ?_
  refine v_iconst (pc := 10) (v := nI 1) X dX6_readsOrder_10 rfl ?_
  refine v_iaddN (pc := 11) X dX6_readsOrder_11 ?_
  refine t_put (pc := 12) X 31 (by decide) q1987 rfl rfl rfl rfl dX6_readsOrder_12 (tf_31 _) ?_
  refine v_aload_n (pc := 15) X dX6_readsOrder_15 rfl 1 rfl ?_
  refine t_get (pc := 16) X 33 (by decide) q1989 rfl rfl dX6_readsOrder_16 ?_
  refine v_iload_n (pc := 19) X dX6_readsOrder_19 rfl 2 rfl ?_
  refine v_iload_n (pc := 20) X dX6_readsOrder_20 rfl 0 rfl ?_
  refine v_iast (pc := 21) X 20 ta_33 rfl (by omega) (by decide) dX6_readsOrder_21 (tb_33 _) ?_
  refine v_iload_n (pc := 22) X dX6_readsOrder_22 rfl 0 rfl ?_
  have hC0 : Ch [33] rdN σ (wa1 (ws1 σ 31 (nI (p + 1))) 33 k z) := ((Ch.rf _ _ _).num 31 _ (by decide)).row 33 _ (by decide) (by decide)
  have hR0 : RdIs (wa1 (ws1 σ 31 (nI (p + 1))) 33 k z) (p + 1, false) := ⟨rfl, hRw⟩
  have h330 : (wa1 (ws1 σ 31 (nI (p + 1))) 33 k z) 33 k = z := rd_s
  by_cases hk99 : z = nI 99
  rotate_left
  by_cases hk112 : z = nI 112
  rotate_left
  by_cases hk115 : z = nI 115
  rotate_left
  by_cases hk116 : z = nI 116
  rotate_left
  · refine v_look (pc := 23) (off := 139) X 162 dX6_readsOrder_23 (by decide) (look_d (by intro q hq; simp at hq; rcases hq with rfl | rfl | rfl | rfl; exact ⟨99, by decide, rfl, hk99⟩; exact ⟨112, by decide, rfl, hk112⟩; exact ⟨115, by decide, rfl, hk115⟩; exact ⟨116, by decide, rfl, hk116⟩)) (by decide) ?_
    refine v_aload_n (pc := 162) X dX6_readsOrder_162 rfl 1 rfl ?_
    refine v_iconst (pc := 163) (v := nI 1) X dX6_readsOrder_163 rfl ?_
    refine t_put (pc := 164) X 32 (by decide) q1988 rfl rfl rfl rfl dX6_readsOrder_164 (tf_32 _) ?_
    refine v_aload_n (pc := 167) X dX6_readsOrder_167 rfl 1 rfl ?_
    refine v_dup (pc := 168) X dX6_readsOrder_168 rfl ?_
    refine t_get (pc := 169) X 31 (by decide) q1987 rfl rfl dX6_readsOrder_169 ?_
    refine v_top (y := (nI (p + 1))) rfl ?_
    refine v_iconst (pc := 172) (v := nI 1) X dX6_readsOrder_172 rfl ?_
    refine v_isubN (pc := 173) X (by omega) dX6_readsOrder_173 ?_
    refine t_put (pc := 174) X 31 (by decide) q1987 rfl rfl rfl rfl dX6_readsOrder_174 (tf_31 _) ?_
    exact t_vret (pc := 177) X hr dX6_readsOrder_177 ⟨rfl, (hC0.num 32 _ (by decide)).num 31 _ (by decide), by rw [readO_d (fun z2 => hk99 (ez.trans ((hr_eq hI4 (show 99 < 65536 by decide)).mpr z2))) (fun z2 => hk112 (ez.trans ((hr_eq hI4 (show 112 < 65536 by decide)).mpr z2))) (fun z2 => hk115 (ez.trans ((hr_eq hI4 (show 115 < 65536 by decide)).mpr z2))) (fun z2 => hk116 (ez.trans ((hr_eq hI4 (show 116 < 65536 by decide)).mpr z2)))]; exact ⟨rfl, rfl⟩, fun z => (by rw [readO_d (fun z2 => hk99 (ez.trans ((hr_eq hI4 (show 99 < 65536 by decide)).mpr z2))) (fun z2 => hk112 (ez.trans ((hr_eq hI4 (show 112 < 65536 by decide)).mpr z2))) (fun z2 => hk115 (ez.trans ((hr_eq hI4 (show 115 < 65536 by decide)).mpr z2))) (fun z2 => hk116 (ez.trans ((hr_eq hI4 (show 116 < 65536 by decide)).mpr z2)))] at z; cases z), fun j hj => upd_n (by omega)⟩
  · have hpc := (hr_eq hI4 (show 99 < 65536 by decide)).mp (ez.symm.trans hk99)
    have hq0 : ((p + 1, false) : PS).1 ≤ t.length := lt_get hpc
    refine v_top (y := nI 99) hk99 ?_
    refine v_look (pc := 23) (off := 62) X 85 dX6_readsOrder_23 (by decide) (by decide) (by decide) ?_
    refine v_aload_n (pc := 85) X dX6_readsOrder_85 rfl 1 rfl ?_
    refine v_bipush (pc := 86) (v := nI 111) X dX6_readsOrder_86 rfl ?_
    refine v_bipush (pc := 88) (v := nI 111) X dX6_readsOrder_88 rfl ?_
    refine v_bipush (pc := 90) (v := nI 112) X dX6_readsOrder_90 rfl ?_
    refine t_callV (pc := 92) X (m_needsThree (hI.same (hC0.1 6 (by decide) (by decide)) (hC0.2 7 (by decide))) hR0 hq0 (by decide) (by decide) (by decide)) (lw_V q2379 q2381 qs85 q109 q2382) hdX6_needsThree ⟨Nat.le_of_ble_eq_true rfl, Nat.le_of_ble_eq_true rfl⟩ rfl rfl (Nat.le_of_ble_eq_true rfl) dX6_readsOrder_92 ⟨Nat.le_refl _, Nat.le_refl _⟩ (fun σ92 hp92 => ?_)
    obtain ⟨hC92, hR92⟩ := hp92
    have h33_92 := hC92.1 33 (by decide) (by decide)
    have hC92 := hC0.tr (hC92.mono (by decide) (fun _ z => z))
    have hq92 := (need_le (t := t) (c := 112) (need_le (t := t) (c := 111) (need_le (t := t) (c := 111) hq0).2).2).2
    refine v_aload_n (pc := 95) X dX6_readsOrder_95 rfl 1 rfl ?_
    refine v_bipush (pc := 96) (v := nI 101) X dX6_readsOrder_96 rfl ?_
    refine t_callV (pc := 98) X (m_needs (hI.same (hC92.1 6 (by decide) (by decide)) (hC92.2 7 (by decide))) hR92 hq92 (by decide)) (lw_V q2371 q2373 qs83 q109 q2374) hdX6_needs ⟨Nat.le_of_ble_eq_true rfl, Nat.le_of_ble_eq_true rfl⟩ rfl rfl (Nat.le_of_ble_eq_true rfl) dX6_readsOrder_98 ⟨Nat.le_refl _, Nat.le_refl _⟩ (fun σ98 hp98 => ?_)
    obtain ⟨hC98, hR98⟩ := hp98
    have h33_98 := hC98.1 33 (by decide) (by decide)
    have hC98 := hC92.tr (hC98.mono (by decide) (fun _ z => z))
    have hq98 := (need_le (t := t) (c := 101) hq92).2
    refine v_aload_n (pc := 101) X dX6_readsOrder_101 rfl 1 rfl ?_
    refine v_bipush (pc := 102) (v := nI 114) X dX6_readsOrder_102 rfl ?_
    refine t_callV (pc := 104) X (m_needs (hI.same (hC98.1 6 (by decide) (by decide)) (hC98.2 7 (by decide))) hR98 hq98 (by decide)) (lw_V q2371 q2373 qs83 q109 q2374) hdX6_needs ⟨Nat.le_of_ble_eq_true rfl, Nat.le_of_ble_eq_true rfl⟩ rfl rfl (Nat.le_of_ble_eq_true rfl) dX6_readsOrder_104 ⟨Nat.le_refl _, Nat.le_refl _⟩ (fun σ104 hp104 => ?_)
    obtain ⟨hC104, hR104⟩ := hp104
    have h33_104 := hC104.1 33 (by decide) (by decide)
    have hC104 := hC98.tr (hC104.mono (by decide) (fun _ z => z))
    have hq104 := (need_le (t := t) (c := 114) hq98).2
    refine v_aload_n (pc := 107) X dX6_readsOrder_107 rfl 1 rfl ?_
    refine t_get (pc := 108) X 33 (by decide) q1989 rfl rfl dX6_readsOrder_108 ?_
    refine v_iload_n (pc := 111) X dX6_readsOrder_111 rfl 2 rfl ?_
    refine v_iconst (pc := 112) (v := nI 1) X dX6_readsOrder_112 rfl ?_
    refine v_iaddN (pc := 113) X dX6_readsOrder_113 ?_
    refine v_aload_n (pc := 114) X dX6_readsOrder_114 rfl 1 rfl ?_
    refine v_iconst (pc := 115) (v := nI 5) X dX6_readsOrder_115 rfl ?_
    refine t_callI (pc := 116) X (m_number (hI.same (hC104.1 6 (by decide) (by decide)) (hC104.2 7 (by decide))) hR104 hq104 (by decide)) (lw_V q2375 q2377 qs84 q109 q2378) hdX6_number ⟨Nat.le_of_ble_eq_true rfl, Nat.le_of_ble_eq_true rfl⟩ rfl rfl (Nat.le_of_ble_eq_true rfl) dX6_readsOrder_116 ⟨Nat.le_refl _, Nat.le_refl _⟩ (fun r116 σ116 hp116 => ?_)
    obtain ⟨rfl, hC116, hR116⟩ := hp116
    have h33_116 := hC116.1 33 (by decide) (by decide)
    have hC116 := hC104.tr (hC116.mono (by decide) (fun _ z => z))
    have hq116 := (numF_le (t := t) (m := 5) hq104).2
    refine v_iast (pc := 119) X 20 ta_33 rfl (by omega) (by decide) dX6_readsOrder_119 (tb_33 _) ?_
    refine v_goto (pc := 120) X 177 dX6_readsOrder_120 (by decide) ?_
    exact t_vret (pc := 177) X hr dX6_readsOrder_177 ⟨rfl, hC116.row 33 _ (by decide) (by decide), by rw [readO_99 hpc]; exact hR116, fun _ => by rw [readO_99 hpc]; exact rs_1 (h330.trans hk99) (h33_116.trans (h33_104.trans (h33_98.trans h33_92))) (by decide) 0, lo_0 (lo_1 (h33_116.trans (h33_104.trans (h33_98.trans h33_92))))⟩
  · have hpc := (hr_eq hI4 (show 112 < 65536 by decide)).mp (ez.symm.trans hk112)
    have hq0 : ((p + 1, false) : PS).1 ≤ t.length := lt_get hpc
    refine v_top (y := nI 112) hk112 ?_
    refine v_look (pc := 23) (off := 100) X 123 dX6_readsOrder_23 (by decide) (by decide) (by decide) ?_
    refine v_aload_n (pc := 123) X dX6_readsOrder_123 rfl 1 rfl ?_
    refine v_bipush (pc := 124) (v := nI 108) X dX6_readsOrder_124 rfl ?_
    refine v_bipush (pc := 126) (v := nI 97) X dX6_readsOrder_126 rfl ?_
    refine v_bipush (pc := 128) (v := nI 110) X dX6_readsOrder_128 rfl ?_
    refine t_callV (pc := 130) X (m_needsThree (hI.same (hC0.1 6 (by decide) (by decide)) (hC0.2 7 (by decide))) hR0 hq0 (by decide) (by decide) (by decide)) (lw_V q2379 q2381 qs85 q109 q2382) hdX6_needsThree ⟨Nat.le_of_ble_eq_true rfl, Nat.le_of_ble_eq_true rfl⟩ rfl rfl (Nat.le_of_ble_eq_true rfl) dX6_readsOrder_130 ⟨Nat.le_refl _, Nat.le_refl _⟩ (fun σ130 hp130 => ?_)
    obtain ⟨hC130, hR130⟩ := hp130
    have h33_130 := hC130.1 33 (by decide) (by decide)
    have hC130 := hC0.tr (hC130.mono (by decide) (fun _ z => z))
    have hq130 := (need_le (t := t) (c := 110) (need_le (t := t) (c := 97) (need_le (t := t) (c := 108) hq0).2).2).2
    refine v_aload_n (pc := 133) X dX6_readsOrder_133 rfl 1 rfl ?_
    refine t_get (pc := 134) X 33 (by decide) q1989 rfl rfl dX6_readsOrder_134 ?_
    refine v_iload_n (pc := 137) X dX6_readsOrder_137 rfl 2 rfl ?_
    refine v_iconst (pc := 138) (v := nI 1) X dX6_readsOrder_138 rfl ?_
    refine v_iaddN (pc := 139) X dX6_readsOrder_139 ?_
    refine v_aload_n (pc := 140) X dX6_readsOrder_140 rfl 1 rfl ?_
    refine v_iconst (pc := 141) (v := nI 1) X dX6_readsOrder_141 rfl ?_
    refine t_callI (pc := 142) X (m_number (hI.same (hC130.1 6 (by decide) (by decide)) (hC130.2 7 (by decide))) hR130 hq130 (by decide)) (lw_V q2375 q2377 qs84 q109 q2378) hdX6_number ⟨Nat.le_of_ble_eq_true rfl, Nat.le_of_ble_eq_true rfl⟩ rfl rfl (Nat.le_of_ble_eq_true rfl) dX6_readsOrder_142 ⟨Nat.le_refl _, Nat.le_refl _⟩ (fun r142 σ142 hp142 => ?_)
    obtain ⟨rfl, hC142, hR142⟩ := hp142
    have h33_142 := hC142.1 33 (by decide) (by decide)
    have hC142 := hC130.tr (hC142.mono (by decide) (fun _ z => z))
    have hq142 := (numF_le (t := t) (m := 1) hq130).2
    refine v_iast (pc := 145) X 20 ta_33 rfl (by omega) (by decide) dX6_readsOrder_145 (tb_33 _) ?_
    refine v_aload_n (pc := 146) X dX6_readsOrder_146 rfl 1 rfl ?_
    refine t_get (pc := 147) X 33 (by decide) q1989 rfl rfl dX6_readsOrder_147 ?_
    refine v_iload_n (pc := 150) X dX6_readsOrder_150 rfl 2 rfl ?_
    refine v_iconst (pc := 151) (v := nI 2) X dX6_readsOrder_151 rfl ?_
    refine v_iaddN (pc := 152) X dX6_readsOrder_152 ?_
    refine v_aload_n (pc := 153) X dX6_readsOrder_153 rfl 1 rfl ?_
    refine v_iconst (pc := 154) (v := nI 1) X dX6_readsOrder_154 rfl ?_
    refine t_callI (pc := 155) X (m_number (hI.same ((hC142.row 33 (upd (σ142 33) (k + 1) (nI (numF t 1 (needF t 110 (needF t 97 (needF t 108 (p + 1, false))))).2)) (by decide) (by decide)).1 6 (by decide) (by decide)) ((hC142.row 33 (upd (σ142 33) (k + 1) (nI (numF t 1 (needF t 110 (needF t 97 (needF t 108 (p + 1, false))))).2)) (by decide) (by decide)).2 7 (by decide))) hR142 hq142 (by decide)) (lw_V q2375 q2377 qs84 q109 q2378) hdX6_number ⟨Nat.le_of_ble_eq_true rfl, Nat.le_of_ble_eq_true rfl⟩ rfl rfl (Nat.le_of_ble_eq_true rfl) dX6_readsOrder_155 ⟨Nat.le_refl _, Nat.le_refl _⟩ (fun r155 σ155 hp155 => ?_)
    obtain ⟨rfl, hC155, hR155⟩ := hp155
    have h33_155 := hC155.1 33 (by decide) (by decide)
    have hC155 := (hC142.row 33 (upd (σ142 33) (k + 1) (nI (numF t 1 (needF t 110 (needF t 97 (needF t 108 (p + 1, false))))).2)) (by decide) (by decide)).tr (hC155.mono (by decide) (fun _ z => z))
    refine v_iast (pc := 158) X 20 ta_33 rfl (by omega) (by decide) dX6_readsOrder_158 (tb_33 _) ?_
    refine v_goto (pc := 159) X 177 dX6_readsOrder_159 (by decide) ?_
    exact t_vret (pc := 177) X hr dX6_readsOrder_177 ⟨rfl, hC155.row 33 _ (by decide) (by decide), by rw [readO_112 hpc]; exact hR155, fun _ => by rw [readO_112 hpc]; exact rs_2 (h330.trans hk112) (h33_142.trans h33_130) h33_155, lo_0 (lo_2 (h33_142.trans h33_130) h33_155)⟩
  · have hpc := (hr_eq hI4 (show 115 < 65536 by decide)).mp (ez.symm.trans hk115)
    have hq0 : ((p + 1, false) : PS).1 ≤ t.length := lt_get hpc
    refine v_top (y := nI 115) hk115 ?_
    refine v_look (pc := 23) (off := 41) X 64 dX6_readsOrder_23 (by decide) (by decide) (by decide) ?_
    refine v_aload_n (pc := 64) X dX6_readsOrder_64 rfl 1 rfl ?_
    refine v_iload_n (pc := 65) X dX6_readsOrder_65 rfl 2 rfl ?_
    refine t_callV (pc := 66) X (m_readsS (hI.same (hC0.1 6 (by decide) (by decide)) (hC0.2 7 (by decide))) hR0 hq0 hk (h330.trans hk115)) (lw_V q2367 q2369 qs82 q109 q2370) hdX6_readsS ⟨Nat.le_of_ble_eq_true rfl, Nat.le_of_ble_eq_true rfl⟩ rfl rfl (Nat.le_of_ble_eq_true rfl) dX6_readsOrder_66 ⟨Nat.le_refl _, Nat.le_refl _⟩ (fun σ66 hp66 => ?_)
    obtain ⟨hC66, hR66, hW66, hJ66⟩ := hp66
    have hC66 := hC0.tr hC66
    refine v_goto (pc := 69) X 177 dX6_readsOrder_69 (by decide) ?_
    exact t_vret (pc := 177) X hr dX6_readsOrder_177 ⟨rfl, hC66, by rw [readO_115 hpc]; exact hR66, fun _ => by rw [readO_115 hpc]; exact hW66, lo_0 hJ66⟩
  · have hpc := (hr_eq hI4 (show 116 < 65536 by decide)).mp (ez.symm.trans hk116)
    have hq0 : ((p + 1, false) : PS).1 ≤ t.length := lt_get hpc
    refine v_top (y := nI 116) hk116 ?_
    refine v_look (pc := 23) (off := 49) X 72 dX6_readsOrder_23 (by decide) (by decide) (by decide) ?_
    refine v_aload_n (pc := 72) X dX6_readsOrder_72 rfl 1 rfl ?_
    refine v_bipush (pc := 73) (v := nI 97) X dX6_readsOrder_73 rfl ?_
    refine v_bipush (pc := 75) (v := nI 107) X dX6_readsOrder_75 rfl ?_
    refine v_bipush (pc := 77) (v := nI 101) X dX6_readsOrder_77 rfl ?_
    refine t_callV (pc := 79) X (m_needsThree (hI.same (hC0.1 6 (by decide) (by decide)) (hC0.2 7 (by decide))) hR0 hq0 (by decide) (by decide) (by decide)) (lw_V q2379 q2381 qs85 q109 q2382) hdX6_needsThree ⟨Nat.le_of_ble_eq_true rfl, Nat.le_of_ble_eq_true rfl⟩ rfl rfl (Nat.le_of_ble_eq_true rfl) dX6_readsOrder_79 ⟨Nat.le_refl _, Nat.le_refl _⟩ (fun σ79 hp79 => ?_)
    obtain ⟨hC79, hR79⟩ := hp79
    have h33_79 := hC79.1 33 (by decide) (by decide)
    have hC79 := hC0.tr (hC79.mono (by decide) (fun _ z => z))
    have hq79 := (need_le (t := t) (c := 101) (need_le (t := t) (c := 107) (need_le (t := t) (c := 97) hq0).2).2).2
    refine v_goto (pc := 82) X 177 dX6_readsOrder_82 (by decide) ?_
    exact t_vret (pc := 177) X hr dX6_readsOrder_177 ⟨rfl, hC79, by rw [readO_116 hpc]; exact hR79, fun _ => by rw [readO_116 hpc]; exact ⟨by rw [h33_79]; exact h330.trans hk116, fun z => absurd rfl z, fun z => absurd z (fun y => by rcases y with y | y <;> cases y)⟩, lo_0 (fun j _ => by rw [h33_79]; rfl)⟩
theorem hdX6_does : yX6_does.cls = RX6 ∧ yX6_does.cls ≠ "java/lang/invoke/MethodHandle" ∧ yX6_does.cls ≠ "java/lang/invoke/VarHandle" ∧ (parseMethodDescriptor yX6_does.desc).map (fun d => d.parameters.length) = some 1 := by decide +kernel
set_option maxHeartbeats 4000000 in
theorem m_does {l_ : Launch} {D : va_G} {dd : Nat → ClassId} {x : Nat} {ad : Nat → Nat} {σ : Tw} {k : Nat} {o : Ord3} (hwf : WFB (σ 0)) (hW : WdIs (σ 33) k o) (ho : OrdOk o) (hk3 : k + 2 < 180) : TM l_ D dd x ad yX6_does cX6_does 4 (some .int) 4 103 [.ref x, .int (nI k)] σ (TI (fun r σ' => Cr σ (opO (σ 0) o) r σ')) := by
  obtain ⟨hn, h9, hsd, h50, hs1, hS, hp, hp4, hPs⟩ := id hwf
  refine MW.intro (by decide) (Nat.le_of_ble_eq_true rfl) (fun p_ e_ s_ m_ as_ bl_ me_ c_ A_ X hr hnm => ?_)
  have X : VX p_ s_ m_ as_ me_ c_ cX6_does 4 RX6 D dd A_ := X
  refine v_eq (loc' := [(0, .ref x), (1, .int (nI k))]) rfl rfl rfl ?_
  refine v_aload_n (pc := 0) X dX6_does_0 rfl 0 rfl ?_
  refine t_get (pc := 1) X 33 (by decide) q1989 rfl rfl dX6_does_1 ?_
  refine v_iload_n (pc := 4) X dX6_does_4 rfl 1 rfl ?_
  refine v_iconst (pc := 5) (v := nI 1) X dX6_does_5 rfl ?_
  refine v_iaddN (pc := 6) X dX6_does_6 ?_
  refine v_iald (pc := 7) X 20 ta_33 rfl (by omega) (by decide) dX6_does_7 ?_
  refine v_nm (fun za eza => ?_)
  refine v_istore_n (pc := 8) (loc' := [(2, .int za), (0, .ref x), (1, .int (nI k))]) X dX6_does_8 rfl (by decide) rfl ?_
  refine v_aload_n (pc := 9) X dX6_does_9 rfl 1 rfl ?_
  refine t_get (pc := 10) X 33 (by decide) q1989 rfl rfl dX6_does_10 ?_
  refine v_iload_n (pc := 13) X dX6_does_13 rfl 2 rfl ?_
  refine v_iconst (pc := 14) (v := nI 2) X dX6_does_14 rfl ?_
  refine v_iaddN (pc := 15) X dX6_does_15 ?_
  refine v_iald (pc := 16) X 20 ta_33 rfl (by omega) (by decide) dX6_does_16 ?_
  refine v_nm (fun zb ezb => ?_)
  refine v_istore_n (pc := 17) (loc' := [(3, .int zb), (2, .int za), (0, .ref x), (1, .int (nI k))]) X dX6_does_17 rfl (by decide) rfl ?_
  refine v_aload_n (pc := 18) X dX6_does_18 rfl 2 rfl ?_
  refine t_get (pc := 19) X 33 (by decide) q1989 rfl rfl dX6_does_19 ?_
  refine v_iload_n (pc := 22) X dX6_does_22 rfl 3 rfl ?_
  refine v_iald (pc := 23) X 20 ta_33 rfl (by omega) (by decide) dX6_does_23 ?_
  refine v_top (y := (nI o.1)) hW.1 ?_
  rcases ho with hk | hk | hk | hk | hk
  · have hza := eza.trans (hW.2.1 (by omega))
    refine v_top (y := nI 99) (by rw [hk]) ?_
    refine v_look (pc := 24) (off := 62) X 86 dX6_does_24 (by decide) (by decide) (by decide) ?_
    refine v_aload_n (pc := 86) X dX6_does_86 rfl 2 rfl ?_
    refine v_iload_n (pc := 87) X dX6_does_87 rfl 1 rfl ?_
    refine t_callI (pc := 88) X (m_cooperComes hS.1 hS.2.1) (lw_V q2130 q2132 qs46 q109 q2133) hdX6_cooperComes ⟨Nat.le_of_ble_eq_true rfl, Nat.le_of_ble_eq_true rfl⟩ rfl rfl (Nat.le_of_ble_eq_true rfl) dX6_does_88 ⟨Nat.le_refl _, Nat.le_refl _⟩ (fun r88 σ88 hp88 => ?_)
    exact t_iret (pc := 91) X hr dX6_does_91 ⟨_, rfl, by rw [hza] at hp88; rw [opO_99 hk]; exact hp88⟩
  · have hza := eza.trans (hW.2.1 (by omega))
    have hzb := ezb.trans (hW.2.2 (Or.inl hk))
    refine v_top (y := nI 101) (by rw [hk]) ?_
    refine v_look (pc := 24) (off := 50) X 74 dX6_does_24 (by decide) (by decide) (by decide) ?_
    refine v_aload_n (pc := 74) X dX6_does_74 rfl 2 rfl ?_
    refine v_iload_n (pc := 75) X dX6_does_75 rfl 1 rfl ?_
    refine v_iload_n (pc := 76) X dX6_does_76 rfl 0 rfl ?_
    refine t_callI (pc := 77) X (m_sideIs hn h9) (lw_V q2106 q2108 qs43 q109 q2109) hdX6_sideIs ⟨Nat.le_of_ble_eq_true rfl, Nat.le_of_ble_eq_true rfl⟩ rfl rfl (Nat.le_of_ble_eq_true rfl) dX6_does_77 ⟨Nat.le_refl _, Nat.le_refl _⟩ (fun r77 σ77 hp77 => ?_)
    exact t_iret (pc := 80) X hr dX6_does_80 ⟨_, rfl, by rw [hza, hzb] at hp77; rw [opO_101 hk]; exact hp77⟩
  · have hza := eza.trans (hW.2.1 (by omega))
    have hzb := ezb.trans (hW.2.2 (Or.inr hk))
    refine v_top (y := nI 112) (by rw [hk]) ?_
    refine v_look (pc := 24) (off := 68) X 92 dX6_does_24 (by decide) (by decide) (by decide) ?_
    refine v_aload_n (pc := 92) X dX6_does_92 rfl 2 rfl ?_
    refine v_iload_n (pc := 93) X dX6_does_93 rfl 1 rfl ?_
    refine v_iload_n (pc := 94) X dX6_does_94 rfl 0 rfl ?_
    refine t_callI (pc := 95) X (m_planComes hn h9 hsd h50 hp hp4) (lw_V q2219 q2221 qs58 q109 q2222) hdX6_planComes ⟨Nat.le_of_ble_eq_true rfl, Nat.le_of_ble_eq_true rfl⟩ rfl rfl (Nat.le_of_ble_eq_true rfl) dX6_does_95 ⟨Nat.le_refl _, Nat.le_refl _⟩ (fun r95 σ95 hp95 => ?_)
    exact t_iret (pc := 98) X hr dX6_does_98 ⟨_, rfl, by rw [hza, hzb] at hp95; rw [opO_112 hk]; exact hp95⟩
  · have hza := eza.trans (hW.2.1 (by omega))
    refine v_top (y := nI 115) (by rw [hk]) ?_
    refine v_look (pc := 24) (off := 44) X 68 dX6_does_24 (by decide) (by decide) (by decide) ?_
    refine v_aload_n (pc := 68) X dX6_does_68 rfl 2 rfl ?_
    refine v_iload_n (pc := 69) X dX6_does_69 rfl 1 rfl ?_
    refine t_callI (pc := 70) X (m_sideComes hn h9) (lw_V q2075 q2077 qs37 q109 q2078) hdX6_sideComes ⟨Nat.le_of_ble_eq_true rfl, Nat.le_of_ble_eq_true rfl⟩ rfl rfl (Nat.le_of_ble_eq_true rfl) dX6_does_70 ⟨Nat.le_refl _, Nat.le_refl _⟩ (fun r70 σ70 hp70 => ?_)
    exact t_iret (pc := 73) X hr dX6_does_73 ⟨_, rfl, by rw [hza] at hp70; rw [opO_115 hk]; exact hp70⟩
  · refine v_top (y := nI 116) (by rw [hk]) ?_
    refine v_look (pc := 24) (off := 57) X 81 dX6_does_24 (by decide) (by decide) (by decide) ?_
    refine v_aload_n (pc := 81) X dX6_does_81 rfl 2 rfl ?_
    refine t_callI (pc := 82) X (m_takes hn h9) (lw_V q2118 q2120 qs45 q109 q2121) hdX6_takes ⟨Nat.le_of_ble_eq_true rfl, Nat.le_of_ble_eq_true rfl⟩ rfl rfl (Nat.le_of_ble_eq_true rfl) dX6_does_82 ⟨Nat.le_refl _, Nat.le_refl _⟩ (fun r82 σ82 hp82 => ?_)
    exact t_iret (pc := 85) X hr dX6_does_85 ⟨_, rfl, by rw [opO_116 hk]; exact hp82⟩
theorem hdX6_run : yX6_run.cls = RX6 ∧ yX6_run.cls ≠ "java/lang/invoke/MethodHandle" ∧ yX6_run.cls ≠ "java/lang/invoke/VarHandle" ∧ (parseMethodDescriptor yX6_run.desc).map (fun d => d.parameters.length) = some 0 := by decide +kernel
set_option maxHeartbeats 4000000 in
theorem m_run {l_ : Launch} {D : va_G} {dd : Nat → ClassId} {x : Nat} {ad : Nat → Nat} {σ : Tw} {a : AS} (hT : TRel σ a) : TM l_ D dd x ad yX6_run cX6_run 5 (some .int) 5 126 [.ref x] σ (TI (fun r σ' => TOut (runA a).1 (runA a).2.1 (runA a).2.2 r σ')) := by
  have hI := hT.2.2.2.2.2.2.1
  obtain ⟨hI1, hI2, hI3, hI4⟩ := id hI
  refine MW.intro (by decide) (Nat.le_of_ble_eq_true rfl) (fun p_ e_ s_ m_ as_ bl_ me_ c_ A_ X hr hnm => ?_)
  have X : VX p_ s_ m_ as_ me_ c_ cX6_run 5 RX6 D dd A_ := X
  refine v_eq (loc' := [(0, .ref x)]) rfl rfl rfl ?_
  refine v_aload_n (pc := 0) X dX6_run_0 rfl 0 rfl ?_
  refine v_iconst (pc := 1) (v := nI 0) X dX6_run_1 rfl ?_
  refine t_put (pc := 2) X 31 (by decide) q1987 rfl rfl rfl rfl dX6_run_2 (tf_31 _) ?_
  refine v_aload_n (pc := 5) X dX6_run_5 rfl 0 rfl ?_
  refine v_iconst (pc := 6) (v := nI 0) X dX6_run_6 rfl ?_
  refine t_put (pc := 7) X 32 (by decide) q1988 rfl rfl rfl rfl dX6_run_7 (tf_32 _) ?_
  refine v_iconst (pc := 10) (v := nI 0) X dX6_run_10 rfl ?_
  refine v_istore_n (pc := 11) (loc' := [(1, .int (nI 0)), (0, .ref x)]) X dX6_run_11 rfl (by decide) rfl ?_
  refine v_iconst (pc := 12) (v := nI 1) X dX6_run_12 rfl ?_
  refine v_istore_n (pc := 13) (loc' := [(2, .int (nI 1)), (1, .int (nI 0)), (0, .ref x)]) X dX6_run_13 rfl (by decide) rfl ?_
  refine v_sub [2, 1, 0] rfl ?_
  refine v_loop4 (S := List Ord3) (T := Nat) (Z := Nat) (Y := Tw) (fun acc p fu τ => tw x ad dd τ) (fun acc p fu τ => [(0, .ref x), (1, .int (nI acc.length)), (2, .int (nI 1))]) (fun acc p fu τ => Ch [33] rdN σ τ ∧ RdIs τ (p, false) ∧ p ≤ a.2.2.2.1.length ∧ a.2.2.2.1.length + 1 ≤ p + fu ∧ 2 * acc.length ≤ p ∧ WdAll (τ 33) acc ∧ rdAll a.2.2.2.1 = (acc ++ (rdL a.2.2.2.1 fu p).1, (rdL a.2.2.2.1 fu p).2)) (fun acc p fu τ => fu) (fun acc p fu τ hI14 ih14 => ?_) ([]) 0 (a.2.2.2.1.length + 1) _ ⟨((Ch.rf _ _ _).num 31 _ (by decide)).num 32 _ (by decide), ⟨rfl, rfl⟩, Nat.zero_le _, by omega, Nat.zero_le _, fun i o h => (by cases h), rfl⟩
  obtain ⟨hC, hR, hp, hfu, h2a, hW, hres⟩ := hI14
  obtain ⟨f1, rfl⟩ : ∃ f1, fu = f1 + 1 := ⟨fu - 1, by omega⟩
  have hIt := (hI.same (hC.1 6 (by decide) (by decide)) (hC.2 7 (by decide)))
  have hrl := readO_le (t := a.2.2.2.1) hp
  refine v_iload_n (pc := 14) X dX6_run_14 rfl 2 rfl ?_
  refine v_if_eqN (pc := 15) X (by omega) 71 dX6_run_15 (by decide) (fun h15 => absurd h15 (by decide)) (fun h15 => ?_)
  refine v_aload_n (pc := 18) X dX6_run_18 rfl 0 rfl ?_
  refine v_iconst (pc := 19) (v := nI 3) X dX6_run_19 rfl ?_
  refine v_iload_n (pc := 20) X dX6_run_20 rfl 1 rfl ?_
  refine v_imulN (pc := 21) X dX6_run_21 ?_
  refine t_callV (pc := 22) X (m_readsOrder hIt hR hp (by omega)) (lw_V q2359 q2361 qs80 q109 q2362) hdX6_readsOrder ⟨Nat.le_of_ble_eq_true rfl, Nat.le_of_ble_eq_true rfl⟩ rfl rfl (Nat.le_of_ble_eq_true rfl) dX6_run_22 ⟨Nat.le_refl _, Nat.le_refl _⟩ (fun σ22 hp22 => ?_)
  obtain ⟨hC22, hR22, hW22, hJ22⟩ := hp22
  refine v_iinc (pc := 25) (v := (nI (acc.length + 1))) (loc' := [(1, .int (nI (acc.length + 1))), (0, .ref x), (2, .int (nI 1))]) X dX6_run_25 1 rfl (nI_add _ 1) (by decide) rfl ?_
  have hC2 : Ch [33] rdN σ σ22 := hC.tr hC22
  have hI22 := (hI.same (hC2.1 6 (by decide) (by decide)) (hC2.2 7 (by decide)))
  refine v_aload_n (pc := 28) X dX6_run_28 rfl 1 rfl ?_
  refine t_get (pc := 29) X 32 (by decide) q1988 rfl rfl dX6_run_29 ?_
  refine v_top (y := (bI ((readO a.2.2.2.1 p).1.2 = true))) hR22.2 ?_
  refine v_if_neB (pc := 32) X 48 dX6_run_32 (by decide) (fun h32 => ?_) (fun h32 => ?_)
  · have hRA : rdAll a.2.2.2.1 = (acc, (readO a.2.2.2.1 p).1) := by rw [hres, rdL_w h32]; simp
    refine v_iconst (pc := 48) (v := nI 0) X dX6_run_48 rfl ?_
    refine v_istore_n (pc := 49) (loc' := [(2, .int (nI 0)), (1, .int (nI (acc.length + 1))), (0, .ref x)]) X dX6_run_49 rfl (by decide) rfl ?_
    refine v_aload_n (pc := 50) X dX6_run_50 rfl 2 rfl ?_
    refine v_dup (pc := 51) X dX6_run_51 rfl ?_
    refine t_get (pc := 52) X 31 (by decide) q1987 rfl rfl dX6_run_52 ?_
    refine v_top (y := (nI ((readO a.2.2.2.1 p).1.1))) hR22.1 ?_
    refine v_iload_n (pc := 55) X dX6_run_55 rfl 0 rfl ?_
    refine v_if_eqN (pc := 56) X (by omega) 63 dX6_run_56 (by decide) (fun h56 => ?_) (fun h56 => absurd rfl h56)
    refine v_iconst (pc := 63) (v := nI 0) X dX6_run_63 rfl ?_
    refine v_iaddN (pc := 64) X dX6_run_64 ?_
    refine t_put (pc := 65) X 31 (by decide) q1987 rfl rfl rfl rfl dX6_run_65 (tf_31 _) ?_
    refine v_goto (pc := 68) X 14 dX6_run_68 (by decide) ?_
    refine v_iload_n (pc := 14) X dX6_run_14 rfl 0 rfl ?_
    refine v_if_eqN (pc := 15) X (by omega) 71 dX6_run_15 (by decide) (fun h15 => ?_) (fun h15 => absurd rfl h15)
    refine v_aload_n (pc := 71) X dX6_run_71 rfl 2 rfl ?_
    refine v_aload_n (pc := 72) X dX6_run_72 rfl 2 rfl ?_
    refine t_get (pc := 73) X 32 (by decide) q1988 rfl rfl dX6_run_73 ?_
    refine v_top (y := (bI ((readO a.2.2.2.1 p).1.2 = true))) hR22.2 ?_
    refine v_if_neB (pc := 76) X 90 dX6_run_76 (by decide) (fun h76 => ?_) (fun h76 => absurd h32 h76)
    refine v_iconst (pc := 90) (v := nI 1) X dX6_run_90 rfl ?_
    refine v_goto (pc := 91) X 95 dX6_run_91 (by decide) ?_
    refine v_top (y := (bI ((readO a.2.2.2.1 p).1.2 = true ∨ (readO a.2.2.2.1 p).1.1 < a.2.2.2.1.length))) (bI_t (by exact Or.inl h32)).symm ?_
    refine t_put (pc := 95) X 32 (by decide) q1988 rfl rfl (nzb _) (ftb _) dX6_run_95 (tf_32 _) ?_
    refine v_aload_n (pc := 98) X dX6_run_98 rfl 2 rfl ?_
    refine v_iconst (pc := 99) (v := nI 0) X dX6_run_99 rfl ?_
    refine t_put (pc := 100) X 7 (by decide) q1963 rfl rfl rfl rfl dX6_run_100 (tf_7 _) ?_
    refine v_aload_n (pc := 103) X dX6_run_103 rfl 2 rfl ?_
    refine v_aload_n (pc := 104) X dX6_run_104 rfl 2 rfl ?_
    refine t_get (pc := 105) X 32 (by decide) q1988 rfl rfl dX6_run_105 ?_
    refine v_top (y := (bI ((readO a.2.2.2.1 p).1.2 = true ∨ (readO a.2.2.2.1 p).1.1 < a.2.2.2.1.length))) rfl ?_
    refine v_if_eqB (pc := 108) X 118 dX6_run_108 (by decide) (fun h108 => absurd (Or.inl h32) h108) (fun h108 => ?_)
    refine v_aload_n (pc := 111) X dX6_run_111 rfl 2 rfl ?_
    refine t_get (pc := 112) X 31 (by decide) q1987 rfl rfl dX6_run_112 ?_
    refine v_top (y := (nI (((readO a.2.2.2.1 p).1.1) + 0))) rfl ?_
    refine v_goto (pc := 115) X 119 dX6_run_115 (by decide) ?_
    refine t_put (pc := 119) X 8 (by decide) q1964 rfl rfl rfl rfl dX6_run_119 (tf_8 _) ?_
    refine v_aload_n (pc := 122) X dX6_run_122 rfl 2 rfl ?_
    refine t_get (pc := 123) X 32 (by decide) q1988 rfl rfl dX6_run_123 ?_
    refine v_top (y := (bI ((readO a.2.2.2.1 p).1.2 = true ∨ (readO a.2.2.2.1 p).1.1 < a.2.2.2.1.length))) rfl ?_
    refine v_if_eqB (pc := 126) X 135 dX6_run_126 (by decide) (fun h126 => absurd (by exact Or.inl h32) h126) (fun h126 => ?_)
    refine v_aload_n (pc := 129) X dX6_run_129 rfl 2 rfl ?_
    refine v_iconst (pc := 130) (v := nI 1) X dX6_run_130 rfl ?_
    refine t_callI (pc := 131) X m_fails (lw_V q2082 q2084 qs38 q109 q2085) hdX6_fails ⟨Nat.le_of_ble_eq_true rfl, Nat.le_of_ble_eq_true rfl⟩ rfl rfl (Nat.le_of_ble_eq_true rfl) dX6_run_131 ⟨Nat.le_refl _, Nat.le_refl _⟩ (fun r131 σ131 hp131 => ?_)
    obtain ⟨rfl, rfl⟩ := hp131
    exact t_iret (pc := 134) X hr dX6_run_134 ⟨_, rfl, by rw [run_bad hRA (by exact Or.inl h32)]; exact ⟨tr_inp hT (((((((hC2.mono (Rs' := 33 :: scQ) (Ns' := 7 :: 8 :: scQN) (by decide) (by decide)).num 31 _ (by decide)).num 32 _ (by decide)).num 7 _ (by decide)).num 8 _ (by decide)).num 14 _ (by decide)).num 11 _ (by decide)) rfl rfl, rfl, fun z => by cases z⟩⟩
  · have hw : ¬ (readO a.2.2.2.1 p).1.2 = true := h32
    have hWp := hW.push hJ22 (hW22 (by simpa using hw)) (readO_ok hw)
    have hp1 := hrl.2.2 hw
    refine v_aload_n (pc := 35) X dX6_run_35 rfl 1 rfl ?_
    refine t_callI (pc := 36) X (m_here hI22 hR22.1 (by omega)) (lw_V q2363 q2365 qs81 q109 q2366) hdX6_here ⟨Nat.le_of_ble_eq_true rfl, Nat.le_of_ble_eq_true rfl⟩ rfl rfl (Nat.le_of_ble_eq_true rfl) dX6_run_36 ⟨Nat.le_refl _, Nat.le_refl _⟩ (fun r36 σ36 hp36 => ?_)
    obtain ⟨rfl, rfl⟩ := hp36
    refine v_bipush (pc := 39) (v := nI 59) X dX6_run_39 rfl ?_
    refine v_ic_ne (pc := 41) X 48 dX6_run_41 (by decide) (fun h41 => ?_) (fun h41 => ?_)
    · have h59 : ¬ a.2.2.2.1[(readO a.2.2.2.1 p).1.1]? = some 59 := fun z => h41 ((hr_eq hI4 (show 59 < 65536 by decide)).mpr z)
      have hRA : rdAll a.2.2.2.1 = (acc ++ [(readO a.2.2.2.1 p).2], (readO a.2.2.2.1 p).1) := by rw [hres, rdL_e hw h59]
      refine v_iconst (pc := 48) (v := nI 0) X dX6_run_48 rfl ?_
      refine v_istore_n (pc := 49) (loc' := [(2, .int (nI 0)), (1, .int (nI (acc.length + 1))), (0, .ref x)]) X dX6_run_49 rfl (by decide) rfl ?_
      refine v_aload_n (pc := 50) X dX6_run_50 rfl 2 rfl ?_
      refine v_dup (pc := 51) X dX6_run_51 rfl ?_
      refine t_get (pc := 52) X 31 (by decide) q1987 rfl rfl dX6_run_52 ?_
      refine v_top (y := (nI ((readO a.2.2.2.1 p).1.1))) hR22.1 ?_
      refine v_iload_n (pc := 55) X dX6_run_55 rfl 0 rfl ?_
      refine v_if_eqN (pc := 56) X (by omega) 63 dX6_run_56 (by decide) (fun h56 => ?_) (fun h56 => absurd rfl h56)
      refine v_iconst (pc := 63) (v := nI 0) X dX6_run_63 rfl ?_
      refine v_iaddN (pc := 64) X dX6_run_64 ?_
      refine t_put (pc := 65) X 31 (by decide) q1987 rfl rfl rfl rfl dX6_run_65 (tf_31 _) ?_
      refine v_goto (pc := 68) X 14 dX6_run_68 (by decide) ?_
      refine v_iload_n (pc := 14) X dX6_run_14 rfl 0 rfl ?_
      refine v_if_eqN (pc := 15) X (by omega) 71 dX6_run_15 (by decide) (fun h15 => ?_) (fun h15 => absurd rfl h15)
      refine v_aload_n (pc := 71) X dX6_run_71 rfl 2 rfl ?_
      refine v_aload_n (pc := 72) X dX6_run_72 rfl 2 rfl ?_
      refine t_get (pc := 73) X 32 (by decide) q1988 rfl rfl dX6_run_73 ?_
      refine v_top (y := (bI ((readO a.2.2.2.1 p).1.2 = true))) hR22.2 ?_
      refine v_if_neB (pc := 76) X 90 dX6_run_76 (by decide) (fun h76 => absurd h76 h32) (fun h76 => ?_)
      refine v_aload_n (pc := 79) X dX6_run_79 rfl 2 rfl ?_
      refine t_get (pc := 80) X 31 (by decide) q1987 rfl rfl dX6_run_80 ?_
      refine v_top (y := (nI (((readO a.2.2.2.1 p).1.1) + 0))) rfl ?_
      refine v_aload_n (pc := 83) X dX6_run_83 rfl 2 rfl ?_
      refine t_get (pc := 84) X 7 (by decide) q1963 rfl rfl dX6_run_84 ?_
      refine v_top (y := (nI a.2.2.2.1.length)) hI22.2.1 ?_
      refine v_ic_geN (pc := 87) X (by omega) (by omega) 94 dX6_run_87 (by decide) (fun h87 => ?_) (fun h87 => ?_)
      · refine v_iconst (pc := 94) (v := nI 0) X dX6_run_94 rfl ?_
        refine v_top (y := (bI ((readO a.2.2.2.1 p).1.2 = true ∨ (readO a.2.2.2.1 p).1.1 < a.2.2.2.1.length))) (bI_f (by exact fun z => z.elim h76 (fun z => absurd z (by omega)))).symm ?_
        refine t_put (pc := 95) X 32 (by decide) q1988 rfl rfl (nzb _) (ftb _) dX6_run_95 (tf_32 _) ?_
        refine v_aload_n (pc := 98) X dX6_run_98 rfl 2 rfl ?_
        refine v_iconst (pc := 99) (v := nI 0) X dX6_run_99 rfl ?_
        refine t_put (pc := 100) X 7 (by decide) q1963 rfl rfl rfl rfl dX6_run_100 (tf_7 _) ?_
        refine v_aload_n (pc := 103) X dX6_run_103 rfl 2 rfl ?_
        refine v_aload_n (pc := 104) X dX6_run_104 rfl 2 rfl ?_
        refine t_get (pc := 105) X 32 (by decide) q1988 rfl rfl dX6_run_105 ?_
        refine v_top (y := (bI ((readO a.2.2.2.1 p).1.2 = true ∨ (readO a.2.2.2.1 p).1.1 < a.2.2.2.1.length))) rfl ?_
        refine v_if_eqB (pc := 108) X 118 dX6_run_108 (by decide) (fun h108 => ?_) (fun h108 => ?_)
        · refine v_iconst (pc := 118) (v := -1) X dX6_run_118 rfl ?_
          refine t_put (pc := 119) X 8 (by decide) q1964 rfl rfl rfl rfl dX6_run_119 (tf_8 _) ?_
          refine v_aload_n (pc := 122) X dX6_run_122 rfl 2 rfl ?_
          refine t_get (pc := 123) X 32 (by decide) q1988 rfl rfl dX6_run_123 ?_
          refine v_top (y := (bI ((readO a.2.2.2.1 p).1.2 = true ∨ (readO a.2.2.2.1 p).1.1 < a.2.2.2.1.length))) rfl ?_
          refine v_if_eqB (pc := 126) X 135 dX6_run_126 (by decide) (fun h126 => ?_) (fun h126 => absurd h126 h108)
          have hTr := tr_inp hT (τ := (ws1 (ws1 (ws1 (ws1 σ22 31 (nI ((readO a.2.2.2.1 p).1.1 + 0))) 32 (bI ((readO a.2.2.2.1 p).1.2 = true ∨ (readO a.2.2.2.1 p).1.1 < a.2.2.2.1.length))) 7 (nI 0)) 8 (-1))) (e := -1) (((((hC2.mono (Rs' := 33 :: scQ) (Ns' := 7 :: 8 :: scQN) (by decide) (by decide)).num 31 _ (by decide)).num 32 _ (by decide)).num 7 _ (by decide)).num 8 _ (by decide)) rfl rfl
          obtain ⟨os, hos⟩ : ∃ os, os = acc ++ [(readO a.2.2.2.1 p).2] := ⟨_, rfl⟩
          have hosl : acc.length + 1 = os.length := by rw [hos, List.length_append]; rfl
          rw [← hos] at hWp hRA
          rw [hosl]
          refine v_aload_n (pc := 135) X dX6_run_135 rfl 2 rfl ?_
          refine t_callV (pc := 136) X m_looksBack (lw_V q2068 q2070 qs36 q109 q2071) hdX6_looksBack ⟨Nat.le_of_ble_eq_true rfl, Nat.le_of_ble_eq_true rfl⟩ rfl rfl (Nat.le_of_ble_eq_true rfl) dX6_run_136 ⟨Nat.le_refl _, Nat.le_refl _⟩ (fun σ136 hp136 => ?_)
          have hs136 : ∀ j, j ≠ 1 → σ136 j = (ws1 (ws1 (ws1 (ws1 σ22 31 (nI ((readO a.2.2.2.1 p).1.1 + 0))) 32 (bI ((readO a.2.2.2.1 p).1.2 = true ∨ (readO a.2.2.2.1 p).1.1 < a.2.2.2.1.length))) 7 (nI 0)) 8 (-1)) j := fun j hj => by rw [← hp136]; exact rw2_n hj
          refine v_iconst (pc := 139) (v := nI 0) X dX6_run_139 rfl ?_
          refine v_istore_n (pc := 140) (loc' := [(3, .int (nI 0)), (2, .int (nI 0)), (1, .int (nI os.length)), (0, .ref x)]) X dX6_run_140 rfl (by decide) rfl ?_
          refine v_sub [3, 2, 1, 0] rfl ?_
          refine v_loop3 (S := Nat) (T := Blk) (Z := Tw) (fun i b ω => tw x ad dd ω) (fun i b ω => [(0, .ref x), (1, .int (nI os.length)), (2, .int (nI 0)), (3, .int (nI i))]) (fun i b ω => i ≤ os.length ∧ BEq (ω 0) b ∧ WFB b ∧ runB b (os.drop i) os.length = runB a.1 os os.length ∧ Ch scR scN σ136 ω ∧ ω 99 9 = σ136 99 9 ∧ ω 99 10 = σ136 99 10) (fun i b ω => os.length - i) (fun i b ω hI141 ih141 => ?_) 0 a.1 _ ⟨Nat.zero_le _, (by rw [hs136 0 (by decide)]; exact hTr.1), hT.2.1, rfl, Ch.rf _ _ _, rfl, rfl⟩
          obtain ⟨hi, hb, hwb, hrb, hCw, h9w, h10w⟩ := hI141
          refine v_iload_n (pc := 141) X dX6_run_141 rfl 3 rfl ?_
          refine v_iload_n (pc := 142) X dX6_run_142 rfl 1 rfl ?_
          refine v_ic_geN (pc := 143) X (by omega) (by omega) 191 dX6_run_143 (by decide) (fun h143 => ?_) (fun h143 => ?_)
          · have hie : i = os.length := by omega
            subst hie
            refine v_aload_n (pc := 191) X dX6_run_191 rfl 0 rfl ?_
            refine v_aload_n (pc := 192) X dX6_run_192 rfl 0 rfl ?_
            refine v_iload_n (pc := 193) X dX6_run_193 rfl 1 rfl ?_
            refine t_callI (pc := 194) X m_done (lw_V q2094 q2096 qs41 q109 q2097) hdX6_done ⟨Nat.le_of_ble_eq_true rfl, Nat.le_of_ble_eq_true rfl⟩ rfl rfl (Nat.le_of_ble_eq_true rfl) dX6_run_194 ⟨Nat.le_refl _, Nat.le_refl _⟩ (fun r194 σ194 hp194 => ?_)
            obtain ⟨rfl, rfl⟩ := hp194
            refine t_callI (pc := 197) X (m_kept (k := 0) (hs := a.2.1) (hTr.2.2.1.same ((hCw.1 2 (by decide) (by decide)).trans (hs136 2 (by decide))) ((hCw.2 3 (by decide)).trans (congrFun (hs136 99 (by decide)) 3))) rfl (by decide)) (lw_V q2098 q2100 qs42 q109 q2101) hdX6_kept ⟨Nat.le_of_ble_eq_true rfl, Nat.le_of_ble_eq_true rfl⟩ rfl rfl (Nat.le_of_ble_eq_true rfl) dX6_run_197 ⟨Nat.le_refl _, Nat.le_refl _⟩ (fun r197 σ197 hp197 => ?_)
            exact t_iret (pc := 200) X hr dX6_run_200 ⟨_, rfl, by rw [run_good hRA (by exact h126)]; exact (rn_done hTr hp136 hrb (List.drop_length) (Cr.ok (b := b) (z := nI os.length) rfl rfl hb hCw h9w h10w) (runB_wf os a.1 os.length hT.2.1 (fun q hq => by obtain ⟨j, hj, he⟩ := List.getElem_of_mem hq; exact (hWp j q (by rw [List.getElem?_eq_getElem hj, he])).2)) hp197)⟩
          · obtain ⟨o, ho⟩ := get_lt (L := os) (k := i) (by omega)
            have hdr : os.drop i = o :: os.drop (i + 1) := by rw [List.drop_eq_getElem_cons (by omega)]; congr 1; exact Option.some.inj ((List.getElem?_eq_getElem (by omega)).symm.trans ho)
            have hwfw := (hwb.congr hb.sm).1
            have h33w : ω 33 = σ22 33 := (hCw.1 33 (by decide) (by decide)).trans (hs136 33 (by decide))
            obtain ⟨hWo, hOo⟩ := hWp i o ho
            have hwo := opO_wf hwb hOo
            have hpe2 := hIt.2.2.1
            refine v_aload_n (pc := 146) X dX6_run_146 rfl 0 rfl ?_
            refine v_iconst (pc := 147) (v := nI 3) X dX6_run_147 rfl ?_
            refine v_iload_n (pc := 148) X dX6_run_148 rfl 3 rfl ?_
            refine v_imulN (pc := 149) X dX6_run_149 ?_
            refine t_callI (pc := 150) X (m_does hwfw (by rw [h33w]; exact hWo) hOo (by omega)) (lw_V q2383 q2385 qs86 q109 q2386) hdX6_does ⟨Nat.le_of_ble_eq_true rfl, Nat.le_of_ble_eq_true rfl⟩ rfl rfl (Nat.le_of_ble_eq_true rfl) dX6_run_150 ⟨Nat.le_refl _, Nat.le_refl _⟩ (fun r150 σ150 hp150 => ?_)
            have hcr := hp150.eq (opO_eq hwfw hb.sm.sm hOo)
            refine v_istore (pc := 153) (loc' := [(4, .int r150), (0, .ref x), (1, .int (nI os.length)), (2, .int (nI 0)), (3, .int (nI i))]) X dX6_run_153 (by decide) rfl ?_
            refine v_aload_n (pc := 155) X dX6_run_155 rfl 1 rfl ?_
            refine t_get (pc := 156) X 14 (by decide) q1970 rfl rfl dX6_run_156 ?_
            refine v_top (y := (nI ((opO b o).1))) hcr.2.1 ?_
            refine v_if_eqN (pc := 159) X (by omega) 185 dX6_run_159 (by decide) (fun h159 => ?_) (fun h159 => ?_)
            · refine v_iinc (pc := 185) (v := (nI (i + 1))) (loc' := [(3, .int (nI (i + 1))), (4, .int r150), (0, .ref x), (1, .int (nI os.length)), (2, .int (nI 0))]) X dX6_run_185 4 rfl (nI_add _ 1) (by decide) rfl ?_
              refine v_goto (pc := 188) X 141 dX6_run_188 (by decide) ?_
              refine v_sub [2, 3, 4, 0] rfl ?_
              exact ih141 (i + 1) (opO b o).2.2.2 _ ⟨by omega, (hcr.2.2.1 h159).2, hwo.1, by rw [← hrb, hdr]; show _ = if _ then _ else _; rw [if_pos h159], hCw.tr hcr.1, (hcr.2.2.2.1 (hwo.2.2 h159)).1.trans h9w, (hcr.2.2.2.1 (hwo.2.2 h159)).2.1.trans h10w⟩ (by omega)
            · refine v_aload_n (pc := 162) X dX6_run_162 rfl 1 rfl ?_
              refine v_aload_n (pc := 163) X dX6_run_163 rfl 1 rfl ?_
              refine t_get (pc := 164) X 11 (by decide) q1967 rfl rfl dX6_run_164 ?_
              refine v_if_eq (pc := 167) X 174 dX6_run_167 (by decide) (fun h167 => ?_) (fun h167 => ?_)
              · refine v_iconst (pc := 174) (v := nI 1) X dX6_run_174 rfl ?_
                refine v_top (y := (nI ((if (opO b o).2.1 = none then 1 else 2)))) (by rw [if_pos (rn_none hcr h167)]) ?_
                refine t_put (pc := 175) X 14 (by decide) q1970 rfl rfl rfl rfl dX6_run_175 (tf_14 _) ?_
                refine v_aload_n (pc := 178) X dX6_run_178 rfl 1 rfl ?_
                refine v_iload (pc := 179) X dX6_run_179 0 rfl ?_
                refine t_callI (pc := 181) X (m_kept (k := (if (opO b o).2.1 = none then 1 else 2)) (hs := a.2.1) (hTr.2.2.1.same ((hcr.1.1 2 (by decide) (by decide)).trans ((hCw.1 2 (by decide) (by decide)).trans (hs136 2 (by decide)))) ((hcr.1.2 3 (by decide)).trans ((hCw.2 3 (by decide)).trans (congrFun (hs136 99 (by decide)) 3)))) rfl run_ne0) (lw_V q2098 q2100 qs42 q109 q2101) hdX6_kept ⟨Nat.le_of_ble_eq_true rfl, Nat.le_of_ble_eq_true rfl⟩ rfl rfl (Nat.le_of_ble_eq_true rfl) dX6_run_181 ⟨Nat.le_refl _, Nat.le_refl _⟩ (fun r181 σ181 hp181 => ?_)
                exact t_iret (pc := 184) X hr dX6_run_184 ⟨_, rfl, by rw [run_good hRA (by exact h126)]; exact (rn_done hTr hp136 hrb hdr (rn_fail (v := r150) (os := os.drop (i + 1)) (n := os.length) hCw h9w h10w hcr h159 _ rfl) (runB_wf os a.1 os.length hT.2.1 (fun q hq => by obtain ⟨j, hj, he⟩ := List.getElem_of_mem hq; exact (hWp j q (by rw [List.getElem?_eq_getElem hj, he])).2)) hp181)⟩
              · refine v_iconst (pc := 170) (v := nI 2) X dX6_run_170 rfl ?_
                refine v_goto (pc := 171) X 175 dX6_run_171 (by decide) ?_
                refine v_top (y := (nI ((if (opO b o).2.1 = none then 1 else 2)))) (by rw [if_neg (fun z => h167 ((hcr.2.2.2.1 z).2.2 h159))]) ?_
                refine t_put (pc := 175) X 14 (by decide) q1970 rfl rfl rfl rfl dX6_run_175 (tf_14 _) ?_
                refine v_aload_n (pc := 178) X dX6_run_178 rfl 1 rfl ?_
                refine v_iload (pc := 179) X dX6_run_179 0 rfl ?_
                refine t_callI (pc := 181) X (m_kept (k := (if (opO b o).2.1 = none then 1 else 2)) (hs := a.2.1) (hTr.2.2.1.same ((hcr.1.1 2 (by decide) (by decide)).trans ((hCw.1 2 (by decide) (by decide)).trans (hs136 2 (by decide)))) ((hcr.1.2 3 (by decide)).trans ((hCw.2 3 (by decide)).trans (congrFun (hs136 99 (by decide)) 3)))) rfl run_ne0) (lw_V q2098 q2100 qs42 q109 q2101) hdX6_kept ⟨Nat.le_of_ble_eq_true rfl, Nat.le_of_ble_eq_true rfl⟩ rfl rfl (Nat.le_of_ble_eq_true rfl) dX6_run_181 ⟨Nat.le_refl _, Nat.le_refl _⟩ (fun r181 σ181 hp181 => ?_)
                exact t_iret (pc := 184) X hr dX6_run_184 ⟨_, rfl, by rw [run_good hRA (by exact h126)]; exact (rn_done hTr hp136 hrb hdr (rn_fail (v := r150) (os := os.drop (i + 1)) (n := os.length) hCw h9w h10w hcr h159 _ rfl) (runB_wf os a.1 os.length hT.2.1 (fun q hq => by obtain ⟨j, hj, he⟩ := List.getElem_of_mem hq; exact (hWp j q (by rw [List.getElem?_eq_getElem hj, he])).2)) hp181)⟩
        · refine v_aload_n (pc := 111) X dX6_run_111 rfl 2 rfl ?_
          refine t_get (pc := 112) X 31 (by decide) q1987 rfl rfl dX6_run_112 ?_
          refine v_top (y := (nI (((readO a.2.2.2.1 p).1.1) + 0))) rfl ?_
          refine v_goto (pc := 115) X 119 dX6_run_115 (by decide) ?_
          refine t_put (pc := 119) X 8 (by decide) q1964 rfl rfl rfl rfl dX6_run_119 (tf_8 _) ?_
          refine v_aload_n (pc := 122) X dX6_run_122 rfl 2 rfl ?_
          refine t_get (pc := 123) X 32 (by decide) q1988 rfl rfl dX6_run_123 ?_
          refine v_top (y := (bI ((readO a.2.2.2.1 p).1.2 = true ∨ (readO a.2.2.2.1 p).1.1 < a.2.2.2.1.length))) rfl ?_
          refine v_if_eqB (pc := 126) X 135 dX6_run_126 (by decide) (fun h126 => absurd h108 h126) (fun h126 => ?_)
          refine v_aload_n (pc := 129) X dX6_run_129 rfl 2 rfl ?_
          refine v_iconst (pc := 130) (v := nI 1) X dX6_run_130 rfl ?_
          refine t_callI (pc := 131) X m_fails (lw_V q2082 q2084 qs38 q109 q2085) hdX6_fails ⟨Nat.le_of_ble_eq_true rfl, Nat.le_of_ble_eq_true rfl⟩ rfl rfl (Nat.le_of_ble_eq_true rfl) dX6_run_131 ⟨Nat.le_refl _, Nat.le_refl _⟩ (fun r131 σ131 hp131 => ?_)
          obtain ⟨rfl, rfl⟩ := hp131
          exact t_iret (pc := 134) X hr dX6_run_134 ⟨_, rfl, by rw [run_bad hRA (by exact h126)]; exact ⟨tr_inp hT (((((((hC2.mono (Rs' := 33 :: scQ) (Ns' := 7 :: 8 :: scQN) (by decide) (by decide)).num 31 _ (by decide)).num 32 _ (by decide)).num 7 _ (by decide)).num 8 _ (by decide)).num 14 _ (by decide)).num 11 _ (by decide)) rfl rfl, rfl, fun z => by cases z⟩⟩
      · refine v_iconst (pc := 90) (v := nI 1) X dX6_run_90 rfl ?_
        refine v_goto (pc := 91) X 95 dX6_run_91 (by decide) ?_
        refine v_top (y := (bI ((readO a.2.2.2.1 p).1.2 = true ∨ (readO a.2.2.2.1 p).1.1 < a.2.2.2.1.length))) (bI_t (by exact Or.inr h87)).symm ?_
        refine t_put (pc := 95) X 32 (by decide) q1988 rfl rfl (nzb _) (ftb _) dX6_run_95 (tf_32 _) ?_
        refine v_aload_n (pc := 98) X dX6_run_98 rfl 2 rfl ?_
        refine v_iconst (pc := 99) (v := nI 0) X dX6_run_99 rfl ?_
        refine t_put (pc := 100) X 7 (by decide) q1963 rfl rfl rfl rfl dX6_run_100 (tf_7 _) ?_
        refine v_aload_n (pc := 103) X dX6_run_103 rfl 2 rfl ?_
        refine v_aload_n (pc := 104) X dX6_run_104 rfl 2 rfl ?_
        refine t_get (pc := 105) X 32 (by decide) q1988 rfl rfl dX6_run_105 ?_
        refine v_top (y := (bI ((readO a.2.2.2.1 p).1.2 = true ∨ (readO a.2.2.2.1 p).1.1 < a.2.2.2.1.length))) rfl ?_
        refine v_if_eqB (pc := 108) X 118 dX6_run_108 (by decide) (fun h108 => ?_) (fun h108 => ?_)
        · refine v_iconst (pc := 118) (v := -1) X dX6_run_118 rfl ?_
          refine t_put (pc := 119) X 8 (by decide) q1964 rfl rfl rfl rfl dX6_run_119 (tf_8 _) ?_
          refine v_aload_n (pc := 122) X dX6_run_122 rfl 2 rfl ?_
          refine t_get (pc := 123) X 32 (by decide) q1988 rfl rfl dX6_run_123 ?_
          refine v_top (y := (bI ((readO a.2.2.2.1 p).1.2 = true ∨ (readO a.2.2.2.1 p).1.1 < a.2.2.2.1.length))) rfl ?_
          refine v_if_eqB (pc := 126) X 135 dX6_run_126 (by decide) (fun h126 => ?_) (fun h126 => absurd h126 h108)
          have hTr := tr_inp hT (τ := (ws1 (ws1 (ws1 (ws1 σ22 31 (nI ((readO a.2.2.2.1 p).1.1 + 0))) 32 (bI ((readO a.2.2.2.1 p).1.2 = true ∨ (readO a.2.2.2.1 p).1.1 < a.2.2.2.1.length))) 7 (nI 0)) 8 (-1))) (e := -1) (((((hC2.mono (Rs' := 33 :: scQ) (Ns' := 7 :: 8 :: scQN) (by decide) (by decide)).num 31 _ (by decide)).num 32 _ (by decide)).num 7 _ (by decide)).num 8 _ (by decide)) rfl rfl
          obtain ⟨os, hos⟩ : ∃ os, os = acc ++ [(readO a.2.2.2.1 p).2] := ⟨_, rfl⟩
          have hosl : acc.length + 1 = os.length := by rw [hos, List.length_append]; rfl
          rw [← hos] at hWp hRA
          rw [hosl]
          refine v_aload_n (pc := 135) X dX6_run_135 rfl 2 rfl ?_
          refine t_callV (pc := 136) X m_looksBack (lw_V q2068 q2070 qs36 q109 q2071) hdX6_looksBack ⟨Nat.le_of_ble_eq_true rfl, Nat.le_of_ble_eq_true rfl⟩ rfl rfl (Nat.le_of_ble_eq_true rfl) dX6_run_136 ⟨Nat.le_refl _, Nat.le_refl _⟩ (fun σ136 hp136 => ?_)
          have hs136 : ∀ j, j ≠ 1 → σ136 j = (ws1 (ws1 (ws1 (ws1 σ22 31 (nI ((readO a.2.2.2.1 p).1.1 + 0))) 32 (bI ((readO a.2.2.2.1 p).1.2 = true ∨ (readO a.2.2.2.1 p).1.1 < a.2.2.2.1.length))) 7 (nI 0)) 8 (-1)) j := fun j hj => by rw [← hp136]; exact rw2_n hj
          refine v_iconst (pc := 139) (v := nI 0) X dX6_run_139 rfl ?_
          refine v_istore_n (pc := 140) (loc' := [(3, .int (nI 0)), (2, .int (nI 0)), (1, .int (nI os.length)), (0, .ref x)]) X dX6_run_140 rfl (by decide) rfl ?_
          refine v_sub [3, 2, 1, 0] rfl ?_
          refine v_loop3 (S := Nat) (T := Blk) (Z := Tw) (fun i b ω => tw x ad dd ω) (fun i b ω => [(0, .ref x), (1, .int (nI os.length)), (2, .int (nI 0)), (3, .int (nI i))]) (fun i b ω => i ≤ os.length ∧ BEq (ω 0) b ∧ WFB b ∧ runB b (os.drop i) os.length = runB a.1 os os.length ∧ Ch scR scN σ136 ω ∧ ω 99 9 = σ136 99 9 ∧ ω 99 10 = σ136 99 10) (fun i b ω => os.length - i) (fun i b ω hI141 ih141 => ?_) 0 a.1 _ ⟨Nat.zero_le _, (by rw [hs136 0 (by decide)]; exact hTr.1), hT.2.1, rfl, Ch.rf _ _ _, rfl, rfl⟩
          obtain ⟨hi, hb, hwb, hrb, hCw, h9w, h10w⟩ := hI141
          refine v_iload_n (pc := 141) X dX6_run_141 rfl 3 rfl ?_
          refine v_iload_n (pc := 142) X dX6_run_142 rfl 1 rfl ?_
          refine v_ic_geN (pc := 143) X (by omega) (by omega) 191 dX6_run_143 (by decide) (fun h143 => ?_) (fun h143 => ?_)
          · have hie : i = os.length := by omega
            subst hie
            refine v_aload_n (pc := 191) X dX6_run_191 rfl 0 rfl ?_
            refine v_aload_n (pc := 192) X dX6_run_192 rfl 0 rfl ?_
            refine v_iload_n (pc := 193) X dX6_run_193 rfl 1 rfl ?_
            refine t_callI (pc := 194) X m_done (lw_V q2094 q2096 qs41 q109 q2097) hdX6_done ⟨Nat.le_of_ble_eq_true rfl, Nat.le_of_ble_eq_true rfl⟩ rfl rfl (Nat.le_of_ble_eq_true rfl) dX6_run_194 ⟨Nat.le_refl _, Nat.le_refl _⟩ (fun r194 σ194 hp194 => ?_)
            obtain ⟨rfl, rfl⟩ := hp194
            refine t_callI (pc := 197) X (m_kept (k := 0) (hs := a.2.1) (hTr.2.2.1.same ((hCw.1 2 (by decide) (by decide)).trans (hs136 2 (by decide))) ((hCw.2 3 (by decide)).trans (congrFun (hs136 99 (by decide)) 3))) rfl (by decide)) (lw_V q2098 q2100 qs42 q109 q2101) hdX6_kept ⟨Nat.le_of_ble_eq_true rfl, Nat.le_of_ble_eq_true rfl⟩ rfl rfl (Nat.le_of_ble_eq_true rfl) dX6_run_197 ⟨Nat.le_refl _, Nat.le_refl _⟩ (fun r197 σ197 hp197 => ?_)
            exact t_iret (pc := 200) X hr dX6_run_200 ⟨_, rfl, by rw [run_good hRA (by exact h126)]; exact (rn_done hTr hp136 hrb (List.drop_length) (Cr.ok (b := b) (z := nI os.length) rfl rfl hb hCw h9w h10w) (runB_wf os a.1 os.length hT.2.1 (fun q hq => by obtain ⟨j, hj, he⟩ := List.getElem_of_mem hq; exact (hWp j q (by rw [List.getElem?_eq_getElem hj, he])).2)) hp197)⟩
          · obtain ⟨o, ho⟩ := get_lt (L := os) (k := i) (by omega)
            have hdr : os.drop i = o :: os.drop (i + 1) := by rw [List.drop_eq_getElem_cons (by omega)]; congr 1; exact Option.some.inj ((List.getElem?_eq_getElem (by omega)).symm.trans ho)
            have hwfw := (hwb.congr hb.sm).1
            have h33w : ω 33 = σ22 33 := (hCw.1 33 (by decide) (by decide)).trans (hs136 33 (by decide))
            obtain ⟨hWo, hOo⟩ := hWp i o ho
            have hwo := opO_wf hwb hOo
            have hpe2 := hIt.2.2.1
            refine v_aload_n (pc := 146) X dX6_run_146 rfl 0 rfl ?_
            refine v_iconst (pc := 147) (v := nI 3) X dX6_run_147 rfl ?_
            refine v_iload_n (pc := 148) X dX6_run_148 rfl 3 rfl ?_
            refine v_imulN (pc := 149) X dX6_run_149 ?_
            refine t_callI (pc := 150) X (m_does hwfw (by rw [h33w]; exact hWo) hOo (by omega)) (lw_V q2383 q2385 qs86 q109 q2386) hdX6_does ⟨Nat.le_of_ble_eq_true rfl, Nat.le_of_ble_eq_true rfl⟩ rfl rfl (Nat.le_of_ble_eq_true rfl) dX6_run_150 ⟨Nat.le_refl _, Nat.le_refl _⟩ (fun r150 σ150 hp150 => ?_)
            have hcr := hp150.eq (opO_eq hwfw hb.sm.sm hOo)
            refine v_istore (pc := 153) (loc' := [(4, .int r150), (0, .ref x), (1, .int (nI os.length)), (2, .int (nI 0)), (3, .int (nI i))]) X dX6_run_153 (by decide) rfl ?_
            refine v_aload_n (pc := 155) X dX6_run_155 rfl 1 rfl ?_
            refine t_get (pc := 156) X 14 (by decide) q1970 rfl rfl dX6_run_156 ?_
            refine v_top (y := (nI ((opO b o).1))) hcr.2.1 ?_
            refine v_if_eqN (pc := 159) X (by omega) 185 dX6_run_159 (by decide) (fun h159 => ?_) (fun h159 => ?_)
            · refine v_iinc (pc := 185) (v := (nI (i + 1))) (loc' := [(3, .int (nI (i + 1))), (4, .int r150), (0, .ref x), (1, .int (nI os.length)), (2, .int (nI 0))]) X dX6_run_185 4 rfl (nI_add _ 1) (by decide) rfl ?_
              refine v_goto (pc := 188) X 141 dX6_run_188 (by decide) ?_
              refine v_sub [2, 3, 4, 0] rfl ?_
              exact ih141 (i + 1) (opO b o).2.2.2 _ ⟨by omega, (hcr.2.2.1 h159).2, hwo.1, by rw [← hrb, hdr]; show _ = if _ then _ else _; rw [if_pos h159], hCw.tr hcr.1, (hcr.2.2.2.1 (hwo.2.2 h159)).1.trans h9w, (hcr.2.2.2.1 (hwo.2.2 h159)).2.1.trans h10w⟩ (by omega)
            · refine v_aload_n (pc := 162) X dX6_run_162 rfl 1 rfl ?_
              refine v_aload_n (pc := 163) X dX6_run_163 rfl 1 rfl ?_
              refine t_get (pc := 164) X 11 (by decide) q1967 rfl rfl dX6_run_164 ?_
              refine v_if_eq (pc := 167) X 174 dX6_run_167 (by decide) (fun h167 => ?_) (fun h167 => ?_)
              · refine v_iconst (pc := 174) (v := nI 1) X dX6_run_174 rfl ?_
                refine v_top (y := (nI ((if (opO b o).2.1 = none then 1 else 2)))) (by rw [if_pos (rn_none hcr h167)]) ?_
                refine t_put (pc := 175) X 14 (by decide) q1970 rfl rfl rfl rfl dX6_run_175 (tf_14 _) ?_
                refine v_aload_n (pc := 178) X dX6_run_178 rfl 1 rfl ?_
                refine v_iload (pc := 179) X dX6_run_179 0 rfl ?_
                refine t_callI (pc := 181) X (m_kept (k := (if (opO b o).2.1 = none then 1 else 2)) (hs := a.2.1) (hTr.2.2.1.same ((hcr.1.1 2 (by decide) (by decide)).trans ((hCw.1 2 (by decide) (by decide)).trans (hs136 2 (by decide)))) ((hcr.1.2 3 (by decide)).trans ((hCw.2 3 (by decide)).trans (congrFun (hs136 99 (by decide)) 3)))) rfl run_ne0) (lw_V q2098 q2100 qs42 q109 q2101) hdX6_kept ⟨Nat.le_of_ble_eq_true rfl, Nat.le_of_ble_eq_true rfl⟩ rfl rfl (Nat.le_of_ble_eq_true rfl) dX6_run_181 ⟨Nat.le_refl _, Nat.le_refl _⟩ (fun r181 σ181 hp181 => ?_)
                exact t_iret (pc := 184) X hr dX6_run_184 ⟨_, rfl, by rw [run_good hRA (by exact h126)]; exact (rn_done hTr hp136 hrb hdr (rn_fail (v := r150) (os := os.drop (i + 1)) (n := os.length) hCw h9w h10w hcr h159 _ rfl) (runB_wf os a.1 os.length hT.2.1 (fun q hq => by obtain ⟨j, hj, he⟩ := List.getElem_of_mem hq; exact (hWp j q (by rw [List.getElem?_eq_getElem hj, he])).2)) hp181)⟩
              · refine v_iconst (pc := 170) (v := nI 2) X dX6_run_170 rfl ?_
                refine v_goto (pc := 171) X 175 dX6_run_171 (by decide) ?_
                refine v_top (y := (nI ((if (opO b o).2.1 = none then 1 else 2)))) (by rw [if_neg (fun z => h167 ((hcr.2.2.2.1 z).2.2 h159))]) ?_
                refine t_put (pc := 175) X 14 (by decide) q1970 rfl rfl rfl rfl dX6_run_175 (tf_14 _) ?_
                refine v_aload_n (pc := 178) X dX6_run_178 rfl 1 rfl ?_
                refine v_iload (pc := 179) X dX6_run_179 0 rfl ?_
                refine t_callI (pc := 181) X (m_kept (k := (if (opO b o).2.1 = none then 1 else 2)) (hs := a.2.1) (hTr.2.2.1.same ((hcr.1.1 2 (by decide) (by decide)).trans ((hCw.1 2 (by decide) (by decide)).trans (hs136 2 (by decide)))) ((hcr.1.2 3 (by decide)).trans ((hCw.2 3 (by decide)).trans (congrFun (hs136 99 (by decide)) 3)))) rfl run_ne0) (lw_V q2098 q2100 qs42 q109 q2101) hdX6_kept ⟨Nat.le_of_ble_eq_true rfl, Nat.le_of_ble_eq_true rfl⟩ rfl rfl (Nat.le_of_ble_eq_true rfl) dX6_run_181 ⟨Nat.le_refl _, Nat.le_refl _⟩ (fun r181 σ181 hp181 => ?_)
                exact t_iret (pc := 184) X hr dX6_run_184 ⟨_, rfl, by rw [run_good hRA (by exact h126)]; exact (rn_done hTr hp136 hrb hdr (rn_fail (v := r150) (os := os.drop (i + 1)) (n := os.length) hCw h9w h10w hcr h159 _ rfl) (runB_wf os a.1 os.length hT.2.1 (fun q hq => by obtain ⟨j, hj, he⟩ := List.getElem_of_mem hq; exact (hWp j q (by rw [List.getElem?_eq_getElem hj, he])).2)) hp181)⟩
        · refine v_aload_n (pc := 111) X dX6_run_111 rfl 2 rfl ?_
          refine t_get (pc := 112) X 31 (by decide) q1987 rfl rfl dX6_run_112 ?_
          refine v_top (y := (nI (((readO a.2.2.2.1 p).1.1) + 0))) rfl ?_
          refine v_goto (pc := 115) X 119 dX6_run_115 (by decide) ?_
          refine t_put (pc := 119) X 8 (by decide) q1964 rfl rfl rfl rfl dX6_run_119 (tf_8 _) ?_
          refine v_aload_n (pc := 122) X dX6_run_122 rfl 2 rfl ?_
          refine t_get (pc := 123) X 32 (by decide) q1988 rfl rfl dX6_run_123 ?_
          refine v_top (y := (bI ((readO a.2.2.2.1 p).1.2 = true ∨ (readO a.2.2.2.1 p).1.1 < a.2.2.2.1.length))) rfl ?_
          refine v_if_eqB (pc := 126) X 135 dX6_run_126 (by decide) (fun h126 => absurd h108 h126) (fun h126 => ?_)
          refine v_aload_n (pc := 129) X dX6_run_129 rfl 2 rfl ?_
          refine v_iconst (pc := 130) (v := nI 1) X dX6_run_130 rfl ?_
          refine t_callI (pc := 131) X m_fails (lw_V q2082 q2084 qs38 q109 q2085) hdX6_fails ⟨Nat.le_of_ble_eq_true rfl, Nat.le_of_ble_eq_true rfl⟩ rfl rfl (Nat.le_of_ble_eq_true rfl) dX6_run_131 ⟨Nat.le_refl _, Nat.le_refl _⟩ (fun r131 σ131 hp131 => ?_)
          obtain ⟨rfl, rfl⟩ := hp131
          exact t_iret (pc := 134) X hr dX6_run_134 ⟨_, rfl, by rw [run_bad hRA (by exact h126)]; exact ⟨tr_inp hT (((((((hC2.mono (Rs' := 33 :: scQ) (Ns' := 7 :: 8 :: scQN) (by decide) (by decide)).num 31 _ (by decide)).num 32 _ (by decide)).num 7 _ (by decide)).num 8 _ (by decide)).num 14 _ (by decide)).num 11 _ (by decide)) rfl rfl, rfl, fun z => by cases z⟩⟩
    · have h59 := (hr_eq hI4 (show 59 < 65536 by decide)).mp h41
      refine v_iconst (pc := 44) (v := nI 1) X dX6_run_44 rfl ?_
      refine v_goto (pc := 45) X 49 dX6_run_45 (by decide) ?_
      refine v_istore_n (pc := 49) (loc' := [(2, .int (nI 1)), (1, .int (nI (acc.length + 1))), (0, .ref x)]) X dX6_run_49 rfl (by decide) rfl ?_
      refine v_aload_n (pc := 50) X dX6_run_50 rfl 2 rfl ?_
      refine v_dup (pc := 51) X dX6_run_51 rfl ?_
      refine t_get (pc := 52) X 31 (by decide) q1987 rfl rfl dX6_run_52 ?_
      refine v_top (y := (nI ((readO a.2.2.2.1 p).1.1))) hR22.1 ?_
      refine v_iload_n (pc := 55) X dX6_run_55 rfl 0 rfl ?_
      refine v_if_eqN (pc := 56) X (by omega) 63 dX6_run_56 (by decide) (fun h56 => absurd h56 (by decide)) (fun h56 => ?_)
      refine v_iconst (pc := 59) (v := nI 1) X dX6_run_59 rfl ?_
      refine v_goto (pc := 60) X 64 dX6_run_60 (by decide) ?_
      refine v_iaddN (pc := 64) X dX6_run_64 ?_
      refine t_put (pc := 65) X 31 (by decide) q1987 rfl rfl rfl rfl dX6_run_65 (tf_31 _) ?_
      refine v_goto (pc := 68) X 14 dX6_run_68 (by decide) ?_
      refine v_sub [2, 1, 0] rfl ?_
      rw [show acc.length + 1 = (acc ++ [(readO a.2.2.2.1 p).2]).length by rw [List.length_append]; rfl]
      exact ih14 (acc ++ [(readO a.2.2.2.1 p).2]) _ f1 _ ⟨hC2.num 31 _ (by decide), ⟨rfl, hR22.2.trans ((bI_f hw).trans (bI_f (by simp)).symm)⟩, lt_get h59, by omega, by rw [List.length_append]; show 2 * (acc.length + 1) ≤ _; omega, hWp, by rw [hres, rdL_m hw h59]; simp⟩ (by omega)

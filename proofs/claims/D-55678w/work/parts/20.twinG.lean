theorem hdX6_writes : yX6_writes.cls = RX6 ∧ yX6_writes.cls ≠ "java/lang/invoke/MethodHandle" ∧ yX6_writes.cls ≠ "java/lang/invoke/VarHandle" ∧ (parseMethodDescriptor yX6_writes.desc).map (fun d => d.parameters.length) = some 1 := by decide +kernel
set_option maxHeartbeats 4000000 in
theorem m_writes {l_ : Launch} {D : va_G} {dd : Nat → ClassId} {x : Nat} {ad : Nat → Nat} {σ : Tw} {c : Nat} {t : List Nat} (hT : LnIs σ t) (h80 : t.length < 80) (hc : c < 65536) : TM l_ D dd x ad yX6_writes cX6_writes 2 none 0 0 [.ref x, .int (nI c)] σ (TV (fun σ' => LnIs σ' (t ++ [c]) ∧ Ch [12] [13] σ σ')) := by
  refine MW.intro (by decide) (Nat.le_of_ble_eq_true rfl) (fun p_ e_ s_ m_ as_ bl_ me_ c_ A_ X hr hnm => ?_)
  have X : VX p_ s_ m_ as_ me_ c_ cX6_writes 2 RX6 D dd A_ := X
  refine v_eq (loc' := [(0, .ref x), (1, .int (nI c))]) rfl rfl rfl ?_
  refine v_aload_n (pc := 0) X dX6_writes_0 rfl 0 rfl ?_
  refine t_get (pc := 1) X 12 (by decide) q1968 rfl rfl dX6_writes_1 ?_
  refine v_aload_n (pc := 4) X dX6_writes_4 rfl 0 rfl ?_
  refine t_get (pc := 5) X 13 (by decide) q1969 rfl rfl dX6_writes_5 ?_
  refine v_top (y := (nI t.length)) hT.2 ?_
  refine v_iload_n (pc := 8) X dX6_writes_8 rfl 1 rfl ?_
  refine v_i2c (pc := 9) (v := nI c) X dX6_writes_9 (i2c_n hc) ?_
  refine v_cast (pc := 10) X 6 ta_12 rfl (by omega) (by decide) dX6_writes_10 (tb_12 _) ?_
  refine v_aload_n (pc := 11) X dX6_writes_11 rfl 0 rfl ?_
  refine v_dup (pc := 12) X dX6_writes_12 rfl ?_
  refine t_get (pc := 13) X 13 (by decide) q1969 rfl rfl dX6_writes_13 ?_
  refine v_top (y := (nI t.length)) hT.2 ?_
  refine v_iconst (pc := 16) (v := nI 1) X dX6_writes_16 rfl ?_
  refine v_iaddN (pc := 17) X dX6_writes_17 ?_
  refine t_put (pc := 18) X 13 (by decide) q1969 rfl rfl rfl rfl dX6_writes_18 (tf_13 _) ?_
  exact t_vret (pc := 21) X hr dX6_writes_21 ⟨rfl, ⟨by show TxIs (upd _ _ (vp_nar .char (nI c))) _; rw [nar_c hc]; exact hT.1.push c, by rw [List.length_append]; rfl⟩, ((Ch.rf _ _ _).row 12 _ (by decide) (by decide)).num 13 _ (by decide)⟩
theorem hdX6_writesNumber : yX6_writesNumber.cls = RX6 ∧ yX6_writesNumber.cls ≠ "java/lang/invoke/MethodHandle" ∧ yX6_writesNumber.cls ≠ "java/lang/invoke/VarHandle" ∧ (parseMethodDescriptor yX6_writesNumber.desc).map (fun d => d.parameters.length) = some 1 := by decide +kernel
set_option maxHeartbeats 4000000 in
theorem m_writesNumber {l_ : Launch} {D : va_G} {dd : Nat → ClassId} {x : Nat} {ad : Nat → Nat} {σ : Tw} {v : Nat} {t : List Nat} (hT : LnIs σ t) (h80 : t.length < 78) (hv : v < 100) : TM l_ D dd x ad yX6_writesNumber cX6_writesNumber 2 none 1 21 [.ref x, .int (nI v)] σ (TV (fun σ' => LnIs σ' (t ++ dec2 v) ∧ Ch [12] [13] σ σ')) := by
  refine MW.intro (by decide) (Nat.le_of_ble_eq_true rfl) (fun p_ e_ s_ m_ as_ bl_ me_ c_ A_ X hr hnm => ?_)
  have X : VX p_ s_ m_ as_ me_ c_ cX6_writesNumber 2 RX6 D dd A_ := X
  refine v_eq (loc' := [(0, .ref x), (1, .int (nI v))]) rfl rfl rfl ?_
  refine v_iload_n (pc := 0) X dX6_writesNumber_0 rfl 1 rfl ?_
  refine v_bipush (pc := 1) (v := nI 9) X dX6_writesNumber_1 rfl ?_
  refine v_ic_leN (pc := 3) X (by omega) (by omega) 17 dX6_writesNumber_3 (by decide) (fun h3 => ?_) (fun h3 => ?_)
  · refine v_aload_n (pc := 17) X dX6_writesNumber_17 rfl 0 rfl ?_
    refine v_bipush (pc := 18) (v := nI 48) X dX6_writesNumber_18 rfl ?_
    refine v_iload_n (pc := 20) X dX6_writesNumber_20 rfl 1 rfl ?_
    refine v_bipush (pc := 21) (v := nI 10) X dX6_writesNumber_21 rfl ?_
    refine v_iremN (pc := 23) X (by omega) (by omega) (by omega) dX6_writesNumber_23 ?_
    refine v_iaddN (pc := 24) X dX6_writesNumber_24 ?_
    refine t_callV (pc := 25) X (m_writes hT (by omega) (by omega)) (lw_V q2331 q2333 qs78 q109 q2334) hdX6_writes ⟨Nat.le_of_ble_eq_true rfl, Nat.le_of_ble_eq_true rfl⟩ rfl rfl (Nat.le_of_ble_eq_true rfl) dX6_writesNumber_25 ⟨Nat.le_refl _, Nat.le_refl _⟩ (fun σ25 hp25 => ?_)
    exact t_vret (pc := 28) X hr dX6_writesNumber_28 ⟨rfl, by unfold dec2; rw [if_neg (by omega)]; exact hp25.1, hp25.2⟩
  · refine v_aload_n (pc := 6) X dX6_writesNumber_6 rfl 0 rfl ?_
    refine v_bipush (pc := 7) (v := nI 48) X dX6_writesNumber_7 rfl ?_
    refine v_iload_n (pc := 9) X dX6_writesNumber_9 rfl 1 rfl ?_
    refine v_bipush (pc := 10) (v := nI 10) X dX6_writesNumber_10 rfl ?_
    refine v_idivN (pc := 12) X (by omega) (by omega) (by omega) dX6_writesNumber_12 ?_
    refine v_iaddN (pc := 13) X dX6_writesNumber_13 ?_
    refine t_callV (pc := 14) X (m_writes hT (by omega) (by omega)) (lw_V q2331 q2333 qs78 q109 q2334) hdX6_writes ⟨Nat.le_of_ble_eq_true rfl, Nat.le_of_ble_eq_true rfl⟩ rfl rfl (Nat.le_of_ble_eq_true rfl) dX6_writesNumber_14 ⟨Nat.le_refl _, Nat.le_refl _⟩ (fun σ14 hp14 => ?_)
    refine v_aload_n (pc := 17) X dX6_writesNumber_17 rfl 0 rfl ?_
    refine v_bipush (pc := 18) (v := nI 48) X dX6_writesNumber_18 rfl ?_
    refine v_iload_n (pc := 20) X dX6_writesNumber_20 rfl 1 rfl ?_
    refine v_bipush (pc := 21) (v := nI 10) X dX6_writesNumber_21 rfl ?_
    refine v_iremN (pc := 23) X (by omega) (by omega) (by omega) dX6_writesNumber_23 ?_
    refine v_iaddN (pc := 24) X dX6_writesNumber_24 ?_
    refine t_callV (pc := 25) X (m_writes hp14.1 (by rw [List.length_append]; show _ + 1 < 80; omega) (by omega)) (lw_V q2331 q2333 qs78 q109 q2334) hdX6_writes ⟨Nat.le_of_ble_eq_true rfl, Nat.le_of_ble_eq_true rfl⟩ rfl rfl (Nat.le_of_ble_eq_true rfl) dX6_writesNumber_25 ⟨Nat.le_refl _, Nat.le_refl _⟩ (fun σ25 hp25 => ?_)
    exact t_vret (pc := 28) X hr dX6_writesNumber_28 ⟨rfl, by unfold dec2; rw [if_pos (by omega)]; have := hp25.1; rw [List.append_assoc] at this; exact this, hp14.2.tr hp25.2⟩
theorem hdX6_writesRun : yX6_writesRun.cls = RX6 ∧ yX6_writesRun.cls ≠ "java/lang/invoke/MethodHandle" ∧ yX6_writesRun.cls ≠ "java/lang/invoke/VarHandle" ∧ (parseMethodDescriptor yX6_writesRun.desc).map (fun d => d.parameters.length) = some 3 := by decide +kernel
set_option maxHeartbeats 4000000 in
theorem m_writesRun {l_ : Launch} {D : va_G} {dd : Nat → ClassId} {x : Nat} {ad : Nat → Nat} {σ : Tw} {pm : Int32} {sp : Nat → Nat → Nat} {f l : Nat} (hsp : SpOk sp) (hfl : f ≤ l) (hl8 : l < 8) (hm : (pm = -1 ∧ ∀ a b, f ≤ a → a ≤ b → b ≤ l → σ 17 (8 * a + b) = nI (sp a b)) ∨ (∃ i, pm = nI i ∧ i < 4 ∧ PlanAt (σ 0) i f l sp)) : TM l_ D dd x ad yX6_writesRun cX6_writesRun 8 (some .int) 3 70 [.ref x, .int pm, .int (nI f), .int (nI l)] σ (TI (fun r σ' => r = nI (txt sp f l).length ∧ LnIs σ' (txt sp f l) ∧ Ch [12, 20] [13, 14, 21] σ σ' ∧ σ' 99 14 = 0)) := by
  have htl := txt_len hsp _ f l (Nat.le_refl _)
  refine MW.intro (by decide) (Nat.le_of_ble_eq_true rfl) (fun p_ e_ s_ m_ as_ bl_ me_ c_ A_ X hr hnm => ?_)
  have X : VX p_ s_ m_ as_ me_ c_ cX6_writesRun 8 RX6 D dd A_ := X
  refine v_eq (loc' := [(0, .ref x), (1, .int pm), (2, .int (nI f)), (3, .int (nI l))]) rfl rfl rfl ?_
  refine v_aload_n (pc := 0) X dX6_writesRun_0 rfl 0 rfl ?_
  refine v_iconst (pc := 1) (v := nI 0) X dX6_writesRun_1 rfl ?_
  refine t_put (pc := 2) X 13 (by decide) q1969 rfl rfl rfl rfl dX6_writesRun_2 (tf_13 _) ?_
  refine v_aload_n (pc := 5) X dX6_writesRun_5 rfl 0 rfl ?_
  refine v_iconst (pc := 6) (v := nI 0) X dX6_writesRun_6 rfl ?_
  refine t_put (pc := 7) X 21 (by decide) q1977 rfl rfl rfl rfl dX6_writesRun_7 (tf_21 _) ?_
  refine v_aload_n (pc := 10) X dX6_writesRun_10 rfl 0 rfl ?_
  refine v_iload_n (pc := 11) X dX6_writesRun_11 rfl 2 rfl ?_
  refine v_iload_n (pc := 12) X dX6_writesRun_12 rfl 3 rfl ?_
  refine t_callV (pc := 13) X (m_pushes (t := 0) rfl (by omega)) (lw_V q2223 q2225 qs59 q109 q2226) hdX6_pushes ⟨Nat.le_of_ble_eq_true rfl, Nat.le_of_ble_eq_true rfl⟩ rfl rfl (Nat.le_of_ble_eq_true rfl) dX6_writesRun_13 ⟨Nat.le_refl _, Nat.le_refl _⟩ (fun σ13 hp13 => ?_)
  subst hp13
  refine v_loop3 (S := List Nat) (T := List Nat) (Z := Tw) (fun S t τ => tw x ad dd τ) (fun S t τ => [(0, .ref x), (1, .int pm), (2, .int (nI f)), (3, .int (nI l))]) (fun S t τ => WrI σ sp f l S t τ) (fun S t τ => muT S) (fun S t τ hI16 ih16 => ?_) ([8 * f + l]) ([]) _ (wr_init hsp hfl hl8)
  obtain ⟨hC, hL, hK, hT, hR, hM, hO⟩ := id hI16
  have hSl := muT_len S
  have hRl := congrArg List.length hR
  rw [List.length_append] at hRl
  refine v_aload_n (pc := 16) X dX6_writesRun_16 rfl 0 rfl ?_
  refine t_get (pc := 17) X 21 (by decide) q1977 rfl rfl dX6_writesRun_17 ?_
  refine v_top (y := (nI S.length)) hT ?_
  refine v_if_leN (pc := 20) X (by omega) 173 dX6_writesRun_20 (by decide) (fun h20 => ?_) (fun h20 => ?_)
  · refine v_aload_n (pc := 173) X dX6_writesRun_173 rfl 0 rfl ?_
    refine v_aload_n (pc := 174) X dX6_writesRun_174 rfl 0 rfl ?_
    refine t_get (pc := 175) X 13 (by decide) q1969 rfl rfl dX6_writesRun_175 ?_
    refine t_callI (pc := 178) X m_done (lw_V q2094 q2096 qs41 q109 q2097) hdX6_done ⟨Nat.le_of_ble_eq_true rfl, Nat.le_of_ble_eq_true rfl⟩ rfl rfl (Nat.le_of_ble_eq_true rfl) dX6_writesRun_178 ⟨Nat.le_refl _, Nat.le_refl _⟩ (fun r178 σ178 hp178 => ?_)
    obtain ⟨rfl, rfl⟩ := hp178
    exact t_iret (pc := 181) X hr dX6_writesRun_181 ⟨_, rfl, wr_end hI16 h20⟩
  · obtain ⟨S1, q, rfl⟩ : ∃ S1 q, S = S1 ++ [q] := ⟨S.dropLast, S.getLast (by rintro rfl; exact h20 rfl), (List.dropLast_concat_getLast _).symm⟩
    obtain ⟨hK1, hKt⟩ := hK.pop
    have hq1 := hO q (by simp)
    have hSl1 : (S1 ++ [q]).length = S1.length + 1 := by simp
    have hqb : q ≤ 99 := by by_cases e : q = 99; omega; have := (hq1 e).1; omega
    have hrem := remT_push sp S1 q
    refine v_aload_n (pc := 23) X dX6_writesRun_23 rfl 0 rfl ?_
    refine v_dup (pc := 24) X dX6_writesRun_24 rfl ?_
    refine t_get (pc := 25) X 21 (by decide) q1977 rfl rfl dX6_writesRun_25 ?_
    refine v_top (y := (nI (S1.length + 1))) (hT.trans (by rw [hSl1])) ?_
    refine v_iconst (pc := 28) (v := nI 1) X dX6_writesRun_28 rfl ?_
    refine v_isubN (pc := 29) X (by omega) dX6_writesRun_29 ?_
    refine t_put (pc := 30) X 21 (by decide) q1977 rfl rfl rfl rfl dX6_writesRun_30 (tf_21 _) ?_
    refine v_aload_n (pc := 33) X dX6_writesRun_33 rfl 0 rfl ?_
    refine t_get (pc := 34) X 20 (by decide) q1976 rfl rfl dX6_writesRun_34 ?_
    refine v_aload_n (pc := 37) X dX6_writesRun_37 rfl 0 rfl ?_
    refine t_get (pc := 38) X 21 (by decide) q1977 rfl rfl dX6_writesRun_38 ?_
    refine v_top (y := (nI ((S1.length + 1) - 1))) rfl ?_
    refine v_iald (pc := 41) X 12 ta_20 rfl (by omega) (by decide) dX6_writesRun_41 ?_
    refine v_top (y := (nI q)) (by rw [Nat.add_sub_cancel]; exact hKt) ?_
    refine v_istore (pc := 42) (loc' := [(4, .int (nI q)), (0, .ref x), (1, .int pm), (2, .int (nI f)), (3, .int (nI l))]) X dX6_writesRun_42 (by decide) rfl ?_
    refine v_iload (pc := 44) X dX6_writesRun_44 0 rfl ?_
    refine v_bipush (pc := 46) (v := nI 8) X dX6_writesRun_46 rfl ?_
    refine v_idivN (pc := 48) X (by omega) (by omega) (by omega) dX6_writesRun_48 ?_
    refine v_istore (pc := 49) (loc' := [(5, .int (nI (q / 8))), (4, .int (nI q)), (0, .ref x), (1, .int pm), (2, .int (nI f)), (3, .int (nI l))]) X dX6_writesRun_49 (by decide) rfl ?_
    refine v_iload (pc := 51) X dX6_writesRun_51 1 rfl ?_
    refine v_bipush (pc := 53) (v := nI 8) X dX6_writesRun_53 rfl ?_
    refine v_iremN (pc := 55) X (by omega) (by omega) (by omega) dX6_writesRun_55 ?_
    refine v_istore (pc := 56) (loc' := [(6, .int (nI (q % 8))), (5, .int (nI (q / 8))), (4, .int (nI q)), (0, .ref x), (1, .int pm), (2, .int (nI f)), (3, .int (nI l))]) X dX6_writesRun_56 (by decide) rfl ?_
    refine v_iload (pc := 58) X dX6_writesRun_58 2 rfl ?_
    refine v_bipush (pc := 60) (v := nI 99) X dX6_writesRun_60 rfl ?_
    refine v_ic_neN (pc := 62) X (by omega) (by omega) 74 dX6_writesRun_62 (by decide) (fun h62 => ?_) (fun h62 => ?_)
    · obtain ⟨hq64, hqf, hqab, hql, hqy⟩ := hq1 h62
      refine v_iload (pc := 74) X dX6_writesRun_74 1 rfl ?_
      refine v_iload (pc := 76) X dX6_writesRun_76 0 rfl ?_
      refine v_ic_neN (pc := 78) X (by omega) (by omega) 93 dX6_writesRun_78 (by decide) (fun h78 => ?_) (fun h78 => ?_)
      · have hqlt : q / 8 < q % 8 := by omega
        obtain ⟨y, hy, hy1, hy2⟩ := hqy hqlt
        have hym := pl_mem hsp hy
        have hsq := hsp _ _ hqlt
        have hysp : y.2.2 = sp (q / 8) (q % 8) := by have := hym.2.2.2.2; rw [hy1, hy2] at this; exact this
        rw [rem_kids hsp hq64 hqlt] at hRl
        refine v_iload_n (pc := 93) X dX6_writesRun_93 rfl 4 rfl ?_
        refine v_iconst (pc := 94) (v := -1) X dX6_writesRun_94 rfl ?_
        refine v_ic_ne (pc := 95) X 108 dX6_writesRun_95 (by decide) (fun h95 => ?_) (fun h95 => ?_)
        · obtain ⟨i, rfl, hi, hPl⟩ := hm.resolve_left (fun z => h95 z.1)
          have hg0 : τ 0 = σ 0 := hC.1 0 (by decide) (by decide)
          have hPlt : PlanAt (τ 0) i f l sp := by rw [hg0]; exact hPl
          obtain ⟨j, hjj⟩ := plan_ix (pl sp f l) hy hy1 hy2
          have hj2 := idxL_lt hjj
          rw [pl_length hsp] at hjj hj2
          obtain ⟨e, hke⟩ := get_lt (L := pl sp f l) (k := j) (by rw [pl_length hsp]; exact hj2.1)
          have hgd := getD_of hke
          rw [hgd] at hj2
          have hesp : e.2.2 = sp (q / 8) (q % 8) := by have := (pl_mem hsp (List.mem_of_getElem? hke)).2.2.2.2; rw [hj2.2.1, hj2.2.2] at this; exact this
          refine v_aload_n (pc := 108) X dX6_writesRun_108 rfl 3 rfl ?_
          refine v_iload_n (pc := 109) X dX6_writesRun_109 rfl 4 rfl ?_
          refine v_aload_n (pc := 110) X dX6_writesRun_110 rfl 3 rfl ?_
          refine v_iload_n (pc := 111) X dX6_writesRun_111 rfl 4 rfl ?_
          refine v_iload (pc := 112) X dX6_writesRun_112 1 rfl ?_
          refine v_iload (pc := 114) X dX6_writesRun_114 0 rfl ?_
          refine t_callI (pc := 116) X (m_pouringOf (by omega) (by omega) hi hPlt) (lw_V q2303 q2305 qs75 q109 q2306) hdX6_pouringOf ⟨Nat.le_of_ble_eq_true rfl, Nat.le_of_ble_eq_true rfl⟩ rfl rfl (Nat.le_of_ble_eq_true rfl) dX6_writesRun_116 ⟨Nat.le_refl _, Nat.le_refl _⟩ (fun r116 σ116 hp116 => ?_)
          obtain ⟨rfl, rfl⟩ := hp116
          refine v_top (y := nI j) (by rw [hjj]; rfl) ?_
          refine v_iconst (pc := 119) (v := nI 2) X dX6_writesRun_119 rfl ?_
          refine t_callI (pc := 120) X (m_ofPouring (by omega) (by omega)) (lw_V q2263 q2265 qs67 q109 q2266) hdX6_ofPouring ⟨Nat.le_of_ble_eq_true rfl, Nat.le_of_ble_eq_true rfl⟩ rfl rfl (Nat.le_of_ble_eq_true rfl) dX6_writesRun_120 ⟨Nat.le_refl _, Nat.le_refl _⟩ (fun r120 σ120 hp120 => ?_)
          obtain ⟨rfl, rfl⟩ := hp120
          refine v_top (y := (nI (sp (q / 8) (q % 8)))) ((hPlt.2.2.2.2.2 j e hke).2.2.trans (by rw [hesp])) ?_
          refine v_istore (pc := 123) (loc' := [(7, .int (nI (sp (q / 8) (q % 8)))), (6, .int (nI (q % 8))), (5, .int (nI (q / 8))), (4, .int (nI q)), (0, .ref x), (1, .int (nI i)), (2, .int (nI f)), (3, .int (nI l))]) X dX6_writesRun_123 (by decide) rfl ?_
          refine v_aload_n (pc := 125) X dX6_writesRun_125 rfl 4 rfl ?_
          refine v_bipush (pc := 126) (v := nI 40) X dX6_writesRun_126 rfl ?_
          refine t_callV (pc := 128) X (m_writes (t := t) hL (by simp at hRl; omega) (by omega)) (lw_V q2331 q2333 qs78 q109 q2334) hdX6_writes ⟨Nat.le_of_ble_eq_true rfl, Nat.le_of_ble_eq_true rfl⟩ rfl rfl (Nat.le_of_ble_eq_true rfl) dX6_writesRun_128 ⟨Nat.le_refl _, Nat.le_refl _⟩ (fun σ128 hp128 => ?_)
          refine v_aload_n (pc := 131) X dX6_writesRun_131 rfl 4 rfl ?_
          refine t_get (pc := 132) X 20 (by decide) q1976 rfl rfl dX6_writesRun_132 ?_
          refine v_aload_n (pc := 135) X dX6_writesRun_135 rfl 4 rfl ?_
          refine t_get (pc := 136) X 21 (by decide) q1977 rfl rfl dX6_writesRun_136 ?_
          refine v_top (y := (nI (S1.length + 1 - 1))) (hp128.2.2 21 (by decide)) ?_
          refine v_bipush (pc := 139) (v := nI 99) X dX6_writesRun_139 rfl ?_
          refine v_iast (pc := 141) X 12 ta_20 rfl (by omega) (by decide) dX6_writesRun_141 (tb_20 _) ?_
          refine v_aload_n (pc := 142) X dX6_writesRun_142 rfl 4 rfl ?_
          refine v_dup (pc := 143) X dX6_writesRun_143 rfl ?_
          refine t_get (pc := 144) X 21 (by decide) q1977 rfl rfl dX6_writesRun_144 ?_
          refine v_top (y := (nI (S1.length + 1 - 1))) (hp128.2.2 21 (by decide)) ?_
          refine v_iconst (pc := 147) (v := nI 1) X dX6_writesRun_147 rfl ?_
          refine v_iaddN (pc := 148) X dX6_writesRun_148 ?_
          refine t_put (pc := 149) X 21 (by decide) q1977 rfl rfl rfl rfl dX6_writesRun_149 (tf_21 _) ?_
          refine v_aload_n (pc := 152) X dX6_writesRun_152 rfl 4 rfl ?_
          refine v_iload (pc := 153) X dX6_writesRun_153 0 rfl ?_
          refine v_iconst (pc := 155) (v := nI 1) X dX6_writesRun_155 rfl ?_
          refine v_iaddN (pc := 156) X dX6_writesRun_156 ?_
          refine v_iload (pc := 157) X dX6_writesRun_157 1 rfl ?_
          refine t_callV (pc := 159) X (m_pushes (t := S1.length + 1) rfl (by omega)) (lw_V q2223 q2225 qs59 q109 q2226) hdX6_pushes ⟨Nat.le_of_ble_eq_true rfl, Nat.le_of_ble_eq_true rfl⟩ rfl rfl (Nat.le_of_ble_eq_true rfl) dX6_writesRun_159 ⟨Nat.le_refl _, Nat.le_refl _⟩ (fun σ159 hp159 => ?_)
          subst hp159
          refine v_aload_n (pc := 162) X dX6_writesRun_162 rfl 4 rfl ?_
          refine v_iload (pc := 163) X dX6_writesRun_163 2 rfl ?_
          refine v_iload (pc := 165) X dX6_writesRun_165 0 rfl ?_
          refine t_callV (pc := 167) X (m_pushes (t := S1.length + 2) rfl (by omega)) (lw_V q2223 q2225 qs59 q109 q2226) hdX6_pushes ⟨Nat.le_of_ble_eq_true rfl, Nat.le_of_ble_eq_true rfl⟩ rfl rfl (Nat.le_of_ble_eq_true rfl) dX6_writesRun_167 ⟨Nat.le_refl _, Nat.le_refl _⟩ (fun σ167 hp167 => ?_)
          subst hp167
          refine v_goto (pc := 170) X 16 dX6_writesRun_170 (by decide) ?_
          refine v_sub [4, 5, 6, 7] rfl ?_
          exact ih16 _ _ _ (wr_node hsp hl8 hI16 h62 h78 hp128) (by have := mu_kids hsp (S := S1) hq64 hqlt; omega)
        · have h17 : τ 17 q = nI (sp (q / 8) (q % 8)) := by obtain ⟨-, hm17⟩ := hm.resolve_right (fun z => by obtain ⟨i, hi, hi4, -⟩ := z; exact absurd h95 (hi ▸ nI_nm1 (by omega))); have := hm17 (q / 8) (q % 8) hqf hqab hql; rw [show 8 * (q / 8) + q % 8 = q by omega] at this; exact (congrFun (hC.1 17 (by decide) (by decide)) q).trans this
          refine v_aload_n (pc := 98) X dX6_writesRun_98 rfl 3 rfl ?_
          refine t_get (pc := 99) X 17 (by decide) q1973 rfl rfl dX6_writesRun_99 ?_
          refine v_iload (pc := 102) X dX6_writesRun_102 2 rfl ?_
          refine v_iald (pc := 104) X 9 ta_17 rfl (by omega) (by decide) dX6_writesRun_104 ?_
          refine v_top (y := (nI (sp (q / 8) (q % 8)))) h17 ?_
          refine v_goto (pc := 105) X 123 dX6_writesRun_105 (by decide) ?_
          refine v_istore (pc := 123) (loc' := [(7, .int (nI (sp (q / 8) (q % 8)))), (6, .int (nI (q % 8))), (5, .int (nI (q / 8))), (4, .int (nI q)), (0, .ref x), (1, .int pm), (2, .int (nI f)), (3, .int (nI l))]) X dX6_writesRun_123 (by decide) rfl ?_
          refine v_aload_n (pc := 125) X dX6_writesRun_125 rfl 4 rfl ?_
          refine v_bipush (pc := 126) (v := nI 40) X dX6_writesRun_126 rfl ?_
          refine t_callV (pc := 128) X (m_writes (t := t) hL (by simp at hRl; omega) (by omega)) (lw_V q2331 q2333 qs78 q109 q2334) hdX6_writes ⟨Nat.le_of_ble_eq_true rfl, Nat.le_of_ble_eq_true rfl⟩ rfl rfl (Nat.le_of_ble_eq_true rfl) dX6_writesRun_128 ⟨Nat.le_refl _, Nat.le_refl _⟩ (fun σ128 hp128 => ?_)
          refine v_aload_n (pc := 131) X dX6_writesRun_131 rfl 4 rfl ?_
          refine t_get (pc := 132) X 20 (by decide) q1976 rfl rfl dX6_writesRun_132 ?_
          refine v_aload_n (pc := 135) X dX6_writesRun_135 rfl 4 rfl ?_
          refine t_get (pc := 136) X 21 (by decide) q1977 rfl rfl dX6_writesRun_136 ?_
          refine v_top (y := (nI (S1.length + 1 - 1))) (hp128.2.2 21 (by decide)) ?_
          refine v_bipush (pc := 139) (v := nI 99) X dX6_writesRun_139 rfl ?_
          refine v_iast (pc := 141) X 12 ta_20 rfl (by omega) (by decide) dX6_writesRun_141 (tb_20 _) ?_
          refine v_aload_n (pc := 142) X dX6_writesRun_142 rfl 4 rfl ?_
          refine v_dup (pc := 143) X dX6_writesRun_143 rfl ?_
          refine t_get (pc := 144) X 21 (by decide) q1977 rfl rfl dX6_writesRun_144 ?_
          refine v_top (y := (nI (S1.length + 1 - 1))) (hp128.2.2 21 (by decide)) ?_
          refine v_iconst (pc := 147) (v := nI 1) X dX6_writesRun_147 rfl ?_
          refine v_iaddN (pc := 148) X dX6_writesRun_148 ?_
          refine t_put (pc := 149) X 21 (by decide) q1977 rfl rfl rfl rfl dX6_writesRun_149 (tf_21 _) ?_
          refine v_aload_n (pc := 152) X dX6_writesRun_152 rfl 4 rfl ?_
          refine v_iload (pc := 153) X dX6_writesRun_153 0 rfl ?_
          refine v_iconst (pc := 155) (v := nI 1) X dX6_writesRun_155 rfl ?_
          refine v_iaddN (pc := 156) X dX6_writesRun_156 ?_
          refine v_iload (pc := 157) X dX6_writesRun_157 1 rfl ?_
          refine t_callV (pc := 159) X (m_pushes (t := S1.length + 1) rfl (by omega)) (lw_V q2223 q2225 qs59 q109 q2226) hdX6_pushes ⟨Nat.le_of_ble_eq_true rfl, Nat.le_of_ble_eq_true rfl⟩ rfl rfl (Nat.le_of_ble_eq_true rfl) dX6_writesRun_159 ⟨Nat.le_refl _, Nat.le_refl _⟩ (fun σ159 hp159 => ?_)
          subst hp159
          refine v_aload_n (pc := 162) X dX6_writesRun_162 rfl 4 rfl ?_
          refine v_iload (pc := 163) X dX6_writesRun_163 2 rfl ?_
          refine v_iload (pc := 165) X dX6_writesRun_165 0 rfl ?_
          refine t_callV (pc := 167) X (m_pushes (t := S1.length + 2) rfl (by omega)) (lw_V q2223 q2225 qs59 q109 q2226) hdX6_pushes ⟨Nat.le_of_ble_eq_true rfl, Nat.le_of_ble_eq_true rfl⟩ rfl rfl (Nat.le_of_ble_eq_true rfl) dX6_writesRun_167 ⟨Nat.le_refl _, Nat.le_refl _⟩ (fun σ167 hp167 => ?_)
          subst hp167
          refine v_goto (pc := 170) X 16 dX6_writesRun_170 (by decide) ?_
          refine v_sub [4, 5, 6, 7] rfl ?_
          exact ih16 _ _ _ (wr_node hsp hl8 hI16 h62 h78 hp128) (by have := mu_kids hsp (S := S1) hq64 hqlt; omega)
      · clear hqy
        rw [hrem, it_run h62, txt_1 (by omega)] at hRl
        refine v_aload_n (pc := 81) X dX6_writesRun_81 rfl 3 rfl ?_
        refine v_bipush (pc := 82) (v := nI 48) X dX6_writesRun_82 rfl ?_
        refine v_iload (pc := 84) X dX6_writesRun_84 1 rfl ?_
        refine v_iaddN (pc := 86) X dX6_writesRun_86 ?_
        refine t_callV (pc := 87) X (m_writes (t := t) hL (by clear hm; simp at hRl; omega) (by omega)) (lw_V q2331 q2333 qs78 q109 q2334) hdX6_writes ⟨Nat.le_of_ble_eq_true rfl, Nat.le_of_ble_eq_true rfl⟩ rfl rfl (Nat.le_of_ble_eq_true rfl) dX6_writesRun_87 ⟨Nat.le_refl _, Nat.le_refl _⟩ (fun σ87 hp87 => ?_)
        refine v_goto (pc := 90) X 170 dX6_writesRun_90 (by decide) ?_
        refine v_goto (pc := 170) X 16 dX6_writesRun_170 (by decide) ?_
        refine v_sub [3, 4, 5, 6] rfl ?_
        exact ih16 _ _ _ (wr_leaf hI16 h62 h78 hp87) (by rw [muT_app, muT_1]; unfold muI; split <;> omega)
    · rw [hrem, h62, it_99] at hRl
      refine v_aload_n (pc := 65) X dX6_writesRun_65 rfl 3 rfl ?_
      refine v_bipush (pc := 66) (v := nI 41) X dX6_writesRun_66 rfl ?_
      refine t_callV (pc := 68) X (m_writes (t := t) hL (by omega) (by omega)) (lw_V q2331 q2333 qs78 q109 q2334) hdX6_writes ⟨Nat.le_of_ble_eq_true rfl, Nat.le_of_ble_eq_true rfl⟩ rfl rfl (Nat.le_of_ble_eq_true rfl) dX6_writesRun_68 ⟨Nat.le_refl _, Nat.le_refl _⟩ (fun σ68 hp68 => ?_)
      refine v_goto (pc := 71) X 170 dX6_writesRun_71 (by decide) ?_
      refine v_goto (pc := 170) X 16 dX6_writesRun_170 (by decide) ?_
      refine v_sub [3, 4, 5, 6] rfl ?_
      exact ih16 _ _ _ (wr_99 hI16 h62 hp68) (by rw [muT_app, muT_1]; unfold muI; split <;> omega)

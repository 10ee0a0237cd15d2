theorem hdX6_looksAt : yX6_looksAt.cls = RX6 ∧ yX6_looksAt.cls ≠ "java/lang/invoke/MethodHandle" ∧ yX6_looksAt.cls ≠ "java/lang/invoke/VarHandle" ∧ (parseMethodDescriptor yX6_looksAt.desc).map (fun d => d.parameters.length) = some 2 := by decide +kernel
set_option maxHeartbeats 4000000 in
theorem m_looksAt {l_ : Launch} {D : va_G} {dd : Nat → ClassId} {x : Nat} {ad : Nat → Nat} {σ : Tw} {sd : Nat → Nat} {f l : Nat} (hsd : SdOf (σ 0) sd) (h89 : ∀ f s l, prN sd f s l ≤ 125000) (hf : f ≤ l) (hl : l < 8) (hsub : ∀ f2 l2, f ≤ f2 → f2 ≤ l2 → l2 ≤ l → f2 ≠ f ∨ l2 ≠ l → At5 σ (8 * f2 + l2) (Dv sd f2 l2)) : TM l_ D dd x ad yX6_looksAt cX6_looksAt 11 none 1 23 [.ref x, .int (nI f), .int (nI l)] σ (TV (fun σ' => set5 σ (8 * f + l) (Dv sd f l) = σ')) := by
  refine MW.intro (by decide) (Nat.le_of_ble_eq_true rfl) (fun p_ e_ s_ m_ as_ bl_ me_ c_ A_ X hr hnm => ?_)
  have X : VX p_ s_ m_ as_ me_ c_ cX6_looksAt 11 RX6 D dd A_ := X
  refine v_eq (loc' := [(0, .ref x), (1, .int (nI f)), (2, .int (nI l))]) rfl rfl rfl ?_
  refine v_bipush (pc := 0) (v := nI 8) X dX6_looksAt_0 rfl ?_
  refine v_iload_n (pc := 2) X dX6_looksAt_2 rfl 1 rfl ?_
  refine v_imulN (pc := 3) X dX6_looksAt_3 ?_
  refine v_iload_n (pc := 4) X dX6_looksAt_4 rfl 2 rfl ?_
  refine v_iaddN (pc := 5) X dX6_looksAt_5 ?_
  refine v_istore_n (pc := 6) (loc' := [(3, .int (nI ((8 * f) + l))), (0, .ref x), (1, .int (nI f)), (2, .int (nI l))]) X dX6_looksAt_6 rfl (by decide) rfl ?_
  refine v_aload_n (pc := 7) X dX6_looksAt_7 rfl 1 rfl ?_
  refine t_get (pc := 8) X 15 (by decide) q1971 rfl rfl dX6_looksAt_8 ?_
  refine v_iload_n (pc := 11) X dX6_looksAt_11 rfl 0 rfl ?_
  refine v_iconst (pc := 12) (v := nI 0) X dX6_looksAt_12 rfl ?_
  refine v_iast (pc := 13) X 7 ta_15 rfl (by omega) (by decide) dX6_looksAt_13 (tb_15 _) ?_
  refine v_aload_n (pc := 14) X dX6_looksAt_14 rfl 1 rfl ?_
  refine t_get (pc := 15) X 16 (by decide) q1972 rfl rfl dX6_looksAt_15 ?_
  refine v_iload_n (pc := 18) X dX6_looksAt_18 rfl 0 rfl ?_
  refine v_iconst (pc := 19) (v := nI 0) X dX6_looksAt_19 rfl ?_
  refine v_iast (pc := 20) X 8 ta_16 rfl (by omega) (by decide) dX6_looksAt_20 (tb_16 _) ?_
  refine v_aload_n (pc := 21) X dX6_looksAt_21 rfl 1 rfl ?_
  refine t_get (pc := 22) X 17 (by decide) q1973 rfl rfl dX6_looksAt_22 ?_
  refine v_iload_n (pc := 25) X dX6_looksAt_25 rfl 0 rfl ?_
  refine v_iload_n (pc := 26) X dX6_looksAt_26 rfl 2 rfl ?_
  refine v_iast (pc := 27) X 9 ta_17 rfl (by omega) (by decide) dX6_looksAt_27 (tb_17 _) ?_
  refine v_aload_n (pc := 28) X dX6_looksAt_28 rfl 1 rfl ?_
  refine t_get (pc := 29) X 18 (by decide) q1974 rfl rfl dX6_looksAt_29 ?_
  refine v_iload_n (pc := 32) X dX6_looksAt_32 rfl 0 rfl ?_
  refine v_iload_n (pc := 33) X dX6_looksAt_33 rfl 2 rfl ?_
  refine v_iload_n (pc := 34) X dX6_looksAt_34 rfl 3 rfl ?_
  refine v_join (z := .int (nI (if f = l then 1 else 0))) (pj := 43) (rs := [.int (nI ((8 * f) + l)), .ref (ad 18)]) ?_ (fun J43 => ?_)
  · refine v_iast (pc := 43) X 10 ta_18 rfl (by omega) (by decide) dX6_looksAt_43 (tb_18 _) ?_
    refine v_aload_n (pc := 44) X dX6_looksAt_44 rfl 1 rfl ?_
    refine t_get (pc := 45) X 19 (by decide) q1975 rfl rfl dX6_looksAt_45 ?_
    refine v_iload_n (pc := 48) X dX6_looksAt_48 rfl 0 rfl ?_
    refine v_aload_n (pc := 49) X dX6_looksAt_49 rfl 1 rfl ?_
    refine t_get (pc := 50) X 18 (by decide) q1974 rfl rfl dX6_looksAt_50 ?_
    refine v_iload_n (pc := 53) X dX6_looksAt_53 rfl 0 rfl ?_
    refine v_iald (pc := 54) X 10 ta_18 rfl (by omega) (by decide) dX6_looksAt_54 ?_
    refine v_top (y := (nI (if f = l then 1 else 0))) rd_s ?_
    refine v_iast (pc := 55) X 11 ta_19 rfl (by omega) (by decide) dX6_looksAt_55 (tb_19 _) ?_
    refine v_iload_n (pc := 56) X dX6_looksAt_56 rfl 2 rfl ?_
    refine v_istore (pc := 57) (loc' := [(4, .int (nI f)), (3, .int (nI ((8 * f) + l))), (0, .ref x), (1, .int (nI f)), (2, .int (nI l))]) X dX6_looksAt_57 (by decide) rfl ?_
    refine v_sub [2, 3, 4, 1, 0] rfl ?_
    refine v_loop2 (S := Nat) (T := Tw) (fun i τ => tw x ad dd τ) (fun i τ => [(0, .ref x), (1, .int (nI f)), (2, .int (nI l)), (3, .int (nI (8 * f + l))), (4, .int (nI (f + i)))]) (fun i τ => f + i ≤ l ∧ τ = set5 σ (8 * f + l) (dpFold (Dv sd) (fun s => prN sd f s l) f l i)) (fun i τ => l - i) (fun i τ hI59 ih59 => ?_) 0 _ ⟨by omega, s5_init σ (8 * f + l) (0, 0, f, if f = l then 1 else 0, if f = l then 1 else 0)⟩
    obtain ⟨hk, rfl⟩ := hI59
    refine v_iload (pc := 59) X dX6_looksAt_59 4 rfl ?_
    refine v_iload_n (pc := 61) X dX6_looksAt_61 rfl 2 rfl ?_
    refine v_ic_geN (pc := 62) X (by omega) (by omega) 331 dX6_looksAt_62 (by decide) (fun h62 => ?_) (fun h62 => ?_)
    · exact t_vret (pc := 331) X hr dX6_looksAt_331 ⟨rfl, by rw [Dv_eq sd hf, show l - f = i by omega]⟩
    · generalize hv : dpFold (Dv sd) (fun s => prN sd f s l) f l i = v
      have ha := at5_n (k := 8 * f + l) (v := v) (show 8 * f + (f + i) ≠ 8 * f + l by omega) (hsub f (f + i) (Nat.le_refl _) (by omega) (by omega) (Or.inr (by omega)))
      have hc := at5_n (k := 8 * f + l) (v := v) (show 8 * (f + i + 1) + l ≠ 8 * f + l by omega) (hsub (f + i + 1) l (by omega) (by omega) (Nat.le_refl _) (Or.inl (by omega)))
      have hr5 := at5_s σ (8 * f + l) v
      have hbv : v.1 < 2 ^ 31 ∧ v.2.1 < 2 ^ 31 := by subst hv; exact fold_bd h89 hf hl i hk
      have hba := Dv_ok h89 (show f ≤ f + i by omega)
      have hbc := Dv_ok h89 (show f + i + 1 ≤ l by omega)
      have hbp := h89 f (f + i) l
      have hx1 : 125000 * (f + i - f) ≤ 875000 := by omega
      have hx2 : 125000 * (l - (f + i + 1)) ≤ 875000 := by omega
      refine v_bipush (pc := 65) (v := nI 8) X dX6_looksAt_65 rfl ?_
      refine v_iload_n (pc := 67) X dX6_looksAt_67 rfl 1 rfl ?_
      refine v_imulN (pc := 68) X dX6_looksAt_68 ?_
      refine v_iload (pc := 69) X dX6_looksAt_69 4 rfl ?_
      refine v_iaddN (pc := 71) X dX6_looksAt_71 ?_
      refine v_istore (pc := 72) (loc' := [(5, .int (nI ((8 * f) + (f + i)))), (0, .ref x), (1, .int (nI f)), (2, .int (nI l)), (3, .int (nI (8 * f + l))), (4, .int (nI (f + i)))]) X dX6_looksAt_72 (by decide) rfl ?_
      refine v_bipush (pc := 74) (v := nI 8) X dX6_looksAt_74 rfl ?_
      refine v_iload (pc := 76) X dX6_looksAt_76 5 rfl ?_
      refine v_iconst (pc := 78) (v := nI 1) X dX6_looksAt_78 rfl ?_
      refine v_iaddN (pc := 79) X dX6_looksAt_79 ?_
      refine v_imulN (pc := 80) X dX6_looksAt_80 ?_
      refine v_iload_n (pc := 81) X dX6_looksAt_81 rfl 3 rfl ?_
      refine v_iaddN (pc := 82) X dX6_looksAt_82 ?_
      refine v_istore (pc := 83) (loc' := [(6, .int (nI ((8 * ((f + i) + 1)) + l))), (5, .int (nI ((8 * f) + (f + i)))), (0, .ref x), (1, .int (nI f)), (2, .int (nI l)), (3, .int (nI (8 * f + l))), (4, .int (nI (f + i)))]) X dX6_looksAt_83 (by decide) rfl ?_
      refine v_aload_n (pc := 85) X dX6_looksAt_85 rfl 2 rfl ?_
      refine t_get (pc := 86) X 15 (by decide) q1971 rfl rfl dX6_looksAt_86 ?_
      refine v_iload (pc := 89) X dX6_looksAt_89 1 rfl ?_
      refine v_iald (pc := 91) X 7 ta_15 rfl (by omega) (by decide) dX6_looksAt_91 ?_
      refine v_top (y := (nI ((Dv sd f (f + i)).1))) ha.1 ?_
      refine v_aload_n (pc := 92) X dX6_looksAt_92 rfl 2 rfl ?_
      refine t_get (pc := 93) X 15 (by decide) q1971 rfl rfl dX6_looksAt_93 ?_
      refine v_iload (pc := 96) X dX6_looksAt_96 0 rfl ?_
      refine v_iald (pc := 98) X 7 ta_15 rfl (by omega) (by decide) dX6_looksAt_98 ?_
      refine v_top (y := (nI ((Dv sd (f + i + 1) l).1))) hc.1 ?_
      refine v_iaddN (pc := 99) X dX6_looksAt_99 ?_
      refine v_aload_n (pc := 100) X dX6_looksAt_100 rfl 2 rfl ?_
      refine v_iload_n (pc := 101) X dX6_looksAt_101 rfl 3 rfl ?_
      refine v_iload (pc := 102) X dX6_looksAt_102 6 rfl ?_
      refine v_iload_n (pc := 104) X dX6_looksAt_104 rfl 4 rfl ?_
      refine t_callI (pc := 105) X (m_pour (by omega) (by omega) (by omega)) (lw_V q2171 q2173 qs53 q109 q2174) hdX6_pour ⟨Nat.le_of_ble_eq_true rfl, Nat.le_of_ble_eq_true rfl⟩ rfl rfl (Nat.le_of_ble_eq_true rfl) dX6_looksAt_105 ⟨Nat.le_refl _, Nat.le_refl _⟩ (fun r105 σ105 hp105 => ?_)
      obtain ⟨rfl, rfl⟩ := hp105
      refine v_top (y := (nI (prN sd f (f + i) l))) (pour_nI hsd (by omega) (by omega) (by omega)) ?_
      refine v_iaddN (pc := 108) X dX6_looksAt_108 ?_
      refine v_nmN (fun cs hcs => ?_)
      refine v_istore (pc := 109) (loc' := [(7, .int (nI cs)), (6, .int (nI ((8 * ((f + i) + 1)) + l))), (5, .int (nI ((8 * f) + (f + i)))), (0, .ref x), (1, .int (nI f)), (2, .int (nI l)), (3, .int (nI (8 * f + l))), (4, .int (nI (f + i)))]) X dX6_looksAt_109 (by decide) rfl ?_
      refine v_aload_n (pc := 111) X dX6_looksAt_111 rfl 3 rfl ?_
      refine t_get (pc := 112) X 16 (by decide) q1972 rfl rfl dX6_looksAt_112 ?_
      refine v_iload (pc := 115) X dX6_looksAt_115 2 rfl ?_
      refine v_iald (pc := 117) X 8 ta_16 rfl (by omega) (by decide) dX6_looksAt_117 ?_
      refine v_top (y := (nI ((Dv sd f (f + i)).2.1))) ha.2.1 ?_
      refine v_aload_n (pc := 118) X dX6_looksAt_118 rfl 3 rfl ?_
      refine t_get (pc := 119) X 16 (by decide) q1972 rfl rfl dX6_looksAt_119 ?_
      refine v_iload (pc := 122) X dX6_looksAt_122 1 rfl ?_
      refine v_iald (pc := 124) X 8 ta_16 rfl (by omega) (by decide) dX6_looksAt_124 ?_
      refine v_top (y := (nI ((Dv sd (f + i + 1) l).2.1))) hc.2.1 ?_
      refine v_iaddN (pc := 125) X dX6_looksAt_125 ?_
      refine v_aload_n (pc := 126) X dX6_looksAt_126 rfl 3 rfl ?_
      refine v_iload_n (pc := 127) X dX6_looksAt_127 rfl 4 rfl ?_
      refine v_iload (pc := 128) X dX6_looksAt_128 7 rfl ?_
      refine v_iload_n (pc := 130) X dX6_looksAt_130 rfl 5 rfl ?_
      refine t_callI (pc := 131) X (m_pour (by omega) (by omega) (by omega)) (lw_V q2171 q2173 qs53 q109 q2174) hdX6_pour ⟨Nat.le_of_ble_eq_true rfl, Nat.le_of_ble_eq_true rfl⟩ rfl rfl (Nat.le_of_ble_eq_true rfl) dX6_looksAt_131 ⟨Nat.le_refl _, Nat.le_refl _⟩ (fun r131 σ131 hp131 => ?_)
      obtain ⟨rfl, rfl⟩ := hp131
      refine v_top (y := (nI (prN sd f (f + i) l))) (pour_nI hsd (by omega) (by omega) (by omega)) ?_
      refine v_iaddN (pc := 134) X dX6_looksAt_134 ?_
      refine v_nmN (fun ms hms => ?_)
      refine v_istore (pc := 135) (loc' := [(8, .int (nI ms)), (7, .int (nI cs)), (6, .int (nI ((8 * ((f + i) + 1)) + l))), (5, .int (nI ((8 * f) + (f + i)))), (0, .ref x), (1, .int (nI f)), (2, .int (nI l)), (3, .int (nI (8 * f + l))), (4, .int (nI (f + i)))]) X dX6_looksAt_135 (by decide) rfl ?_
      refine v_aload_n (pc := 137) X dX6_looksAt_137 rfl 4 rfl ?_
      refine t_get (pc := 138) X 19 (by decide) q1975 rfl rfl dX6_looksAt_138 ?_
      refine v_iload (pc := 141) X dX6_looksAt_141 3 rfl ?_
      refine v_iald (pc := 143) X 11 ta_19 rfl (by omega) (by decide) dX6_looksAt_143 ?_
      refine v_top (y := (nI ((Dv sd f (f + i)).2.2.2.2))) ha.2.2.2.2 ?_
      refine v_aload_n (pc := 144) X dX6_looksAt_144 rfl 4 rfl ?_
      refine t_get (pc := 145) X 19 (by decide) q1975 rfl rfl dX6_looksAt_145 ?_
      refine v_iload (pc := 148) X dX6_looksAt_148 2 rfl ?_
      refine v_iald (pc := 150) X 11 ta_19 rfl (by omega) (by decide) dX6_looksAt_150 ?_
      refine v_top (y := (nI ((Dv sd (f + i + 1) l).2.2.2.2))) hc.2.2.2.2 ?_
      refine v_imulN (pc := 151) X dX6_looksAt_151 ?_
      refine v_nmN (fun mn hmn => ?_)
      refine v_istore (pc := 152) (loc' := [(9, .int (nI mn)), (8, .int (nI ms)), (7, .int (nI cs)), (6, .int (nI ((8 * ((f + i) + 1)) + l))), (5, .int (nI ((8 * f) + (f + i)))), (0, .ref x), (1, .int (nI f)), (2, .int (nI l)), (3, .int (nI (8 * f + l))), (4, .int (nI (f + i)))]) X dX6_looksAt_152 (by decide) rfl ?_
      refine v_join (z := .int (bI (f + i = f ∨ cs < v.1))) (pj := 176) (rs := []) ?_ (fun J176 => ?_)
      · refine v_istore (pc := 176) (loc' := [(10, .int (bI (f + i = f ∨ cs < v.1))), (9, .int (nI mn)), (8, .int (nI ms)), (7, .int (nI cs)), (6, .int (nI ((8 * ((f + i) + 1)) + l))), (5, .int (nI ((8 * f) + (f + i)))), (0, .ref x), (1, .int (nI f)), (2, .int (nI l)), (3, .int (nI (8 * f + l))), (4, .int (nI (f + i)))]) X dX6_looksAt_176 (by decide) rfl ?_
        refine v_aload_n (pc := 178) X dX6_looksAt_178 rfl 6 rfl ?_
        refine t_get (pc := 179) X 19 (by decide) q1975 rfl rfl dX6_looksAt_179 ?_
        refine v_iload_n (pc := 182) X dX6_looksAt_182 rfl 9 rfl ?_
        refine v_join (z := .int (nI (if f + i = f ∨ cs < v.1 then mn else if cs = v.1 then v.2.2.2.2 + mn else v.2.2.2.2))) (pj := 222) (rs := [.int (nI (8 * f + l)), .ref (ad 19)]) ?_ (fun J222 => ?_)
        · refine v_iast (pc := 222) X 11 ta_19 rfl (by omega) (by decide) dX6_looksAt_222 (tb_19 _) ?_
          refine v_aload_n (pc := 223) X dX6_looksAt_223 rfl 6 rfl ?_
          refine t_get (pc := 224) X 17 (by decide) q1973 rfl rfl dX6_looksAt_224 ?_
          refine v_iload_n (pc := 227) X dX6_looksAt_227 rfl 9 rfl ?_
          refine v_join (z := .int (nI (if f + i = f ∨ cs < v.1 then f + i else v.2.2.1))) (pj := 244) (rs := [.int (nI (8 * f + l)), .ref (ad 17)]) ?_ (fun J244 => ?_)
          · refine v_iast (pc := 244) X 9 ta_17 rfl (by omega) (by decide) dX6_looksAt_244 (tb_17 _) ?_
            refine v_aload_n (pc := 245) X dX6_looksAt_245 rfl 6 rfl ?_
            refine t_get (pc := 246) X 15 (by decide) q1971 rfl rfl dX6_looksAt_246 ?_
            refine v_iload_n (pc := 249) X dX6_looksAt_249 rfl 9 rfl ?_
            refine v_join (z := .int (nI (if f + i = f ∨ cs < v.1 then cs else v.1))) (pj := 266) (rs := [.int (nI (8 * f + l)), .ref (ad 15)]) ?_ (fun J266 => ?_)
            · refine v_iast (pc := 266) X 7 ta_15 rfl (by omega) (by decide) dX6_looksAt_266 (tb_15 _) ?_
              refine v_aload_n (pc := 267) X dX6_looksAt_267 rfl 6 rfl ?_
              refine t_get (pc := 268) X 16 (by decide) q1972 rfl rfl dX6_looksAt_268 ?_
              refine v_iload_n (pc := 271) X dX6_looksAt_271 rfl 9 rfl ?_
              refine v_join (z := .int (nI (if f + i = f ∨ v.2.1 < ms then ms else v.2.1))) (pj := 300) (rs := [.int (nI (8 * f + l)), .ref (ad 16)]) ?_ (fun J300 => ?_)
              · refine v_iast (pc := 300) X 8 ta_16 rfl (by omega) (by decide) dX6_looksAt_300 (tb_16 _) ?_
                refine v_aload_n (pc := 301) X dX6_looksAt_301 rfl 6 rfl ?_
                refine t_get (pc := 302) X 18 (by decide) q1974 rfl rfl dX6_looksAt_302 ?_
                refine v_iload_n (pc := 305) X dX6_looksAt_305 rfl 9 rfl ?_
                refine v_dup2 (pc := 306) X dX6_looksAt_306 rfl rfl ?_
                refine v_iald (pc := 307) X 10 ta_18 rfl (by omega) (by decide) dX6_looksAt_307 ?_
                refine v_top (y := (nI v.2.2.2.1)) hr5.2.2.2.1 ?_
                refine v_aload_n (pc := 308) X dX6_looksAt_308 rfl 6 rfl ?_
                refine t_get (pc := 309) X 18 (by decide) q1974 rfl rfl dX6_looksAt_309 ?_
                refine v_iload (pc := 312) X dX6_looksAt_312 5 rfl ?_
                refine v_iald (pc := 314) X 10 ta_18 rfl (by omega) (by decide) dX6_looksAt_314 ?_
                refine v_top (y := (nI ((Dv sd f (f + i)).2.2.2.1))) ha.2.2.2.1 ?_
                refine v_aload_n (pc := 315) X dX6_looksAt_315 rfl 6 rfl ?_
                refine t_get (pc := 316) X 18 (by decide) q1974 rfl rfl dX6_looksAt_316 ?_
                refine v_iload (pc := 319) X dX6_looksAt_319 4 rfl ?_
                refine v_iald (pc := 321) X 10 ta_18 rfl (by omega) (by decide) dX6_looksAt_321 ?_
                refine v_top (y := (nI ((Dv sd (f + i + 1) l).2.2.2.1))) hc.2.2.2.1 ?_
                refine v_imulN (pc := 322) X dX6_looksAt_322 ?_
                refine v_iaddN (pc := 323) X dX6_looksAt_323 ?_
                refine v_iast (pc := 324) X 10 ta_18 rfl (by omega) (by decide) dX6_looksAt_324 (tb_18 _) ?_
                refine v_iinc (pc := 325) (v := (nI (f + i + 1))) (loc' := [(4, .int (nI (f + i + 1))), (10, .int (bI (f + i = f ∨ cs < v.1))), (9, .int (nI mn)), (8, .int (nI ms)), (7, .int (nI cs)), (6, .int (nI ((8 * ((f + i) + 1)) + l))), (5, .int (nI ((8 * f) + (f + i)))), (0, .ref x), (1, .int (nI f)), (2, .int (nI l)), (3, .int (nI (8 * f + l)))]) X dX6_looksAt_325 10 rfl (nI_add _ 1) (by decide) rfl ?_
                refine v_goto (pc := 328) X 59 dX6_looksAt_328 (by decide) ?_
                refine v_sub [7, 8, 9, 10, 0] rfl ?_
                exact ih59 (i + 1) _ ⟨by omega, by subst hcs; subst hms; subst hmn; subst hv; exact (s5_s5 σ (8 * f + l) _ (dpStep (Dv sd f (f + i)) (Dv sd (f + i + 1) l) (prN sd f (f + i) l) (f + i) (f + i = f) (dpFold (Dv sd) (fun s => prN sd f s l) f l i)))⟩ (by omega)
              · refine v_iload (pc := 272) X dX6_looksAt_272 10 rfl ?_
                refine v_iload_n (pc := 274) X dX6_looksAt_274 rfl 7 rfl ?_
                refine v_ic_eqN (pc := 275) X (by omega) (by omega) 289 dX6_looksAt_275 (by decide) (fun h275 => ?_) (fun h275 => ?_)
                · refine v_iload (pc := 289) X dX6_looksAt_289 2 rfl ?_
                  refine v_goto (pc := 291) X 300 dX6_looksAt_291 (by decide) ?_
                  refine v_top (y := (nI (if f + i = f ∨ v.2.1 < ms then ms else v.2.1))) (by rw [if_pos (Or.inl h275)]) ?_
                  exact J300
                · refine v_iload (pc := 278) X dX6_looksAt_278 2 rfl ?_
                  refine v_aload_n (pc := 280) X dX6_looksAt_280 rfl 6 rfl ?_
                  refine t_get (pc := 281) X 16 (by decide) q1972 rfl rfl dX6_looksAt_281 ?_
                  refine v_iload_n (pc := 284) X dX6_looksAt_284 rfl 9 rfl ?_
                  refine v_iald (pc := 285) X 8 ta_16 rfl (by omega) (by decide) dX6_looksAt_285 ?_
                  refine v_top (y := (nI v.2.1)) hr5.2.1 ?_
                  refine v_ic_leN (pc := 286) X (by omega) (by omega) 294 dX6_looksAt_286 (by decide) (fun h286 => ?_) (fun h286 => ?_)
                  · refine v_aload_n (pc := 294) X dX6_looksAt_294 rfl 6 rfl ?_
                    refine t_get (pc := 295) X 16 (by decide) q1972 rfl rfl dX6_looksAt_295 ?_
                    refine v_iload_n (pc := 298) X dX6_looksAt_298 rfl 9 rfl ?_
                    refine v_iald (pc := 299) X 8 ta_16 rfl (by omega) (by decide) dX6_looksAt_299 ?_
                    refine v_top (y := (nI (if f + i = f ∨ v.2.1 < ms then ms else v.2.1))) (hr5.2.1.trans (by rw [if_neg (fun z => z.elim h275 (fun z => absurd z (Nat.not_lt.mpr h286)))])) ?_
                    exact J300
                  · refine v_iload (pc := 289) X dX6_looksAt_289 2 rfl ?_
                    refine v_goto (pc := 291) X 300 dX6_looksAt_291 (by decide) ?_
                    refine v_top (y := (nI (if f + i = f ∨ v.2.1 < ms then ms else v.2.1))) (by rw [if_pos (Or.inr h286)]) ?_
                    exact J300
            · refine v_iload (pc := 250) X dX6_looksAt_250 0 rfl ?_
              refine v_if_eqB (pc := 252) X 260 dX6_looksAt_252 (by decide) (fun h252 => ?_) (fun h252 => ?_)
              · refine v_aload_n (pc := 260) X dX6_looksAt_260 rfl 6 rfl ?_
                refine t_get (pc := 261) X 15 (by decide) q1971 rfl rfl dX6_looksAt_261 ?_
                refine v_iload_n (pc := 264) X dX6_looksAt_264 rfl 9 rfl ?_
                refine v_iald (pc := 265) X 7 ta_15 rfl (by omega) (by decide) dX6_looksAt_265 ?_
                refine v_top (y := (nI (if f + i = f ∨ cs < v.1 then cs else v.1))) (hr5.1.trans (by rw [if_neg h252])) ?_
                exact J266
              · refine v_iload (pc := 255) X dX6_looksAt_255 3 rfl ?_
                refine v_goto (pc := 257) X 266 dX6_looksAt_257 (by decide) ?_
                refine v_top (y := (nI (if f + i = f ∨ cs < v.1 then cs else v.1))) (by rw [if_pos h252]) ?_
                exact J266
          · refine v_iload (pc := 228) X dX6_looksAt_228 0 rfl ?_
            refine v_if_eqB (pc := 230) X 238 dX6_looksAt_230 (by decide) (fun h230 => ?_) (fun h230 => ?_)
            · refine v_aload_n (pc := 238) X dX6_looksAt_238 rfl 6 rfl ?_
              refine t_get (pc := 239) X 17 (by decide) q1973 rfl rfl dX6_looksAt_239 ?_
              refine v_iload_n (pc := 242) X dX6_looksAt_242 rfl 9 rfl ?_
              refine v_iald (pc := 243) X 9 ta_17 rfl (by omega) (by decide) dX6_looksAt_243 ?_
              refine v_top (y := (nI (if f + i = f ∨ cs < v.1 then f + i else v.2.2.1))) (hr5.2.2.1.trans (by rw [if_neg h230])) ?_
              exact J244
            · refine v_iload (pc := 233) X dX6_looksAt_233 10 rfl ?_
              refine v_goto (pc := 235) X 244 dX6_looksAt_235 (by decide) ?_
              refine v_top (y := (nI (if f + i = f ∨ cs < v.1 then f + i else v.2.2.1))) (by rw [if_pos h230]) ?_
              exact J244
        · refine v_iload (pc := 183) X dX6_looksAt_183 0 rfl ?_
          refine v_if_eqB (pc := 185) X 193 dX6_looksAt_185 (by decide) (fun h185 => ?_) (fun h185 => ?_)
          · refine v_iload (pc := 193) X dX6_looksAt_193 3 rfl ?_
            refine v_aload_n (pc := 195) X dX6_looksAt_195 rfl 6 rfl ?_
            refine t_get (pc := 196) X 15 (by decide) q1971 rfl rfl dX6_looksAt_196 ?_
            refine v_iload_n (pc := 199) X dX6_looksAt_199 rfl 9 rfl ?_
            refine v_iald (pc := 200) X 7 ta_15 rfl (by omega) (by decide) dX6_looksAt_200 ?_
            refine v_top (y := (nI v.1)) hr5.1 ?_
            refine v_ic_neN (pc := 201) X (by omega) (by omega) 216 dX6_looksAt_201 (by decide) (fun h201 => ?_) (fun h201 => ?_)
            · refine v_aload_n (pc := 216) X dX6_looksAt_216 rfl 6 rfl ?_
              refine t_get (pc := 217) X 19 (by decide) q1975 rfl rfl dX6_looksAt_217 ?_
              refine v_iload_n (pc := 220) X dX6_looksAt_220 rfl 9 rfl ?_
              refine v_iald (pc := 221) X 11 ta_19 rfl (by omega) (by decide) dX6_looksAt_221 ?_
              refine v_top (y := (nI (if f + i = f ∨ cs < v.1 then mn else if cs = v.1 then v.2.2.2.2 + mn else v.2.2.2.2))) (hr5.2.2.2.2.trans (by rw [if_neg h185, if_neg h201])) ?_
              exact J222
            · refine v_aload_n (pc := 204) X dX6_looksAt_204 rfl 6 rfl ?_
              refine t_get (pc := 205) X 19 (by decide) q1975 rfl rfl dX6_looksAt_205 ?_
              refine v_iload_n (pc := 208) X dX6_looksAt_208 rfl 9 rfl ?_
              refine v_iald (pc := 209) X 11 ta_19 rfl (by omega) (by decide) dX6_looksAt_209 ?_
              refine v_top (y := (nI v.2.2.2.2)) hr5.2.2.2.2 ?_
              refine v_iload (pc := 210) X dX6_looksAt_210 1 rfl ?_
              refine v_iaddN (pc := 212) X dX6_looksAt_212 ?_
              refine v_goto (pc := 213) X 222 dX6_looksAt_213 (by decide) ?_
              refine v_top (y := (nI (if f + i = f ∨ cs < v.1 then mn else if cs = v.1 then v.2.2.2.2 + mn else v.2.2.2.2))) (by rw [if_neg h185, if_pos h201]) ?_
              exact J222
          · refine v_iload (pc := 188) X dX6_looksAt_188 1 rfl ?_
            refine v_goto (pc := 190) X 222 dX6_looksAt_190 (by decide) ?_
            refine v_top (y := (nI (if f + i = f ∨ cs < v.1 then mn else if cs = v.1 then v.2.2.2.2 + mn else v.2.2.2.2))) (by rw [if_pos h185]) ?_
            exact J222
      · refine v_iload (pc := 154) X dX6_looksAt_154 9 rfl ?_
        refine v_iload_n (pc := 156) X dX6_looksAt_156 rfl 6 rfl ?_
        refine v_ic_eqN (pc := 157) X (by omega) (by omega) 171 dX6_looksAt_157 (by decide) (fun h157 => ?_) (fun h157 => ?_)
        · refine v_iconst (pc := 171) (v := nI 1) X dX6_looksAt_171 rfl ?_
          refine v_goto (pc := 172) X 176 dX6_looksAt_172 (by decide) ?_
          refine v_top (y := (bI (f + i = f ∨ cs < v.1))) (bI_t (Or.inl h157)).symm ?_
          exact J176
        · refine v_iload (pc := 160) X dX6_looksAt_160 2 rfl ?_
          refine v_aload_n (pc := 162) X dX6_looksAt_162 rfl 5 rfl ?_
          refine t_get (pc := 163) X 15 (by decide) q1971 rfl rfl dX6_looksAt_163 ?_
          refine v_iload_n (pc := 166) X dX6_looksAt_166 rfl 8 rfl ?_
          refine v_iald (pc := 167) X 7 ta_15 rfl (by omega) (by decide) dX6_looksAt_167 ?_
          refine v_top (y := (nI v.1)) hr5.1 ?_
          refine v_ic_geN (pc := 168) X (by omega) (by omega) 175 dX6_looksAt_168 (by decide) (fun h168 => ?_) (fun h168 => ?_)
          · refine v_iconst (pc := 175) (v := nI 0) X dX6_looksAt_175 rfl ?_
            refine v_top (y := (bI (f + i = f ∨ cs < v.1))) (bI_f (fun z => z.elim h157 (fun z => absurd z (Nat.not_lt.mpr h168)))).symm ?_
            exact J176
          · refine v_iconst (pc := 171) (v := nI 1) X dX6_looksAt_171 rfl ?_
            refine v_goto (pc := 172) X 176 dX6_looksAt_172 (by decide) ?_
            refine v_top (y := (bI (f + i = f ∨ cs < v.1))) (bI_t (Or.inr h168)).symm ?_
            exact J176
  · refine v_ic_neN (pc := 35) X (by omega) (by omega) 42 dX6_looksAt_35 (by decide) (fun h35 => ?_) (fun h35 => ?_)
    · refine v_iconst (pc := 42) (v := nI 0) X dX6_looksAt_42 rfl ?_
      refine v_top (y := (nI (if f = l then 1 else 0))) (by rw [if_neg h35]) ?_
      exact J43
    · refine v_iconst (pc := 38) (v := nI 1) X dX6_looksAt_38 rfl ?_
      refine v_goto (pc := 39) X 43 dX6_looksAt_39 (by decide) ?_
      refine v_top (y := (nI (if f = l then 1 else 0))) (by rw [if_pos h35]) ?_
      exact J43

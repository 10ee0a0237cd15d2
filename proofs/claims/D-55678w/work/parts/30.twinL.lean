theorem hdX6_readsBrackets : yX6_readsBrackets.cls = RX6 ∧ yX6_readsBrackets.cls ≠ "java/lang/invoke/MethodHandle" ∧ yX6_readsBrackets.cls ≠ "java/lang/invoke/VarHandle" ∧ (parseMethodDescriptor yX6_readsBrackets.desc).map (fun d => d.parameters.length) = some 0 := by decide +kernel
set_option maxHeartbeats 4000000 in
theorem m_readsBrackets {l_ : Launch} {D : va_G} {dd : Nat → ClassId} {x : Nat} {ad : Nat → Nat} {σ : Tw} {t : List Nat} (hI : InIs σ t) : TM l_ D dd x ad yX6_readsBrackets cX6_readsBrackets 5 (some .int) 1 22 [.ref x] σ (TI (fun r σ' => r = oI (mRun t t.length 0 [] [0]).1 ∧ TxIs (σ' 25) (mRun t t.length 0 [] [0]).2 ∧ σ' 99 26 = nI (mRun t t.length 0 [] [0]).2.length ∧ Ch [25, 30] [26] σ σ' ∧ (mRun t t.length 0 [] [0]).2.length ≤ 60 ∧ ∀ v ∈ (mRun t t.length 0 [] [0]).2, v ≤ 9)) := by
  obtain ⟨hI1, hI2, hI3, hI4⟩ := id hI
  refine MW.intro (by decide) (Nat.le_of_ble_eq_true rfl) (fun p_ e_ s_ m_ as_ bl_ me_ c_ A_ X hr hnm => ?_)
  have X : VX p_ s_ m_ as_ me_ c_ cX6_readsBrackets 5 RX6 D dd A_ := X
  refine v_eq (loc' := [(0, .ref x)]) rfl rfl rfl ?_
  refine v_aload_n (pc := 0) X dX6_readsBrackets_0 rfl 0 rfl ?_
  refine v_iconst (pc := 1) (v := nI 0) X dX6_readsBrackets_1 rfl ?_
  refine t_put (pc := 2) X 26 (by decide) q1982 rfl rfl rfl rfl dX6_readsBrackets_2 (tf_26 _) ?_
  refine v_iconst (pc := 5) (v := nI 0) X dX6_readsBrackets_5 rfl ?_
  refine v_istore_n (pc := 6) (loc' := [(1, .int (nI 0)), (0, .ref x)]) X dX6_readsBrackets_6 rfl (by decide) rfl ?_
  refine v_aload_n (pc := 7) X dX6_readsBrackets_7 rfl 1 rfl ?_
  refine t_get (pc := 8) X 30 (by decide) q1986 rfl rfl dX6_readsBrackets_8 ?_
  refine v_iconst (pc := 11) (v := nI 0) X dX6_readsBrackets_11 rfl ?_
  refine v_iconst (pc := 12) (v := nI 0) X dX6_readsBrackets_12 rfl ?_
  refine v_iast (pc := 13) X 19 ta_30 rfl (by omega) (by decide) dX6_readsBrackets_13 (tb_30 _) ?_
  refine v_iconst (pc := 14) (v := nI 0) X dX6_readsBrackets_14 rfl ?_
  refine v_istore_n (pc := 15) (loc' := [(2, .int (nI 0)), (1, .int (nI 0)), (0, .ref x)]) X dX6_readsBrackets_15 rfl (by decide) rfl ?_
  refine v_sub [2, 1, 0] rfl ?_
  refine v_loop4 (S := Nat) (T := List Nat) (Z := List Nat) (Y := Tw) (fun p cs os τ => tw x ad dd τ) (fun p cs os τ => [(0, .ref x), (1, .int (nI (os.length - 1))), (2, .int (nI p))]) (fun p cs os τ => BrI σ t p cs os τ) (fun p cs os τ => t.length - p) (fun p cs os τ hI16 ih16 => ?_) 0 ([]) ([0]) _ ⟨((Ch.rf _ _ _).num 26 _ (by decide)).row 30 _ (by decide) (by decide), Nat.zero_le _, by simp, TxIs.rev_push (rs := []) (TxIs.nil _) 0, TxIs.nil _, rfl, by simp, by simp, by simp, by simp, rfl⟩
  obtain ⟨hC, hp, hne, hO, hD, hM, hol, hcl, hox, hcx, hres⟩ := hI16
  obtain ⟨h, r, rfl⟩ := List.exists_cons_of_ne_nil hne
  have hOt := hO.rev_top
  have hol2 : r.length ≤ p := by simpa using hol
  have hhx := hox h (by simp)
  have hIt := (hI.same (hC.1 6 (by decide) (by decide)) (hC.2 7 (by decide)))
  rw [show (h :: r).length - 1 = r.length by simp]
  refine v_iload_n (pc := 16) X dX6_readsBrackets_16 rfl 2 rfl ?_
  refine v_aload_n (pc := 17) X dX6_readsBrackets_17 rfl 0 rfl ?_
  refine t_get (pc := 18) X 7 (by decide) q1963 rfl rfl dX6_readsBrackets_18 ?_
  refine v_top (y := (nI t.length)) hIt.2.1 ?_
  refine v_ic_geN (pc := 21) X (by omega) (by omega) 185 dX6_readsBrackets_21 (by decide) (fun h21 => ?_) (fun h21 => ?_)
  · refine v_iload_n (pc := 185) X dX6_readsBrackets_185 rfl 1 rfl ?_
    refine v_if_neN (pc := 186) X (by omega) 203 dX6_readsBrackets_186 (by decide) (fun h186 => ?_) (fun h186 => ?_)
    · refine v_aload_n (pc := 203) X dX6_readsBrackets_203 rfl 0 rfl ?_
      refine t_get (pc := 204) X 7 (by decide) q1963 rfl rfl dX6_readsBrackets_204 ?_
      refine v_top (y := (nI t.length)) hIt.2.1 ?_
      exact t_iret (pc := 207) X hr dX6_readsBrackets_207 ⟨_, rfl, by rw [br_end hres h21 (by intro z; injection z with z1 z2; exact h186 (by rw [z2]; rfl))]; exact ⟨rfl, hD, hM, hC, (by show cs.length ≤ 60; omega), hcx⟩⟩
    · refine v_aload_n (pc := 189) X dX6_readsBrackets_189 rfl 0 rfl ?_
      refine t_get (pc := 190) X 30 (by decide) q1986 rfl rfl dX6_readsBrackets_190 ?_
      refine v_iconst (pc := 193) (v := nI 0) X dX6_readsBrackets_193 rfl ?_
      refine v_iald (pc := 194) X 19 ta_30 rfl (by omega) (by decide) dX6_readsBrackets_194 ?_
      refine v_top (y := (nI h)) (by rw [List.length_eq_zero_iff.mp h186] at hOt; exact hOt) ?_
      refine v_iconst (pc := 195) (v := nI 1) X dX6_readsBrackets_195 rfl ?_
      refine v_ic_neN (pc := 196) X (by omega) (by omega) 203 dX6_readsBrackets_196 (by decide) (fun h196 => ?_) (fun h196 => ?_)
      · refine v_aload_n (pc := 203) X dX6_readsBrackets_203 rfl 0 rfl ?_
        refine t_get (pc := 204) X 7 (by decide) q1963 rfl rfl dX6_readsBrackets_204 ?_
        refine v_top (y := (nI t.length)) hIt.2.1 ?_
        exact t_iret (pc := 207) X hr dX6_readsBrackets_207 ⟨_, rfl, by rw [br_end hres h21 (by intro z; injection z with z1 z2; exact h196 z1)]; exact ⟨rfl, hD, hM, hC, (by show cs.length ≤ 60; omega), hcx⟩⟩
      · refine v_iconst (pc := 199) (v := -1) X dX6_readsBrackets_199 rfl ?_
        refine v_goto (pc := 200) X 207 dX6_readsBrackets_200 (by decide) ?_
        exact t_iret (pc := 207) X hr dX6_readsBrackets_207 ⟨_, rfl, by rw [br_fin hres h21 (by rw [h196, List.length_eq_zero_iff.mp h186])]; exact ⟨rfl, hD, hM, hC, (by show cs.length ≤ 60; omega), hcx⟩⟩
  · obtain ⟨c, hc⟩ := get_lt (L := t) (k := p) h21
    have hcb := hI4 c (List.mem_of_getElem? hc)
    have h6e : τ 6 = σ 6 := hC.1 6 (by decide) (by decide)
    refine v_aload_n (pc := 24) X dX6_readsBrackets_24 rfl 0 rfl ?_
    refine t_get (pc := 25) X 6 (by decide) q1962 rfl rfl dX6_readsBrackets_25 ?_
    refine v_iload_n (pc := 28) X dX6_readsBrackets_28 rfl 2 rfl ?_
    refine v_cald (pc := 29) X 5 ta_6 rfl (by omega) (by decide) dX6_readsBrackets_29 ?_
    refine v_top (y := (nI c)) ((congrFun h6e _).trans (hI1 p c hc)) ?_
    refine v_istore_n (pc := 30) (loc' := [(3, .int (nI c)), (0, .ref x), (1, .int (nI r.length)), (2, .int (nI p))]) X dX6_readsBrackets_30 rfl (by decide) rfl ?_
    refine v_join (z := .int (bI (fullB (h :: r) = true))) (pj := 68) (rs := []) ?_ (fun J68 => ?_)
    · refine v_istore (pc := 68) (loc' := [(4, .int (bI (fullB (h :: r) = true))), (3, .int (nI c)), (0, .ref x), (1, .int (nI r.length)), (2, .int (nI p))]) X dX6_readsBrackets_68 (by decide) rfl ?_
      refine v_iload (pc := 70) X dX6_readsBrackets_70 0 rfl ?_
      refine v_if_eqB (pc := 72) X 101 dX6_readsBrackets_72 (by decide) (fun h72 => ?_) (fun h72 => ?_)
      · refine v_iload (pc := 101) X dX6_readsBrackets_101 0 rfl ?_
        refine v_if_neB (pc := 103) X 125 dX6_readsBrackets_103 (by decide) (fun h103 => absurd h103 h72) (fun h103 => ?_)
        refine v_iload_n (pc := 106) X dX6_readsBrackets_106 rfl 1 rfl ?_
        refine v_bipush (pc := 107) (v := nI 40) X dX6_readsBrackets_107 rfl ?_
        refine v_ic_neN (pc := 109) X (by omega) (by omega) 125 dX6_readsBrackets_109 (by decide) (fun h109 => ?_) (fun h109 => ?_)
        · refine v_iload (pc := 125) X dX6_readsBrackets_125 0 rfl ?_
          refine v_if_neB (pc := 127) X 177 dX6_readsBrackets_127 (by decide) (fun h127 => absurd h127 h72) (fun h127 => ?_)
          refine v_iload_n (pc := 130) X dX6_readsBrackets_130 rfl 1 rfl ?_
          refine v_bipush (pc := 131) (v := nI 48) X dX6_readsBrackets_131 rfl ?_
          refine v_bipush (pc := 133) (v := nI 57) X dX6_readsBrackets_133 rfl ?_
          refine t_callSI (pc := 135) X m_in (lw_S q2079 q2080 q109 q2081) hdX6_in ⟨Nat.le_of_ble_eq_true rfl, Nat.le_of_ble_eq_true rfl⟩ rfl rfl (Nat.le_of_ble_eq_true rfl) dX6_readsBrackets_135 ⟨Nat.le_refl _, Nat.le_refl _⟩ (fun r135 σ135 hp135 => ?_)
          obtain ⟨rfl, rfl⟩ := hp135
          refine v_if_eqB (pc := 138) X 177 dX6_readsBrackets_138 (by decide) (fun h138 => ?_) (fun h138 => ?_)
          · refine v_iload_n (pc := 177) X dX6_readsBrackets_177 rfl 4 rfl ?_
            exact t_iret (pc := 178) X hr dX6_readsBrackets_178 ⟨_, rfl, by rw [br_res hres hc (mStep_n h72 h109 (fun z => h138 ((inC hcb (by decide) (by decide)).mpr z)))]; exact ⟨rfl, hD, hM, hC, (by show cs.length ≤ 60; omega), hcx⟩⟩
          · have hcd := (inC hcb (by decide) (by decide)).mp h138
            refine v_aload_n (pc := 141) X dX6_readsBrackets_141 rfl 2 rfl ?_
            refine t_get (pc := 142) X 25 (by decide) q1981 rfl rfl dX6_readsBrackets_142 ?_
            refine v_aload_n (pc := 145) X dX6_readsBrackets_145 rfl 2 rfl ?_
            refine t_get (pc := 146) X 26 (by decide) q1982 rfl rfl dX6_readsBrackets_146 ?_
            refine v_top (y := (nI cs.length)) hM ?_
            refine v_iload_n (pc := 149) X dX6_readsBrackets_149 rfl 1 rfl ?_
            refine v_bipush (pc := 150) (v := nI 48) X dX6_readsBrackets_150 rfl ?_
            refine v_isubN (pc := 152) X (by omega) dX6_readsBrackets_152 ?_
            refine v_iast (pc := 153) X 15 ta_25 rfl (by omega) (by decide) dX6_readsBrackets_153 (tb_25 _) ?_
            refine v_aload_n (pc := 154) X dX6_readsBrackets_154 rfl 2 rfl ?_
            refine v_dup (pc := 155) X dX6_readsBrackets_155 rfl ?_
            refine t_get (pc := 156) X 26 (by decide) q1982 rfl rfl dX6_readsBrackets_156 ?_
            refine v_top (y := (nI cs.length)) hM ?_
            refine v_iconst (pc := 159) (v := nI 1) X dX6_readsBrackets_159 rfl ?_
            refine v_iaddN (pc := 160) X dX6_readsBrackets_160 ?_
            refine t_put (pc := 161) X 26 (by decide) q1982 rfl rfl rfl rfl dX6_readsBrackets_161 (tf_26 _) ?_
            refine v_aload_n (pc := 164) X dX6_readsBrackets_164 rfl 2 rfl ?_
            refine t_get (pc := 165) X 30 (by decide) q1986 rfl rfl dX6_readsBrackets_165 ?_
            refine v_iload_n (pc := 168) X dX6_readsBrackets_168 rfl 3 rfl ?_
            refine v_dup2 (pc := 169) X dX6_readsBrackets_169 rfl rfl ?_
            refine v_iald (pc := 170) X 19 ta_30 rfl (by omega) (by decide) dX6_readsBrackets_170 ?_
            refine v_top (y := (nI h)) hOt ?_
            refine v_iconst (pc := 171) (v := nI 1) X dX6_readsBrackets_171 rfl ?_
            refine v_iaddN (pc := 172) X dX6_readsBrackets_172 ?_
            refine v_iast (pc := 173) X 19 ta_30 rfl (by omega) (by decide) dX6_readsBrackets_173 (tb_30 _) ?_
            refine v_goto (pc := 174) X 179 dX6_readsBrackets_174 (by decide) ?_
            refine v_iinc (pc := 179) (v := (nI (p + 1))) (loc' := [(2, .int (nI (p + 1))), (4, .int (bI (fullB (h :: r) = true))), (3, .int (nI c)), (0, .ref x), (1, .int (nI r.length))]) X dX6_readsBrackets_179 4 rfl (nI_add _ 1) (by decide) rfl ?_
            refine v_goto (pc := 182) X 16 dX6_readsBrackets_182 (by decide) ?_
            refine v_sub [3, 4, 0] rfl ?_
            exact ih16 (p + 1) (cs ++ [c - 48]) ((h + 1) :: r) _ ⟨((hC.row 25 _ (by decide) (by decide)).num 26 _ (by decide)).row 30 _ (by decide) (by decide), by omega, by simp, hO.rev_tail.rev_push (h + 1), hD.push (c - 48), (by rw [List.length_append]; rfl), by simp; omega, by rw [List.length_append]; show _ + 1 ≤ _; omega, fun x hx => by rcases List.mem_cons.mp hx with e | e; omega; have := hox x (by simp [e]); omega, fun v hv => by rcases List.mem_append.mp hv with e | e; exact hcx v e; rw [List.mem_singleton] at e; omega, br_nxt hres hc (mStep_d h72 hcd)⟩ (by omega)
        · refine v_iinc (pc := 112) (v := (nI (r.length + 1))) (loc' := [(1, .int (nI (r.length + 1))), (4, .int (bI (fullB (h :: r) = true))), (3, .int (nI c)), (0, .ref x), (2, .int (nI p))]) X dX6_readsBrackets_112 3 rfl (nI_add _ 1) (by decide) rfl ?_
          refine v_aload_n (pc := 115) X dX6_readsBrackets_115 rfl 3 rfl ?_
          refine t_get (pc := 116) X 30 (by decide) q1986 rfl rfl dX6_readsBrackets_116 ?_
          refine v_iload_n (pc := 119) X dX6_readsBrackets_119 rfl 0 rfl ?_
          refine v_iconst (pc := 120) (v := nI 0) X dX6_readsBrackets_120 rfl ?_
          refine v_iast (pc := 121) X 19 ta_30 rfl (by omega) (by decide) dX6_readsBrackets_121 (tb_30 _) ?_
          refine v_goto (pc := 122) X 179 dX6_readsBrackets_122 (by decide) ?_
          refine v_iinc (pc := 179) (v := (nI (p + 1))) (loc' := [(2, .int (nI (p + 1))), (1, .int (nI (r.length + 1))), (4, .int (bI (fullB (h :: r) = true))), (3, .int (nI c)), (0, .ref x)]) X dX6_readsBrackets_179 4 rfl (nI_add _ 1) (by decide) rfl ?_
          refine v_goto (pc := 182) X 16 dX6_readsBrackets_182 (by decide) ?_
          refine v_sub [4, 1, 0] rfl ?_
          exact ih16 (p + 1) cs (0 :: h :: r) _ ⟨hC.row 30 _ (by decide) (by decide), by omega, by simp, hO.rev_push 0, hD, hM, by simp; omega, by omega, fun x hx => by rcases List.mem_cons.mp hx with e | e; omega; have := hox x e; omega, hcx, br_nxt hres hc (by rw [h109]; exact mStep_40 h72)⟩ (by omega)
      · refine v_iload_n (pc := 75) X dX6_readsBrackets_75 rfl 3 rfl ?_
        refine v_if_leN (pc := 76) X (by omega) 101 dX6_readsBrackets_76 (by decide) (fun h76 => ?_) (fun h76 => ?_)
        · refine v_iload (pc := 101) X dX6_readsBrackets_101 0 rfl ?_
          refine v_if_neB (pc := 103) X 125 dX6_readsBrackets_103 (by decide) (fun h103 => ?_) (fun h103 => absurd h72 h103)
          refine v_iload (pc := 125) X dX6_readsBrackets_125 0 rfl ?_
          refine v_if_neB (pc := 127) X 177 dX6_readsBrackets_127 (by decide) (fun h127 => ?_) (fun h127 => absurd h72 h127)
          refine v_iload_n (pc := 177) X dX6_readsBrackets_177 rfl 4 rfl ?_
          exact t_iret (pc := 178) X hr dX6_readsBrackets_178 ⟨_, rfl, by rw [br_res hres hc (by rw [List.length_eq_zero_iff.mp h76] at h72 ⊢; exact mStep_e h72)]; exact ⟨rfl, hD, hM, hC, (by show cs.length ≤ 60; omega), hcx⟩⟩
        · refine v_iload_n (pc := 79) X dX6_readsBrackets_79 rfl 1 rfl ?_
          refine v_bipush (pc := 80) (v := nI 41) X dX6_readsBrackets_80 rfl ?_
          refine v_ic_neN (pc := 82) X (by omega) (by omega) 101 dX6_readsBrackets_82 (by decide) (fun h82 => ?_) (fun h82 => ?_)
          · refine v_iload (pc := 101) X dX6_readsBrackets_101 0 rfl ?_
            refine v_if_neB (pc := 103) X 125 dX6_readsBrackets_103 (by decide) (fun h103 => ?_) (fun h103 => absurd h72 h103)
            refine v_iload (pc := 125) X dX6_readsBrackets_125 0 rfl ?_
            refine v_if_neB (pc := 127) X 177 dX6_readsBrackets_127 (by decide) (fun h127 => ?_) (fun h127 => absurd h72 h127)
            refine v_iload_n (pc := 177) X dX6_readsBrackets_177 rfl 4 rfl ?_
            exact t_iret (pc := 178) X hr dX6_readsBrackets_178 ⟨_, rfl, by rw [br_res hres hc (by cases r with | nil => exact absurd rfl h76 | cons a b => exact mStep_f h72 h82)]; exact ⟨rfl, hD, hM, hC, (by show cs.length ≤ 60; omega), hcx⟩⟩
          · obtain ⟨h2, r2, rfl⟩ : ∃ h2 r2, r = h2 :: r2 := by cases r with | nil => exact absurd rfl h76 | cons a b => exact ⟨a, b, rfl⟩
            have hOt2 := hO.rev_tail.rev_top
            have hr2l : (h2 :: r2).length = r2.length + 1 := rfl
            rw [show (h2 :: r2).length = r2.length + 1 by simp]
            refine v_iinc (pc := 85) (v := (nI (r2.length + 1 - 1))) (loc' := [(1, .int (nI (r2.length + 1 - 1))), (4, .int (bI (fullB (h :: h2 :: r2) = true))), (3, .int (nI c)), (0, .ref x), (2, .int (nI p))]) X dX6_readsBrackets_85 3 rfl (nI_dec (by omega)) (by decide) rfl ?_
            refine v_aload_n (pc := 88) X dX6_readsBrackets_88 rfl 3 rfl ?_
            refine t_get (pc := 89) X 30 (by decide) q1986 rfl rfl dX6_readsBrackets_89 ?_
            refine v_iload_n (pc := 92) X dX6_readsBrackets_92 rfl 0 rfl ?_
            refine v_dup2 (pc := 93) X dX6_readsBrackets_93 rfl rfl ?_
            refine v_iald (pc := 94) X 19 ta_30 rfl (by omega) (by decide) dX6_readsBrackets_94 ?_
            refine v_top (y := (nI h2)) (by rw [Nat.add_sub_cancel]; exact hOt2) ?_
            refine v_iconst (pc := 95) (v := nI 1) X dX6_readsBrackets_95 rfl ?_
            refine v_iaddN (pc := 96) X dX6_readsBrackets_96 ?_
            refine v_iast (pc := 97) X 19 ta_30 rfl (by omega) (by decide) dX6_readsBrackets_97 (tb_30 _) ?_
            refine v_goto (pc := 98) X 179 dX6_readsBrackets_98 (by decide) ?_
            refine v_iinc (pc := 179) (v := (nI (p + 1))) (loc' := [(2, .int (nI (p + 1))), (1, .int (nI (r2.length + 1 - 1))), (4, .int (bI (fullB (h :: h2 :: r2) = true))), (3, .int (nI c)), (0, .ref x)]) X dX6_readsBrackets_179 4 rfl (nI_add _ 1) (by decide) rfl ?_
            refine v_goto (pc := 182) X 16 dX6_readsBrackets_182 (by decide) ?_
            refine v_sub [4, 1, 0] rfl ?_
            exact ih16 (p + 1) cs ((h2 + 1) :: r2) _ ⟨hC.row 30 _ (by decide) (by decide), by omega, by simp, (hO.rev_tail.rev_tail.rev_push (h2 + 1)), hD, hM, by simp at hol2 ⊢; omega, by omega, fun x hx => by rcases List.mem_cons.mp hx with e | e; have := hox h2 (by simp); omega; have := hox x (by simp [e]); omega, hcx, br_nxt hres hc (by rw [h82]; exact mStep_41 h72)⟩ (by omega)
    · refine v_iload_n (pc := 31) X dX6_readsBrackets_31 rfl 2 rfl ?_
      refine v_if_neN (pc := 32) X (by omega) 53 dX6_readsBrackets_32 (by decide) (fun h32 => ?_) (fun h32 => ?_)
      · refine v_aload_n (pc := 53) X dX6_readsBrackets_53 rfl 1 rfl ?_
        refine t_get (pc := 54) X 30 (by decide) q1986 rfl rfl dX6_readsBrackets_54 ?_
        refine v_iload_n (pc := 57) X dX6_readsBrackets_57 rfl 2 rfl ?_
        refine v_iald (pc := 58) X 19 ta_30 rfl (by omega) (by decide) dX6_readsBrackets_58 ?_
        refine v_top (y := (nI h)) hOt ?_
        refine v_iconst (pc := 59) (v := nI 2) X dX6_readsBrackets_59 rfl ?_
        refine v_ic_neN (pc := 60) X (by omega) (by omega) 67 dX6_readsBrackets_60 (by decide) (fun h60 => ?_) (fun h60 => ?_)
        · refine v_iconst (pc := 67) (v := nI 0) X dX6_readsBrackets_67 rfl ?_
          refine v_top (y := (bI (fullB (h :: r) = true))) (bI_f (by cases r with | nil => exact absurd rfl h32 | cons a b => simp [fullB, h60])).symm ?_
          exact J68
        · refine v_iconst (pc := 63) (v := nI 1) X dX6_readsBrackets_63 rfl ?_
          refine v_goto (pc := 64) X 68 dX6_readsBrackets_64 (by decide) ?_
          refine v_top (y := (bI (fullB (h :: r) = true))) (bI_t (by cases r with | nil => exact absurd rfl h32 | cons a b => simp [fullB, h60])).symm ?_
          exact J68
      · refine v_aload_n (pc := 35) X dX6_readsBrackets_35 rfl 1 rfl ?_
        refine t_get (pc := 36) X 30 (by decide) q1986 rfl rfl dX6_readsBrackets_36 ?_
        refine v_iconst (pc := 39) (v := nI 0) X dX6_readsBrackets_39 rfl ?_
        refine v_iald (pc := 40) X 19 ta_30 rfl (by omega) (by decide) dX6_readsBrackets_40 ?_
        refine v_top (y := (nI h)) (by rw [List.length_eq_zero_iff.mp h32] at hOt; exact hOt) ?_
        refine v_iconst (pc := 41) (v := nI 1) X dX6_readsBrackets_41 rfl ?_
        refine v_ic_neN (pc := 42) X (by omega) (by omega) 49 dX6_readsBrackets_42 (by decide) (fun h42 => ?_) (fun h42 => ?_)
        · refine v_iconst (pc := 49) (v := nI 0) X dX6_readsBrackets_49 rfl ?_
          refine v_goto (pc := 50) X 68 dX6_readsBrackets_50 (by decide) ?_
          refine v_top (y := (bI (fullB (h :: r) = true))) (bI_f (by rw [List.length_eq_zero_iff.mp h32]; simp [fullB, h42])).symm ?_
          exact J68
        · refine v_iconst (pc := 45) (v := nI 1) X dX6_readsBrackets_45 rfl ?_
          refine v_goto (pc := 46) X 68 dX6_readsBrackets_46 (by decide) ?_
          refine v_top (y := (bI (fullB (h :: r) = true))) (bI_t (by rw [List.length_eq_zero_iff.mp h32]; simp [fullB, h42])).symm ?_
          exact J68
theorem hdX6_misplaced : yX6_misplaced.cls = RX6 ∧ yX6_misplaced.cls ≠ "java/lang/invoke/MethodHandle" ∧ yX6_misplaced.cls ≠ "java/lang/invoke/VarHandle" ∧ (parseMethodDescriptor yX6_misplaced.desc).map (fun d => d.parameters.length) = some 0 := by decide +kernel
set_option maxHeartbeats 4000000 in
theorem m_misplaced {l_ : Launch} {D : va_G} {dd : Nat → ClassId} {x : Nat} {ad : Nat → Nat} {σ : Tw} {cs : List Nat} (hD : TxIs (σ 25) cs) (hM : σ 99 26 = nI cs.length) (hc60 : cs.length ≤ 60) (hcx : ∀ v ∈ cs, v ≤ 9) : TM l_ D dd x ad yX6_misplaced cX6_misplaced 2 (some .int) 0 0 [.ref x] σ (TI (fun r σ' => oI (misp cs) = r ∧ σ = σ')) := by
  refine MW.intro (by decide) (Nat.le_of_ble_eq_true rfl) (fun p_ e_ s_ m_ as_ bl_ me_ c_ A_ X hr hnm => ?_)
  have X : VX p_ s_ m_ as_ me_ c_ cX6_misplaced 2 RX6 D dd A_ := X
  refine v_eq (loc' := [(0, .ref x)]) rfl rfl rfl ?_
  refine v_iconst (pc := 0) (v := nI 1) X dX6_misplaced_0 rfl ?_
  refine v_istore_n (pc := 1) (loc' := [(1, .int (nI 1)), (0, .ref x)]) X dX6_misplaced_1 rfl (by decide) rfl ?_
  refine v_sub [1, 0] rfl ?_
  refine v_loop1 (S := Nat) (fun k => tw x ad dd σ) (fun k => [(0, .ref x), (1, .int (nI k))]) (fun k => 1 ≤ k ∧ k ≤ cs.length + 1 ∧ misp cs = misp (cs.drop (k - 1))) (fun k => cs.length - k) (fun k hI2 ih2 => ?_) 1 ⟨Nat.le_refl _, by omega, rfl⟩
  obtain ⟨hk1, hkl, hk2⟩ := hI2
  refine v_iload_n (pc := 2) X dX6_misplaced_2 rfl 1 rfl ?_
  refine v_aload_n (pc := 3) X dX6_misplaced_3 rfl 0 rfl ?_
  refine t_get (pc := 4) X 26 (by decide) q1982 rfl rfl dX6_misplaced_4 ?_
  refine v_top (y := (nI cs.length)) hM ?_
  refine v_ic_geN (pc := 7) X (by omega) (by omega) 42 dX6_misplaced_7 (by decide) (fun h7 => ?_) (fun h7 => ?_)
  · refine v_iconst (pc := 42) (v := -1) X dX6_misplaced_42 rfl ?_
    exact t_iret (pc := 43) X hr dX6_misplaced_43 ⟨_, rfl, by rw [hk2, misp_e (by omega)]; rfl, rfl⟩
  · obtain ⟨a, ha⟩ := get_lt (L := cs) (k := k - 1) (by omega)
    obtain ⟨b, hb⟩ := get_lt (L := cs) (k := k) (by omega)
    have hax := hcx a (List.mem_of_getElem? ha)
    have hbx := hcx b (List.mem_of_getElem? hb)
    obtain ⟨hdr, hdr2⟩ := misp_dr hk1 ha hb
    refine v_aload_n (pc := 10) X dX6_misplaced_10 rfl 0 rfl ?_
    refine t_get (pc := 11) X 25 (by decide) q1981 rfl rfl dX6_misplaced_11 ?_
    refine v_iload_n (pc := 14) X dX6_misplaced_14 rfl 1 rfl ?_
    refine v_iald (pc := 15) X 15 ta_25 rfl (by omega) (by decide) dX6_misplaced_15 ?_
    refine v_top (y := (nI b)) (hD k b hb) ?_
    refine v_aload_n (pc := 16) X dX6_misplaced_16 rfl 0 rfl ?_
    refine t_get (pc := 17) X 25 (by decide) q1981 rfl rfl dX6_misplaced_17 ?_
    refine v_iload_n (pc := 20) X dX6_misplaced_20 rfl 1 rfl ?_
    refine v_iconst (pc := 21) (v := nI 1) X dX6_misplaced_21 rfl ?_
    refine v_isubN (pc := 22) X (by omega) dX6_misplaced_22 ?_
    refine v_iald (pc := 23) X 15 ta_25 rfl (by omega) (by decide) dX6_misplaced_23 ?_
    refine v_top (y := (nI a)) (hD (k - 1) a ha) ?_
    refine v_iconst (pc := 24) (v := nI 1) X dX6_misplaced_24 rfl ?_
    refine v_iaddN (pc := 25) X dX6_misplaced_25 ?_
    refine v_ic_eqN (pc := 26) X (by omega) (by omega) 36 dX6_misplaced_26 (by decide) (fun h26 => ?_) (fun h26 => ?_)
    · refine v_iinc (pc := 36) (v := (nI (k + 1))) (loc' := [(1, .int (nI (k + 1))), (0, .ref x)]) X dX6_misplaced_36 1 rfl (nI_add _ 1) (by decide) rfl ?_
      refine v_goto (pc := 39) X 2 dX6_misplaced_39 (by decide) ?_
      refine v_sub [1, 0] rfl ?_
      exact ih2 (k + 1) ⟨by omega, by omega, by rw [hk2, hdr, misp_s h26, Nat.add_sub_cancel]; exact congrArg misp hdr2.symm⟩ (by omega)
    · refine v_aload_n (pc := 29) X dX6_misplaced_29 rfl 0 rfl ?_
      refine t_get (pc := 30) X 25 (by decide) q1981 rfl rfl dX6_misplaced_30 ?_
      refine v_iload_n (pc := 33) X dX6_misplaced_33 rfl 1 rfl ?_
      refine v_iald (pc := 34) X 15 ta_25 rfl (by omega) (by decide) dX6_misplaced_34 ?_
      refine v_top (y := (nI b)) (hD k b hb) ?_
      exact t_iret (pc := 35) X hr dX6_misplaced_35 ⟨_, rfl, by rw [hk2, hdr, misp_n h26]; rfl, rfl⟩
theorem hdX6_bracketCost : yX6_bracketCost.cls = RX6 ∧ yX6_bracketCost.cls ≠ "java/lang/invoke/MethodHandle" ∧ yX6_bracketCost.cls ≠ "java/lang/invoke/VarHandle" ∧ (parseMethodDescriptor yX6_bracketCost.desc).map (fun d => d.parameters.length) = some 1 := by decide +kernel
set_option maxHeartbeats 4000000 in
theorem m_bracketCost {l_ : Launch} {D : va_G} {dd : Nat → ClassId} {x : Nat} {ad : Nat → Nat} {σ : Tw} {t : List Nat} {sd : Nat → Nat} (hI1 : TxIs (σ 6) t) (hI3 : t.length ≤ 60) (hIc : ∀ c ∈ t, c < 65536) (hsd : SdOf (σ 0) sd) (hv : (mRun t t.length 0 [] [0]).1 = none) (hd8 : ∀ c ∈ t, 48 ≤ c → c ≤ 57 → c < 56) : TM l_ D dd x ad yX6_bracketCost cX6_bracketCost 4 (some .int) 1 23 [.ref x, .int (nI t.length)] σ (TI (fun r σ' => (∀ e S, cRun sd t t.length 0 [] = e :: S → S = [] → r = nI e.2.2) ∧ Ch [27, 28, 29] [] σ σ')) := by
  refine MW.intro (by decide) (Nat.le_of_ble_eq_true rfl) (fun p_ e_ s_ m_ as_ bl_ me_ c_ A_ X hr hnm => ?_)
  have X : VX p_ s_ m_ as_ me_ c_ cX6_bracketCost 4 RX6 D dd A_ := X
  refine v_eq (loc' := [(0, .ref x), (1, .int (nI t.length))]) rfl rfl rfl ?_
  refine v_iconst (pc := 0) (v := nI 0) X dX6_bracketCost_0 rfl ?_
  refine v_istore_n (pc := 1) (loc' := [(2, .int (nI 0)), (0, .ref x), (1, .int (nI t.length))]) X dX6_bracketCost_1 rfl (by decide) rfl ?_
  refine v_iconst (pc := 2) (v := nI 0) X dX6_bracketCost_2 rfl ?_
  refine v_istore_n (pc := 3) (loc' := [(3, .int (nI 0)), (2, .int (nI 0)), (0, .ref x), (1, .int (nI t.length))]) X dX6_bracketCost_3 rfl (by decide) rfl ?_
  refine v_sub [2, 3, 1, 0] rfl ?_
  refine v_loop4 (S := Nat) (T := List T3) (Z := List Nat × List Nat) (Y := Tw) (fun p S os τ => tw x ad dd τ) (fun p S os τ => [(0, .ref x), (1, .int (nI t.length)), (2, .int (nI S.length)), (3, .int (nI p))]) (fun p S os τ => CoI σ sd t p S os.1 os.2 τ) (fun p S os τ => t.length - p) (fun p S os τ hI4 ih4 => ?_) 0 ([]) (([], [0])) _ ⟨Ch.rf _ _ _, Nat.zero_le _, fun i e h => (by cases h), rfl, by simp, by simp, by simp, hv, rfl⟩
  obtain ⟨cs, ob⟩ := os
  obtain ⟨hC, hp, hPt, hSs, hne, hSp, hS8, hmr, hcr⟩ := hI4
  dsimp only at hSs hne hmr
  refine v_iload_n (pc := 4) X dX6_bracketCost_4 rfl 3 rfl ?_
  refine v_iload_n (pc := 5) X dX6_bracketCost_5 rfl 1 rfl ?_
  refine v_ic_geN (pc := 6) X (by omega) (by omega) 143 dX6_bracketCost_6 (by decide) (fun h6 => ?_) (fun h6 => ?_)
  · refine v_aload_n (pc := 143) X dX6_bracketCost_143 rfl 0 rfl ?_
    refine t_get (pc := 144) X 29 (by decide) q1985 rfl rfl dX6_bracketCost_144 ?_
    refine v_iconst (pc := 147) (v := nI 0) X dX6_bracketCost_147 rfl ?_
    refine v_iald (pc := 148) X 18 ta_29 rfl (by omega) (by decide) dX6_bracketCost_148 ?_
    exact t_iret (pc := 149) X hr dX6_bracketCost_149 ⟨_, rfl, fun e S2 he hS2 => co_end hcr h6 hPt he hS2, hC⟩
  · obtain ⟨c, hc⟩ := get_lt (L := t) (k := p) h6
    have hcm := List.mem_of_getElem? hc
    have hcb := hIc c hcm
    have hpl := (List.getElem?_eq_some_iff.mp hc).1
    have h6e : τ 6 = σ 6 := hC.1 6 (by decide) (by decide)
    obtain ⟨cs', ob', hmr', hne', hcase⟩ := co_step hmr hc hne
    have hic : σ 6 p = nI c := hI1 p c hc
    refine v_aload_n (pc := 9) X dX6_bracketCost_9 rfl 0 rfl ?_
    refine t_get (pc := 10) X 6 (by decide) q1962 rfl rfl dX6_bracketCost_10 ?_
    refine v_iload_n (pc := 13) X dX6_bracketCost_13 rfl 3 rfl ?_
    refine v_cald (pc := 14) X 5 ta_6 rfl (by omega) (by decide) dX6_bracketCost_14 ?_
    refine v_top (y := (nI c)) ((congrFun h6e _).trans hic) ?_
    refine v_bipush (pc := 15) (v := nI 48) X dX6_bracketCost_15 rfl ?_
    refine v_bipush (pc := 17) (v := nI 57) X dX6_bracketCost_17 rfl ?_
    refine t_callSI (pc := 19) X m_in (lw_S q2079 q2080 q109 q2081) hdX6_in ⟨Nat.le_of_ble_eq_true rfl, Nat.le_of_ble_eq_true rfl⟩ rfl rfl (Nat.le_of_ble_eq_true rfl) dX6_bracketCost_19 ⟨Nat.le_refl _, Nat.le_refl _⟩ (fun r19 σ19 hp19 => ?_)
    obtain ⟨rfl, rfl⟩ := hp19
    refine v_if_eqB (pc := 22) X 65 dX6_bracketCost_22 (by decide) (fun h22 => ?_) (fun h22 => ?_)
    · have hcd : ¬ (48 ≤ c ∧ c ≤ 57) := fun z => h22 ((inC hcb (by decide) (by decide)).mpr z)
      refine v_aload_n (pc := 65) X dX6_bracketCost_65 rfl 0 rfl ?_
      refine t_get (pc := 66) X 6 (by decide) q1962 rfl rfl dX6_bracketCost_66 ?_
      refine v_iload_n (pc := 69) X dX6_bracketCost_69 rfl 3 rfl ?_
      refine v_cald (pc := 70) X 5 ta_6 rfl (by omega) (by decide) dX6_bracketCost_70 ?_
      refine v_top (y := (nI c)) ((congrFun h6e _).trans hic) ?_
      refine v_bipush (pc := 71) (v := nI 41) X dX6_bracketCost_71 rfl ?_
      refine v_ic_neN (pc := 73) X (by omega) (by omega) 137 dX6_bracketCost_73 (by decide) (fun h73 => ?_) (fun h73 => ?_)
      · refine v_iinc (pc := 137) (v := (nI (p + 1))) (loc' := [(3, .int (nI (p + 1))), (0, .ref x), (1, .int (nI t.length)), (2, .int (nI S.length))]) X dX6_bracketCost_137 3 rfl (nI_add _ 1) (by decide) rfl ?_
        refine v_goto (pc := 140) X 4 dX6_bracketCost_140 (by decide) ?_
        refine v_sub [1, 2, 3, 0] rfl ?_
        exact ih4 (p + 1) S (cs', ob') _ ⟨hC, by omega, hPt, (by show S.length = ob'.sum; rcases hcase with ⟨h1, h2, _⟩ | ⟨h3, _⟩ | ⟨_, h3⟩; exact absurd ⟨h1, h2⟩ hcd; exact absurd h3 h73; omega), hne', by omega, hS8, hmr', by rw [← hcr, cRun_s hpl, getD_g hc]; unfold cStep; rw [if_neg hcd, if_neg h73]⟩ (by omega)
      · obtain ⟨y1, x1, r1, hSr0⟩ : ∃ y1 x1 r1, S = y1 :: x1 :: r1 := by
          have : 2 ≤ S.length := by rcases hcase with ⟨h1, h2, _⟩ | ⟨_, _, h3⟩ | ⟨h3, _⟩ <;> omega
          cases S with
          | nil => simp at this
          | cons y1 S2 => cases S2 with
            | nil => simp at this
            | cons x1 r1 => exact ⟨y1, x1, r1, rfl⟩
        have hSl : S.length = r1.length + 2 := by rw [hSr0]; rfl
        have hSr : S.length - 1 - 1 = r1.length := by omega
        have hSr1 : S.length - 1 = r1.length + 1 := by omega
        have hPt0 := hPt
        rw [hSr0] at hPt
        have hy1 := hPt.top
        have hx1 := hPt.tail.top
        have hyb := hS8 y1 (by rw [hSr0]; simp)
        have hxb := hS8 x1 (by rw [hSr0]; simp)
        have hSp0 := hSp
        have hSs0 := hSs
        rw [hSr0] at hSs hSp
        have hg0 : τ 0 = σ 0 := hC.1 0 (by decide) (by decide)
        refine v_iinc (pc := 76) (v := (nI (S.length - 1))) (loc' := [(2, .int (nI (S.length - 1))), (0, .ref x), (1, .int (nI t.length)), (3, .int (nI p))]) X dX6_bracketCost_76 2 rfl (nI_dec (by omega)) (by decide) rfl ?_
        refine v_aload_n (pc := 79) X dX6_bracketCost_79 rfl 1 rfl ?_
        refine t_get (pc := 80) X 29 (by decide) q1985 rfl rfl dX6_bracketCost_80 ?_
        refine v_iload_n (pc := 83) X dX6_bracketCost_83 rfl 0 rfl ?_
        refine v_iconst (pc := 84) (v := nI 1) X dX6_bracketCost_84 rfl ?_
        refine v_isubN (pc := 85) X (by omega) dX6_bracketCost_85 ?_
        refine v_dup2 (pc := 86) X dX6_bracketCost_86 rfl rfl ?_
        refine v_iald (pc := 87) X 18 ta_29 rfl (by omega) (by decide) dX6_bracketCost_87 ?_
        refine v_top (y := (nI x1.2.2)) (by rw [hSr]; exact hx1.2.2) ?_
        refine v_aload_n (pc := 88) X dX6_bracketCost_88 rfl 1 rfl ?_
        refine t_get (pc := 89) X 29 (by decide) q1985 rfl rfl dX6_bracketCost_89 ?_
        refine v_iload_n (pc := 92) X dX6_bracketCost_92 rfl 0 rfl ?_
        refine v_iald (pc := 93) X 18 ta_29 rfl (by omega) (by decide) dX6_bracketCost_93 ?_
        refine v_top (y := (nI y1.2.2)) (by rw [hSr1]; exact hy1.2.2) ?_
        refine v_aload_n (pc := 94) X dX6_bracketCost_94 rfl 1 rfl ?_
        refine v_aload_n (pc := 95) X dX6_bracketCost_95 rfl 1 rfl ?_
        refine t_get (pc := 96) X 27 (by decide) q1983 rfl rfl dX6_bracketCost_96 ?_
        refine v_iload_n (pc := 99) X dX6_bracketCost_99 rfl 0 rfl ?_
        refine v_iconst (pc := 100) (v := nI 1) X dX6_bracketCost_100 rfl ?_
        refine v_isubN (pc := 101) X (by omega) dX6_bracketCost_101 ?_
        refine v_iald (pc := 102) X 16 ta_27 rfl (by omega) (by decide) dX6_bracketCost_102 ?_
        refine v_top (y := (nI x1.1)) (by rw [hSr]; exact hx1.1) ?_
        refine v_aload_n (pc := 103) X dX6_bracketCost_103 rfl 1 rfl ?_
        refine t_get (pc := 104) X 28 (by decide) q1984 rfl rfl dX6_bracketCost_104 ?_
        refine v_iload_n (pc := 107) X dX6_bracketCost_107 rfl 0 rfl ?_
        refine v_iconst (pc := 108) (v := nI 1) X dX6_bracketCost_108 rfl ?_
        refine v_isubN (pc := 109) X (by omega) dX6_bracketCost_109 ?_
        refine v_iald (pc := 110) X 17 ta_28 rfl (by omega) (by decide) dX6_bracketCost_110 ?_
        refine v_top (y := (nI x1.2.1)) (by rw [hSr]; exact hx1.2.1) ?_
        refine v_aload_n (pc := 111) X dX6_bracketCost_111 rfl 1 rfl ?_
        refine t_get (pc := 112) X 28 (by decide) q1984 rfl rfl dX6_bracketCost_112 ?_
        refine v_iload_n (pc := 115) X dX6_bracketCost_115 rfl 0 rfl ?_
        refine v_iald (pc := 116) X 17 ta_28 rfl (by omega) (by decide) dX6_bracketCost_116 ?_
        refine v_top (y := (nI y1.2.1)) (by rw [hSr1]; exact hy1.2.1) ?_
        refine t_callI (pc := 117) X (m_pour (by omega) (by omega) (by omega)) (lw_V q2171 q2173 qs53 q109 q2174) hdX6_pour ⟨Nat.le_of_ble_eq_true rfl, Nat.le_of_ble_eq_true rfl⟩ rfl rfl (Nat.le_of_ble_eq_true rfl) dX6_bracketCost_117 ⟨Nat.le_refl _, Nat.le_refl _⟩ (fun r117 σ117 hp117 => ?_)
        obtain ⟨rfl, rfl⟩ := hp117
        refine v_top (y := (nI (prN sd x1.1 x1.2.1 y1.2.1))) (by rw [hg0]; exact pour_nI hsd (by omega) (by omega) (by omega)) ?_
        refine v_iaddN (pc := 120) X dX6_bracketCost_120 ?_
        refine v_iaddN (pc := 121) X dX6_bracketCost_121 ?_
        refine v_iast (pc := 122) X 18 ta_29 rfl (by omega) (by decide) dX6_bracketCost_122 (tb_29 _) ?_
        rw [hSr1]
        refine v_aload_n (pc := 123) X dX6_bracketCost_123 rfl 1 rfl ?_
        refine t_get (pc := 124) X 28 (by decide) q1984 rfl rfl dX6_bracketCost_124 ?_
        refine v_iload_n (pc := 127) X dX6_bracketCost_127 rfl 0 rfl ?_
        refine v_iconst (pc := 128) (v := nI 1) X dX6_bracketCost_128 rfl ?_
        refine v_isubN (pc := 129) X (by omega) dX6_bracketCost_129 ?_
        refine v_aload_n (pc := 130) X dX6_bracketCost_130 rfl 1 rfl ?_
        refine t_get (pc := 131) X 28 (by decide) q1984 rfl rfl dX6_bracketCost_131 ?_
        refine v_iload_n (pc := 134) X dX6_bracketCost_134 rfl 0 rfl ?_
        refine v_iald (pc := 135) X 17 ta_28 rfl (by omega) (by decide) dX6_bracketCost_135 ?_
        refine v_top (y := (nI y1.2.1)) hy1.2.1 ?_
        refine v_iast (pc := 136) X 17 ta_28 rfl (by omega) (by decide) dX6_bracketCost_136 (tb_28 _) ?_
        refine v_iinc (pc := 137) (v := (nI (p + 1))) (loc' := [(3, .int (nI (p + 1))), (2, .int (nI (r1.length + 1))), (0, .ref x), (1, .int (nI t.length))]) X dX6_bracketCost_137 3 rfl (nI_add _ 1) (by decide) rfl ?_
        refine v_goto (pc := 140) X 4 dX6_bracketCost_140 (by decide) ?_
        refine v_sub [2, 3, 1, 0] rfl ?_
        exact ih4 (p + 1) ((x1.1, y1.2.1, x1.2.2 + (y1.2.2 + prN sd x1.1 x1.2.1 y1.2.1)) :: r1) (cs', ob') _ ⟨(hC.row 29 _ (by decide) (by decide)).row 28 _ (by decide) (by decide), by omega, (hPt.tail.tail.cons (fun i hi => ⟨rfl, upd_n (show i ≠ r1.length + 1 - 1 by omega), upd_n (show i ≠ r1.length + 1 - 1 by omega)⟩) hx1.1 (upd_s _ (r1.length + 1 - 1) _) (upd_s _ (r1.length + 1 - 1) _)), (by show r1.length + 1 = ob'.sum; rcases hcase with ⟨h1, h2, _⟩ | ⟨_, h3, _⟩ | ⟨h3, _⟩ <;> omega), hne', by show r1.length + 1 ≤ p + 1; omega, (fun e he => by rcases List.mem_cons.mp he with h | h; subst h; exact ⟨hxb.1, hyb.2⟩; exact hS8 e (by rw [hSr0]; simp [h])), hmr', by rw [← hcr, cRun_s hpl, getD_g hc]; unfold cStep; rw [if_neg hcd, if_pos h73, hSr0]⟩ (by omega)
    · have hcd := (inC hcb (by decide) (by decide)).mp h22
      have hc8 := hd8 c hcm hcd.1 hcd.2
      refine v_aload_n (pc := 25) X dX6_bracketCost_25 rfl 0 rfl ?_
      refine t_get (pc := 26) X 27 (by decide) q1983 rfl rfl dX6_bracketCost_26 ?_
      refine v_iload_n (pc := 29) X dX6_bracketCost_29 rfl 2 rfl ?_
      refine v_aload_n (pc := 30) X dX6_bracketCost_30 rfl 0 rfl ?_
      refine t_get (pc := 31) X 6 (by decide) q1962 rfl rfl dX6_bracketCost_31 ?_
      refine v_iload_n (pc := 34) X dX6_bracketCost_34 rfl 3 rfl ?_
      refine v_cald (pc := 35) X 5 ta_6 rfl (by omega) (by decide) dX6_bracketCost_35 ?_
      refine v_top (y := (nI c)) ((congrFun h6e _).trans hic) ?_
      refine v_bipush (pc := 36) (v := nI 48) X dX6_bracketCost_36 rfl ?_
      refine v_isubN (pc := 38) X (by omega) dX6_bracketCost_38 ?_
      refine v_iast (pc := 39) X 16 ta_27 rfl (by omega) (by decide) dX6_bracketCost_39 (tb_27 _) ?_
      refine v_aload_n (pc := 40) X dX6_bracketCost_40 rfl 0 rfl ?_
      refine t_get (pc := 41) X 28 (by decide) q1984 rfl rfl dX6_bracketCost_41 ?_
      refine v_iload_n (pc := 44) X dX6_bracketCost_44 rfl 2 rfl ?_
      refine v_aload_n (pc := 45) X dX6_bracketCost_45 rfl 0 rfl ?_
      refine t_get (pc := 46) X 6 (by decide) q1962 rfl rfl dX6_bracketCost_46 ?_
      refine v_iload_n (pc := 49) X dX6_bracketCost_49 rfl 3 rfl ?_
      refine v_cald (pc := 50) X 5 ta_6 rfl (by omega) (by decide) dX6_bracketCost_50 ?_
      refine v_top (y := (nI c)) ((congrFun h6e _).trans hic) ?_
      refine v_bipush (pc := 51) (v := nI 48) X dX6_bracketCost_51 rfl ?_
      refine v_isubN (pc := 53) X (by omega) dX6_bracketCost_53 ?_
      refine v_iast (pc := 54) X 17 ta_28 rfl (by omega) (by decide) dX6_bracketCost_54 (tb_28 _) ?_
      refine v_aload_n (pc := 55) X dX6_bracketCost_55 rfl 0 rfl ?_
      refine t_get (pc := 56) X 29 (by decide) q1985 rfl rfl dX6_bracketCost_56 ?_
      refine v_iload_n (pc := 59) X dX6_bracketCost_59 rfl 2 rfl ?_
      refine v_iconst (pc := 60) (v := nI 0) X dX6_bracketCost_60 rfl ?_
      refine v_iast (pc := 61) X 18 ta_29 rfl (by omega) (by decide) dX6_bracketCost_61 (tb_29 _) ?_
      refine v_iinc (pc := 62) (v := (nI (S.length + 1))) (loc' := [(2, .int (nI (S.length + 1))), (0, .ref x), (1, .int (nI t.length)), (3, .int (nI p))]) X dX6_bracketCost_62 2 rfl (nI_add _ 1) (by decide) rfl ?_
      refine v_aload_n (pc := 65) X dX6_bracketCost_65 rfl 1 rfl ?_
      refine t_get (pc := 66) X 6 (by decide) q1962 rfl rfl dX6_bracketCost_66 ?_
      refine v_iload_n (pc := 69) X dX6_bracketCost_69 rfl 3 rfl ?_
      refine v_cald (pc := 70) X 5 ta_6 rfl (by omega) (by decide) dX6_bracketCost_70 ?_
      refine v_top (y := (nI c)) ((congrFun h6e _).trans hic) ?_
      refine v_bipush (pc := 71) (v := nI 41) X dX6_bracketCost_71 rfl ?_
      refine v_ic_neN (pc := 73) X (by omega) (by omega) 137 dX6_bracketCost_73 (by decide) (fun h73 => ?_) (fun h73 => absurd h73 (by omega))
      refine v_iinc (pc := 137) (v := (nI (p + 1))) (loc' := [(3, .int (nI (p + 1))), (2, .int (nI (S.length + 1))), (0, .ref x), (1, .int (nI t.length))]) X dX6_bracketCost_137 3 rfl (nI_add _ 1) (by decide) rfl ?_
      refine v_goto (pc := 140) X 4 dX6_bracketCost_140 (by decide) ?_
      refine v_sub [2, 3, 1, 0] rfl ?_
      exact ih4 (p + 1) ((c - 48, c - 48, 0) :: S) (cs', ob') _ ⟨((hC.row 27 _ (by decide) (by decide)).row 28 _ (by decide) (by decide)).row 29 _ (by decide) (by decide), by omega, (hPt.cons (fun i hi => ⟨upd_n (by omega), upd_n (by omega), upd_n (by omega)⟩) (upd_s _ _ _) (upd_s _ _ _) (upd_s _ _ _)), (by show S.length + 1 = ob'.sum; rcases hcase with ⟨_, _, h3⟩ | ⟨h3, _⟩ | ⟨h3, _⟩ <;> omega), hne', by show S.length + 1 ≤ p + 1; omega, (fun e he => by rcases List.mem_cons.mp he with h | h; subst h; dsimp only; omega; exact hS8 e h), hmr', by rw [← hcr, cRun_s hpl, getD_g hc]; unfold cStep; rw [if_pos hcd]⟩ (by omega)
theorem hdX6_brackets : yX6_brackets.cls = RX6 ∧ yX6_brackets.cls ≠ "java/lang/invoke/MethodHandle" ∧ yX6_brackets.cls ≠ "java/lang/invoke/VarHandle" ∧ (parseMethodDescriptor yX6_brackets.desc).map (fun d => d.parameters.length) = some 0 := by decide +kernel
set_option maxHeartbeats 4000000 in
theorem m_brackets {l_ : Launch} {D : va_G} {dd : Nat → ClassId} {x : Nat} {ad : Nat → Nat} {σ : Tw} {a : AS} (hT : TRel σ a) : TM l_ D dd x ad yX6_brackets cX6_brackets 4 (some .int) 2 46 [.ref x] σ (TI (fun r σ' => TOut (brkA a).1 (brkA a).2.1 (brkA a).2.2 r σ')) := by
  obtain ⟨hwf, hnS, hnC, hnP⟩ := hT.f
  obtain ⟨hn, h9, hsd, h50, hs1, hS, hp, hp4, hPs⟩ := id hwf
  have hsde : sdN (σ 0) = sdN a.1 := sdN_eq hT.1
  have hste : stN (σ 0) = stN a.1 := stN_eq hT.1
  rw [hsde] at hsd h50 hs1
  have hI := hT.2.2.2.2.2.2.1
  obtain ⟨hI1, hI2, hI3, hI4⟩ := id hI
  have hma := mach_all a.2.2.2.1
  refine MW.intro (by decide) (Nat.le_of_ble_eq_true rfl) (fun p_ e_ s_ m_ as_ bl_ me_ c_ A_ X hr hnm => ?_)
  have X : VX p_ s_ m_ as_ me_ c_ cX6_brackets 4 RX6 D dd A_ := X
  refine v_eq (loc' := [(0, .ref x)]) rfl rfl rfl ?_
  refine v_aload_n (pc := 0) X dX6_brackets_0 rfl 0 rfl ?_
  refine t_callI (pc := 1) X (m_readsBrackets hI) (lw_V q2203 q2205 qs55 q109 q2206) hdX6_readsBrackets ⟨Nat.le_of_ble_eq_true rfl, Nat.le_of_ble_eq_true rfl⟩ rfl rfl (Nat.le_of_ble_eq_true rfl) dX6_brackets_1 ⟨Nat.le_refl _, Nat.le_refl _⟩ (fun r1 σ1 hp1 => ?_)
  obtain ⟨rfl, hD1, hM1, hC1, hl60, hx9⟩ := hp1
  have hg1 : σ1 0 = σ 0 := hC1.1 0 (by decide) (by decide)
  have hTr : TRel (ws1 (ws1 σ1 7 (nI 0)) 8 (oI (mRun a.2.2.2.1 a.2.2.2.1.length 0 [] [0]).1)) (stepI a (oI (mRun a.2.2.2.1 a.2.2.2.1.length 0 [] [0]).1)) := tr_inp hT (((hC1.mono (Rs' := 33 :: scQ) (Ns' := 7 :: 8 :: scQN) (by decide) (by decide)).num 7 _ (by decide)).num 8 _ (by decide)) rfl rfl
  have hn1 : σ1 0 0 = nI (nS (σ 0)) := by rw [hg1]; exact hn
  refine v_istore_n (pc := 4) (loc' := [(1, .int (oI (mRun a.2.2.2.1 a.2.2.2.1.length 0 [] [0]).1)), (0, .ref x)]) X dX6_brackets_4 rfl (by decide) rfl ?_
  refine v_aload_n (pc := 5) X dX6_brackets_5 rfl 1 rfl ?_
  refine t_get (pc := 6) X 7 (by decide) q1963 rfl rfl dX6_brackets_6 ?_
  refine v_top (y := (nI a.2.2.2.1.length)) ((hC1.2 7 (by decide)).trans hI2) ?_
  refine v_istore_n (pc := 9) (loc' := [(2, .int (nI a.2.2.2.1.length)), (1, .int (oI (mRun a.2.2.2.1 a.2.2.2.1.length 0 [] [0]).1)), (0, .ref x)]) X dX6_brackets_9 rfl (by decide) rfl ?_
  refine v_aload_n (pc := 10) X dX6_brackets_10 rfl 2 rfl ?_
  refine v_iconst (pc := 11) (v := nI 0) X dX6_brackets_11 rfl ?_
  refine t_put (pc := 12) X 7 (by decide) q1963 rfl rfl rfl rfl dX6_brackets_12 (tf_7 _) ?_
  refine v_aload_n (pc := 15) X dX6_brackets_15 rfl 2 rfl ?_
  refine v_iload_n (pc := 16) X dX6_brackets_16 rfl 1 rfl ?_
  refine t_put (pc := 17) X 8 (by decide) q1964 rfl rfl rfl rfl dX6_brackets_17 (tf_8 _) ?_
  refine v_iload_n (pc := 20) X dX6_brackets_20 rfl 1 rfl ?_
  refine v_iconst (pc := 21) (v := -1) X dX6_brackets_21 rfl ?_
  refine v_ic_eq (pc := 22) X 31 dX6_brackets_22 (by decide) (fun h22 => ?_) (fun h22 => ?_)
  · have hnone := oI_none (mach_bd hI3) h22
    obtain ⟨T, q, hpa⟩ := brk_some hnone
    have hrun : (mRun a.2.2.2.1 a.2.2.2.1.length 0 [] [0]) = (none, lvs T) := by rw [hpa] at hma; exact hma
    have hlv0 := lvs_hd T
    have hlvl := lvs_lt T
    have hlp := (List.getElem?_eq_some_iff.mp hlv0).1
    have hD2 : TxIs (σ1 25) (lvs T) := by rw [hrun] at hD1; exact hD1
    have hM2 : σ1 99 26 = nI (lvs T).length := by rw [hrun] at hM1; exact hM1
    have hl2 : (lvs T).length ≤ 60 := by rw [hrun] at hl60; exact hl60
    have hx2 : ∀ v ∈ lvs T, v ≤ 9 := by rw [hrun] at hx9; exact hx9
    have hTr2 : TRel (ws1 (ws1 σ1 7 (nI 0)) 8 (oI (mRun a.2.2.2.1 a.2.2.2.1.length 0 [] [0]).1)) (stepI a (-1)) := by rw [h22] at hTr ⊢; exact hTr
    have hbk : brkA a = brkT a T := by unfold brkA; rw [hpa]
    have hl9 := hx2 _ (List.mem_of_getElem? hlvl)
    have hf9 := hx2 _ (List.mem_of_getElem? hlv0)
    refine v_aload_n (pc := 31) X dX6_brackets_31 rfl 2 rfl ?_
    refine t_callI (pc := 32) X (m_misplaced hD2 hM2 hl2 hx2) (lw_V q2207 q2209 qs56 q109 q2210) hdX6_misplaced ⟨Nat.le_of_ble_eq_true rfl, Nat.le_of_ble_eq_true rfl⟩ rfl rfl (Nat.le_of_ble_eq_true rfl) dX6_brackets_32 ⟨Nat.le_refl _, Nat.le_refl _⟩ (fun r32 σ32 hp32 => ?_)
    obtain ⟨rfl, rfl⟩ := hp32
    refine v_iconst (pc := 35) (v := -1) X dX6_brackets_35 rfl ?_
    refine v_ic_eq (pc := 36) X 50 dX6_brackets_36 (by decide) (fun h36 => ?_) (fun h36 => ?_)
    · have hmi := oI_none (misp_bd hx2) h36
      refine v_aload_n (pc := 50) X dX6_brackets_50 rfl 2 rfl ?_
      refine t_get (pc := 51) X 25 (by decide) q1981 rfl rfl dX6_brackets_51 ?_
      refine v_aload_n (pc := 54) X dX6_brackets_54 rfl 2 rfl ?_
      refine t_get (pc := 55) X 26 (by decide) q1982 rfl rfl dX6_brackets_55 ?_
      refine v_top (y := (nI ((lvs T).length))) hM2 ?_
      refine v_iconst (pc := 58) (v := nI 1) X dX6_brackets_58 rfl ?_
      refine v_isubN (pc := 59) X (by omega) dX6_brackets_59 ?_
      refine v_iald (pc := 60) X 15 ta_25 rfl (by omega) (by decide) dX6_brackets_60 ?_
      refine v_top (y := (nI (lsT T))) (hD2 _ _ hlvl) ?_
      refine v_istore_n (pc := 61) (loc' := [(3, .int (nI (lsT T))), (2, .int (nI a.2.2.2.1.length)), (1, .int (oI (mRun a.2.2.2.1 a.2.2.2.1.length 0 [] [0]).1)), (0, .ref x)]) X dX6_brackets_61 rfl (by decide) rfl ?_
      refine v_iload_n (pc := 62) X dX6_brackets_62 rfl 0 rfl ?_
      refine v_aload_n (pc := 63) X dX6_brackets_63 rfl 3 rfl ?_
      refine t_callI (pc := 64) X (m_vats hn1 h9) (lw_V q2090 q2092 qs40 q109 q2093) hdX6_vats ⟨Nat.le_of_ble_eq_true rfl, Nat.le_of_ble_eq_true rfl⟩ rfl rfl (Nat.le_of_ble_eq_true rfl) dX6_brackets_64 ⟨Nat.le_refl _, Nat.le_refl _⟩ (fun r64 σ64 hp64 => ?_)
      obtain ⟨rfl, rfl⟩ := hp64
      refine v_ic_ltN (pc := 67) X (by omega) (by omega) 103 dX6_brackets_67 (by decide) (fun h67 => ?_) (fun h67 => ?_)
      · have h8 : lsT T < 8 := by omega
        refine v_aload_n (pc := 103) X dX6_brackets_103 rfl 3 rfl ?_
        refine v_aload_n (pc := 104) X dX6_brackets_104 rfl 3 rfl ?_
        refine v_iload_n (pc := 105) X dX6_brackets_105 rfl 1 rfl ?_
        refine t_callI (pc := 106) X (m_bracketCost (t := a.2.2.2.1) (sd := sdN a.1) (by show TxIs (σ1 6) _; rw [hC1.1 6 (by decide) (by decide)]; exact hI1) hI3 hI4 (by show SdOf (σ1 0) _; rw [hg1]; exact hsd) hnone (dig8 hrun hmi hlvl h8)) (lw_V q2211 q2213 qs57 q109 q2214) hdX6_bracketCost ⟨Nat.le_of_ble_eq_true rfl, Nat.le_of_ble_eq_true rfl⟩ rfl rfl (Nat.le_of_ble_eq_true rfl) dX6_brackets_106 ⟨Nat.le_refl _, Nat.le_refl _⟩ (fun r106 σ106 hp106 => ?_)
        have hco := hp106.1 _ _ (cost_all hpa) rfl
        refine t_callI (pc := 109) X m_done (lw_V q2094 q2096 qs41 q109 q2097) hdX6_done ⟨Nat.le_of_ble_eq_true rfl, Nat.le_of_ble_eq_true rfl⟩ rfl rfl (Nat.le_of_ble_eq_true rfl) dX6_brackets_109 ⟨Nat.le_refl _, Nat.le_refl _⟩ (fun r109 σ109 hp109 => ?_)
        obtain ⟨rfl, rfl⟩ := hp109
        exact t_iret (pc := 112) X hr dX6_brackets_112 ⟨_, rfl, by rw [hbk]; unfold brkT; rw [hmi]; dsimp only; rw [if_pos (by rw [← hnS]; exact h67)]; exact ⟨hTr2.keep ((hp106.2.mono (Rs' := [27, 28, 29]) (Ns' := [14]) (by decide) (by decide)).num 14 _ (by decide)) (by decide) (by decide), rfl, fun _ => hco⟩⟩
      · refine v_aload_n (pc := 70) X dX6_brackets_70 rfl 3 rfl ?_
        refine v_iconst (pc := 71) (v := nI 5) X dX6_brackets_71 rfl ?_
        refine v_aload_n (pc := 72) X dX6_brackets_72 rfl 3 rfl ?_
        refine t_get (pc := 73) X 25 (by decide) q1981 rfl rfl dX6_brackets_73 ?_
        refine v_iconst (pc := 76) (v := nI 0) X dX6_brackets_76 rfl ?_
        refine v_iald (pc := 77) X 15 ta_25 rfl (by omega) (by decide) dX6_brackets_77 ?_
        refine v_top (y := (nI (fsT T))) (hD2 0 _ hlv0) ?_
        refine v_aload_n (pc := 78) X dX6_brackets_78 rfl 3 rfl ?_
        refine t_callI (pc := 79) X (m_vats hn1 h9) (lw_V q2090 q2092 qs40 q109 q2093) hdX6_vats ⟨Nat.le_of_ble_eq_true rfl, Nat.le_of_ble_eq_true rfl⟩ rfl rfl (Nat.le_of_ble_eq_true rfl) dX6_brackets_79 ⟨Nat.le_refl _, Nat.le_refl _⟩ (fun r79 σ79 hp79 => ?_)
        obtain ⟨rfl, rfl⟩ := hp79
        refine v_ic_leN (pc := 82) X (by omega) (by omega) 94 dX6_brackets_82 (by decide) (fun h82 => ?_) (fun h82 => ?_)
        · refine v_aload_n (pc := 94) X dX6_brackets_94 rfl 3 rfl ?_
          refine t_callI (pc := 95) X (m_vats hn1 h9) (lw_V q2090 q2092 qs40 q109 q2093) hdX6_vats ⟨Nat.le_of_ble_eq_true rfl, Nat.le_of_ble_eq_true rfl⟩ rfl rfl (Nat.le_of_ble_eq_true rfl) dX6_brackets_95 ⟨Nat.le_refl _, Nat.le_refl _⟩ (fun r95 σ95 hp95 => ?_)
          obtain ⟨rfl, rfl⟩ := hp95
          refine v_iconst (pc := 98) (v := nI 2) X dX6_brackets_98 rfl ?_
          refine t_callI (pc := 99) X m_refused (lw_V q2086 q2088 qs39 q109 q2089) hdX6_refused ⟨Nat.le_of_ble_eq_true rfl, Nat.le_of_ble_eq_true rfl⟩ rfl rfl (Nat.le_of_ble_eq_true rfl) dX6_brackets_99 ⟨Nat.le_refl _, Nat.le_refl _⟩ (fun r99 σ99 hp99 => ?_)
          obtain ⟨rfl, rfl⟩ := hp99
          exact t_iret (pc := 102) X hr dX6_brackets_102 ⟨_, rfl, by rw [hbk]; unfold brkT; rw [hmi]; dsimp only; rw [if_neg (by rw [← hnS]; omega), Nat.max_eq_right (by rw [← hnS]; omega), ← hnS]; exact ⟨tr_ref hTr2, rfl, fun z => by cases z⟩⟩
        · refine v_aload_n (pc := 85) X dX6_brackets_85 rfl 3 rfl ?_
          refine t_get (pc := 86) X 25 (by decide) q1981 rfl rfl dX6_brackets_86 ?_
          refine v_iconst (pc := 89) (v := nI 0) X dX6_brackets_89 rfl ?_
          refine v_iald (pc := 90) X 15 ta_25 rfl (by omega) (by decide) dX6_brackets_90 ?_
          refine v_top (y := (nI (fsT T))) (hD2 0 _ hlv0) ?_
          refine v_goto (pc := 91) X 98 dX6_brackets_91 (by decide) ?_
          refine v_iconst (pc := 98) (v := nI 2) X dX6_brackets_98 rfl ?_
          refine t_callI (pc := 99) X m_refused (lw_V q2086 q2088 qs39 q109 q2089) hdX6_refused ⟨Nat.le_of_ble_eq_true rfl, Nat.le_of_ble_eq_true rfl⟩ rfl rfl (Nat.le_of_ble_eq_true rfl) dX6_brackets_99 ⟨Nat.le_refl _, Nat.le_refl _⟩ (fun r99 σ99 hp99 => ?_)
          obtain ⟨rfl, rfl⟩ := hp99
          exact t_iret (pc := 102) X hr dX6_brackets_102 ⟨_, rfl, by rw [hbk]; unfold brkT; rw [hmi]; dsimp only; rw [if_neg (by rw [← hnS]; omega), Nat.max_eq_left (by rw [← hnS]; omega)]; exact ⟨tr_ref hTr2, rfl, fun z => by cases z⟩⟩
    · refine v_aload_n (pc := 39) X dX6_brackets_39 rfl 2 rfl ?_
      refine v_iconst (pc := 40) (v := nI 4) X dX6_brackets_40 rfl ?_
      refine v_aload_n (pc := 41) X dX6_brackets_41 rfl 2 rfl ?_
      refine t_callI (pc := 42) X (m_misplaced hD2 hM2 hl2 hx2) (lw_V q2207 q2209 qs56 q109 q2210) hdX6_misplaced ⟨Nat.le_of_ble_eq_true rfl, Nat.le_of_ble_eq_true rfl⟩ rfl rfl (Nat.le_of_ble_eq_true rfl) dX6_brackets_42 ⟨Nat.le_refl _, Nat.le_refl _⟩ (fun r42 σ42 hp42 => ?_)
      obtain ⟨rfl, rfl⟩ := hp42
      refine v_iconst (pc := 45) (v := nI 2) X dX6_brackets_45 rfl ?_
      refine t_callI (pc := 46) X m_refused (lw_V q2086 q2088 qs39 q109 q2089) hdX6_refused ⟨Nat.le_of_ble_eq_true rfl, Nat.le_of_ble_eq_true rfl⟩ rfl rfl (Nat.le_of_ble_eq_true rfl) dX6_brackets_46 ⟨Nat.le_refl _, Nat.le_refl _⟩ (fun r46 σ46 hp46 => ?_)
      obtain ⟨rfl, rfl⟩ := hp46
      exact t_iret (pc := 49) X hr dX6_brackets_49 ⟨_, rfl, by obtain ⟨v, hv⟩ : ∃ v, misp (lvs T) = some v := Option.ne_none_iff_exists'.mp (fun z => h36 (by rw [z]; rfl)); rw [hbk, hv]; unfold brkT; rw [hv]; exact ⟨tr_ref hTr2, rfl, fun z => by cases z⟩⟩
  · refine v_aload_n (pc := 25) X dX6_brackets_25 rfl 2 rfl ?_
    refine v_iconst (pc := 26) (v := nI 1) X dX6_brackets_26 rfl ?_
    refine t_callI (pc := 27) X m_fails (lw_V q2082 q2084 qs38 q109 q2085) hdX6_fails ⟨Nat.le_of_ble_eq_true rfl, Nat.le_of_ble_eq_true rfl⟩ rfl rfl (Nat.le_of_ble_eq_true rfl) dX6_brackets_27 ⟨Nat.le_refl _, Nat.le_refl _⟩ (fun r27 σ27 hp27 => ?_)
    obtain ⟨rfl, rfl⟩ := hp27
    exact t_iret (pc := 30) X hr dX6_brackets_30 ⟨_, rfl, by obtain ⟨q, hq1, hq2⟩ := brk_none (fun z => h22 (by rw [z]; rfl)); rw [hq2] at hTr ⊢; unfold brkA; rw [hq1]; exact ⟨tr_fails hTr, rfl, fun z => by cases z⟩⟩

theorem hdX6_pouringOf : yX6_pouringOf.cls = RX6 ∧ yX6_pouringOf.cls ≠ "java/lang/invoke/MethodHandle" ∧ yX6_pouringOf.cls ≠ "java/lang/invoke/VarHandle" ∧ (parseMethodDescriptor yX6_pouringOf.desc).map (fun d => d.parameters.length) = some 3 := by decide +kernel
set_option maxHeartbeats 4000000 in
theorem m_pouringOf {l_ : Launch} {D : va_G} {dd : Nat → ClassId} {x : Nat} {ad : Nat → Nat} {σ : Tw} {a c : Nat} (ha : a < 100) (hc : c < 100) {i f l : Nat} {sp : Nat → Nat → Nat} (hi : i < 4) (hPl : PlanAt (σ 0) i f l sp) : TM l_ D dd x ad yX6_pouringOf cX6_pouringOf 6 (some .int) 2 45 [.ref x, .int (nI i), .int (nI a), .int (nI c)] σ (TI (fun r σ' => oI (idxL (pl sp f l) a c (l - f)) = r ∧ σ = σ')) := by
  have hfl := hPl.1
  have hl8 := hPl.2.1
  have hsp := hPl.2.2.1
  have hpf := hPl.2.2.2.1
  have hpl := hPl.2.2.2.2.1
  have hpe := hPl.2.2.2.2.2
  have hLn := pl_length hsp f l
  refine MW.intro (by decide) (Nat.le_of_ble_eq_true rfl) (fun p_ e_ s_ m_ as_ bl_ me_ c_ A_ X hr hnm => ?_)
  have X : VX p_ s_ m_ as_ me_ c_ cX6_pouringOf 6 RX6 D dd A_ := X
  refine v_eq (loc' := [(0, .ref x), (1, .int (nI i)), (2, .int (nI a)), (3, .int (nI c))]) rfl rfl rfl ?_
  refine v_iconst (pc := 0) (v := -1) X dX6_pouringOf_0 rfl ?_
  refine v_istore (pc := 1) (loc' := [(4, .int ((-1))), (0, .ref x), (1, .int (nI i)), (2, .int (nI a)), (3, .int (nI c))]) X dX6_pouringOf_1 (by decide) rfl ?_
  refine v_iconst (pc := 3) (v := nI 0) X dX6_pouringOf_3 rfl ?_
  refine v_istore (pc := 4) (loc' := [(5, .int (nI 0)), (4, .int ((-1))), (0, .ref x), (1, .int (nI i)), (2, .int (nI a)), (3, .int (nI c))]) X dX6_pouringOf_4 (by decide) rfl ?_
  refine v_sub [2, 3, 4, 5, 1, 0] rfl ?_
  refine v_loop1 (S := Nat) (fun k => tw x ad dd σ) (fun k => [(0, .ref x), (1, .int (nI i)), (2, .int (nI a)), (3, .int (nI c)), (4, .int ((oI (idxL (pl sp f l) a c k)))), (5, .int (nI k))]) (fun k => k ≤ l - f) (fun k => l - f - k) (fun k hI6 ih6 => ?_) 0 (Nat.zero_le _)
  refine v_iload (pc := 6) X dX6_pouringOf_6 5 rfl ?_
  refine v_aload_n (pc := 8) X dX6_pouringOf_8 rfl 0 rfl ?_
  refine v_iload_n (pc := 9) X dX6_pouringOf_9 rfl 1 rfl ?_
  refine t_callI (pc := 10) X (m_pourings hi hpf hpl hfl) (lw_V q2247 q2249 qs63 q109 q2250) hdX6_pourings ⟨Nat.le_of_ble_eq_true rfl, Nat.le_of_ble_eq_true rfl⟩ rfl rfl (Nat.le_of_ble_eq_true rfl) dX6_pouringOf_10 ⟨Nat.le_refl _, Nat.le_refl _⟩ (fun r10 σ10 hp10 => ?_)
  obtain ⟨rfl, rfl⟩ := hp10
  refine v_ic_geN (pc := 13) X (by omega) (by omega) 55 dX6_pouringOf_13 (by decide) (fun h13 => ?_) (fun h13 => ?_)
  · refine v_iload (pc := 55) X dX6_pouringOf_55 4 rfl ?_
    exact t_iret (pc := 57) X hr dX6_pouringOf_57 ⟨_, rfl, by rw [show k = l - f by omega], rfl⟩
  · obtain ⟨e, hkee⟩ := get_lt (L := pl sp f l) (k := k) (by omega)
    have heee := pl_mem hsp (List.mem_of_getElem? hkee)
    have hgde := getD_of hkee
    refine v_aload_n (pc := 16) X dX6_pouringOf_16 rfl 0 rfl ?_
    refine v_iload_n (pc := 17) X dX6_pouringOf_17 rfl 1 rfl ?_
    refine v_iload (pc := 18) X dX6_pouringOf_18 5 rfl ?_
    refine v_iconst (pc := 20) (v := nI 0) X dX6_pouringOf_20 rfl ?_
    refine t_callI (pc := 21) X (m_ofPouring (by omega) (by omega)) (lw_V q2263 q2265 qs67 q109 q2266) hdX6_ofPouring ⟨Nat.le_of_ble_eq_true rfl, Nat.le_of_ble_eq_true rfl⟩ rfl rfl (Nat.le_of_ble_eq_true rfl) dX6_pouringOf_21 ⟨Nat.le_refl _, Nat.le_refl _⟩ (fun r21 σ21 hp21 => ?_)
    obtain ⟨rfl, rfl⟩ := hp21
    refine v_top (y := (nI e.1)) (hpe k e hkee).1 ?_
    refine v_iload_n (pc := 24) X dX6_pouringOf_24 rfl 2 rfl ?_
    refine v_ic_neN (pc := 25) X (by omega) (by omega) 45 dX6_pouringOf_25 (by decide) (fun h25 => ?_) (fun h25 => ?_)
    · refine v_iload (pc := 45) X dX6_pouringOf_45 4 rfl ?_
      refine v_top (y := ((oI (idxL (pl sp f l) a c (k + 1))))) (idxL_n hgde (fun z => h25 z.1)) ?_
      refine v_istore (pc := 47) (loc' := [(4, .int ((oI (idxL (pl sp f l) a c (k + 1))))), (0, .ref x), (1, .int (nI i)), (2, .int (nI a)), (3, .int (nI c)), (5, .int (nI k))]) X dX6_pouringOf_47 (by decide) rfl ?_
      refine v_iinc (pc := 49) (v := (nI (k + 1))) (loc' := [(5, .int (nI (k + 1))), (4, .int ((oI (idxL (pl sp f l) a c (k + 1))))), (0, .ref x), (1, .int (nI i)), (2, .int (nI a)), (3, .int (nI c))]) X dX6_pouringOf_49 5 rfl (nI_add _ 1) (by decide) rfl ?_
      refine v_goto (pc := 52) X 6 dX6_pouringOf_52 (by decide) ?_
      refine v_sub [2, 3, 4, 5, 1, 0] rfl ?_
      exact ih6 (k + 1) (by omega) (by omega)
    · refine v_aload_n (pc := 28) X dX6_pouringOf_28 rfl 0 rfl ?_
      refine v_iload_n (pc := 29) X dX6_pouringOf_29 rfl 1 rfl ?_
      refine v_iload (pc := 30) X dX6_pouringOf_30 5 rfl ?_
      refine v_iconst (pc := 32) (v := nI 1) X dX6_pouringOf_32 rfl ?_
      refine t_callI (pc := 33) X (m_ofPouring (by omega) (by omega)) (lw_V q2263 q2265 qs67 q109 q2266) hdX6_ofPouring ⟨Nat.le_of_ble_eq_true rfl, Nat.le_of_ble_eq_true rfl⟩ rfl rfl (Nat.le_of_ble_eq_true rfl) dX6_pouringOf_33 ⟨Nat.le_refl _, Nat.le_refl _⟩ (fun r33 σ33 hp33 => ?_)
      obtain ⟨rfl, rfl⟩ := hp33
      refine v_top (y := (nI e.2.1)) (hpe k e hkee).2.1 ?_
      refine v_iload_n (pc := 36) X dX6_pouringOf_36 rfl 3 rfl ?_
      refine v_ic_neN (pc := 37) X (by omega) (by omega) 45 dX6_pouringOf_37 (by decide) (fun h37 => ?_) (fun h37 => ?_)
      · refine v_iload (pc := 45) X dX6_pouringOf_45 4 rfl ?_
        refine v_top (y := ((oI (idxL (pl sp f l) a c (k + 1))))) (idxL_n hgde (fun z => h37 z.2)) ?_
        refine v_istore (pc := 47) (loc' := [(4, .int ((oI (idxL (pl sp f l) a c (k + 1))))), (0, .ref x), (1, .int (nI i)), (2, .int (nI a)), (3, .int (nI c)), (5, .int (nI k))]) X dX6_pouringOf_47 (by decide) rfl ?_
        refine v_iinc (pc := 49) (v := (nI (k + 1))) (loc' := [(5, .int (nI (k + 1))), (4, .int ((oI (idxL (pl sp f l) a c (k + 1))))), (0, .ref x), (1, .int (nI i)), (2, .int (nI a)), (3, .int (nI c))]) X dX6_pouringOf_49 5 rfl (nI_add _ 1) (by decide) rfl ?_
        refine v_goto (pc := 52) X 6 dX6_pouringOf_52 (by decide) ?_
        refine v_sub [2, 3, 4, 5, 1, 0] rfl ?_
        exact ih6 (k + 1) (by omega) (by omega)
      · refine v_iload (pc := 40) X dX6_pouringOf_40 5 rfl ?_
        refine v_goto (pc := 42) X 47 dX6_pouringOf_42 (by decide) ?_
        refine v_top (y := ((oI (idxL (pl sp f l) a c (k + 1))))) (idxL_s hgde ⟨h25, h37⟩) ?_
        refine v_istore (pc := 47) (loc' := [(4, .int ((oI (idxL (pl sp f l) a c (k + 1))))), (0, .ref x), (1, .int (nI i)), (2, .int (nI a)), (3, .int (nI c)), (5, .int (nI k))]) X dX6_pouringOf_47 (by decide) rfl ?_
        refine v_iinc (pc := 49) (v := (nI (k + 1))) (loc' := [(5, .int (nI (k + 1))), (4, .int ((oI (idxL (pl sp f l) a c (k + 1))))), (0, .ref x), (1, .int (nI i)), (2, .int (nI a)), (3, .int (nI c))]) X dX6_pouringOf_49 5 rfl (nI_add _ 1) (by decide) rfl ?_
        refine v_goto (pc := 52) X 6 dX6_pouringOf_52 (by decide) ?_
        refine v_sub [2, 3, 4, 5, 1, 0] rfl ?_
        exact ih6 (k + 1) (by omega) (by omega)
theorem hdX6_wasPoured : yX6_wasPoured.cls = RX6 ∧ yX6_wasPoured.cls ≠ "java/lang/invoke/MethodHandle" ∧ yX6_wasPoured.cls ≠ "java/lang/invoke/VarHandle" ∧ (parseMethodDescriptor yX6_wasPoured.desc).map (fun d => d.parameters.length) = some 4 := by decide +kernel
set_option maxHeartbeats 4000000 in
theorem m_wasPoured {l_ : Launch} {D : va_G} {dd : Nat → ClassId} {x : Nat} {ad : Nat → Nat} {σ : Tw} {a c : Nat} {i f l : Nat} {sp : Nat → Nat → Nat} (hi : i < 4) (hPl : PlanAt (σ 0) i f l sp) {dy : Nat → Nat} {day : Nat} (hdy : ∀ k, k < l - f → σ 22 k = nI (dy k) ∧ dy k < 1000) (hday : day < 1000) (ha : a < 100) (hc : c < 100) (hx : HasIx (pl sp f l) (l - f) a c) : TM l_ D dd x ad yX6_wasPoured cX6_wasPoured 6 (some .boolean) 3 70 [.ref x, .int (nI i), .int (nI a), .int (nI c), .int (nI day)] σ (TI (fun r σ' => bI (rdyB (pl sp f l) dy day a c = true) = r ∧ σ = σ')) := by
  have hfl := hPl.1
  have hl8 := hPl.2.1
  have hsp := hPl.2.2.1
  have hpf := hPl.2.2.2.1
  have hpl := hPl.2.2.2.2.1
  have hpe := hPl.2.2.2.2.2
  have hLn := pl_length hsp f l
  refine MW.intro (by decide) (Nat.le_of_ble_eq_true rfl) (fun p_ e_ s_ m_ as_ bl_ me_ c_ A_ X hr hnm => ?_)
  have X : VX p_ s_ m_ as_ me_ c_ cX6_wasPoured 6 RX6 D dd A_ := X
  refine v_eq (loc' := [(0, .ref x), (1, .int (nI i)), (2, .int (nI a)), (3, .int (nI c)), (4, .int (nI day))]) rfl rfl rfl ?_
  refine v_aload_n (pc := 0) X dX6_wasPoured_0 rfl 0 rfl ?_
  refine v_iload_n (pc := 1) X dX6_wasPoured_1 rfl 1 rfl ?_
  refine v_iload_n (pc := 2) X dX6_wasPoured_2 rfl 2 rfl ?_
  refine v_iload_n (pc := 3) X dX6_wasPoured_3 rfl 3 rfl ?_
  refine t_callI (pc := 4) X (m_pouringOf (by omega) (by omega) hi hPl) (lw_V q2303 q2305 qs75 q109 q2306) hdX6_pouringOf ⟨Nat.le_of_ble_eq_true rfl, Nat.le_of_ble_eq_true rfl⟩ rfl rfl (Nat.le_of_ble_eq_true rfl) dX6_wasPoured_4 ⟨Nat.le_refl _, Nat.le_refl _⟩ (fun r4 σ4 hp4 => ?_)
  obtain ⟨rfl, rfl⟩ := hp4
  refine v_nm (fun z1 ez1 => ?_)
  refine v_istore (pc := 7) (loc' := [(5, .int z1), (0, .ref x), (1, .int (nI i)), (2, .int (nI a)), (3, .int (nI c)), (4, .int (nI day))]) X dX6_wasPoured_7 (by decide) rfl ?_
  refine v_iload_n (pc := 9) X dX6_wasPoured_9 rfl 3 rfl ?_
  refine v_iload_n (pc := 10) X dX6_wasPoured_10 rfl 4 rfl ?_
  refine v_ic_eqN (pc := 11) X (by omega) (by omega) 36 dX6_wasPoured_11 (by decide) (fun h11 => ?_) (fun h11 => ?_)
  · refine v_iconst (pc := 36) (v := nI 1) X dX6_wasPoured_36 rfl ?_
    refine v_goto (pc := 37) X 41 dX6_wasPoured_37 (by decide) ?_
    exact t_zret (pc := 41) X hr rfl dX6_wasPoured_41 ⟨_, rfl, bI_t (by unfold rdyB; simp [h11]), rfl⟩
  · obtain ⟨j, hj, hij⟩ := Or.resolve_left hx h11
    rw [hLn] at hij
    have hdj := (hdy j hj).2
    have hzj : z1 = nI j := by rw [ez1, hij]; rfl
    have hrd := rdyB_eq (dy := dy) (day := day) (show idxL (pl sp f l) a c (pl sp f l).length = some j by rw [hLn]; exact hij)
    refine v_aload_n (pc := 14) X dX6_wasPoured_14 rfl 1 rfl ?_
    refine t_get (pc := 15) X 22 (by decide) q1978 rfl rfl dX6_wasPoured_15 ?_
    refine v_iload (pc := 18) X dX6_wasPoured_18 0 rfl ?_
    refine v_iald (pc := 20) X 13 ta_22 hzj (by omega) (by decide) dX6_wasPoured_20 ?_
    refine v_top (y := (nI (dy j))) (hdy j hj).1 ?_
    refine v_if_leN (pc := 21) X (by omega) 40 dX6_wasPoured_21 (by decide) (fun h21 => ?_) (fun h21 => ?_)
    · refine v_iconst (pc := 40) (v := nI 0) X dX6_wasPoured_40 rfl ?_
      exact t_zret (pc := 41) X hr rfl dX6_wasPoured_41 ⟨_, rfl, bI_f (by rw [hrd]; omega), rfl⟩
    · refine v_aload_n (pc := 24) X dX6_wasPoured_24 rfl 1 rfl ?_
      refine t_get (pc := 25) X 22 (by decide) q1978 rfl rfl dX6_wasPoured_25 ?_
      refine v_iload (pc := 28) X dX6_wasPoured_28 0 rfl ?_
      refine v_iald (pc := 30) X 13 ta_22 hzj (by omega) (by decide) dX6_wasPoured_30 ?_
      refine v_top (y := (nI (dy j))) (hdy j hj).1 ?_
      refine v_iload (pc := 31) X dX6_wasPoured_31 5 rfl ?_
      refine v_ic_geN (pc := 33) X (by omega) (by omega) 40 dX6_wasPoured_33 (by decide) (fun h33 => ?_) (fun h33 => ?_)
      · refine v_iconst (pc := 40) (v := nI 0) X dX6_wasPoured_40 rfl ?_
        exact t_zret (pc := 41) X hr rfl dX6_wasPoured_41 ⟨_, rfl, bI_f (by rw [hrd]; omega), rfl⟩
      · refine v_iconst (pc := 36) (v := nI 1) X dX6_wasPoured_36 rfl ?_
        refine v_goto (pc := 37) X 41 dX6_wasPoured_37 (by decide) ?_
        exact t_zret (pc := 41) X hr rfl dX6_wasPoured_41 ⟨_, rfl, bI_t (by rw [hrd]; omega), rfl⟩
theorem hdX6_canPour : yX6_canPour.cls = RX6 ∧ yX6_canPour.cls ≠ "java/lang/invoke/MethodHandle" ∧ yX6_canPour.cls ≠ "java/lang/invoke/VarHandle" ∧ (parseMethodDescriptor yX6_canPour.desc).map (fun d => d.parameters.length) = some 4 := by decide +kernel
set_option maxHeartbeats 4000000 in
theorem m_canPour {l_ : Launch} {D : va_G} {dd : Nat → ClassId} {x : Nat} {ad : Nat → Nat} {σ : Tw} {n k s : Nat} {sd : Nat → Nat} (hn : σ 0 0 = nI n) (h9 : n ≤ 9) (hsd : SdOf (σ 0) sd) (h50 : ∀ i, sd i ≤ 50) {i f l : Nat} {sp : Nat → Nat → Nat} (hi : i < 4) (hPl : PlanAt (σ 0) i f l sp) {dy : Nat → Nat} {day : Nat} (hdy : ∀ k, k < l - f → σ 22 k = nI (dy k) ∧ dy k < 1000) (hday : day < 1000) (hv : l < n - 1) (hk : k < l - f) (hs : s < 1000000) : TM l_ D dd x ad yX6_canPour cX6_canPour 8 (some .boolean) 4 95 [.ref x, .int (nI i), .int (nI k), .int (nI day), .int (nI s)] σ (TI (fun r σ' => bI (canB sd (pl sp f l) dy day s k = true) = r ∧ σ = σ')) := by
  have hfl := hPl.1
  have hl8 := hPl.2.1
  have hsp := hPl.2.2.1
  have hpf := hPl.2.2.2.1
  have hpl := hPl.2.2.2.2.1
  have hpe := hPl.2.2.2.2.2
  have hLn := pl_length hsp f l
  obtain ⟨e, hke⟩ := get_lt (L := pl sp f l) (k := k) (by omega)
  have hee := pl_mem hsp (List.mem_of_getElem? hke)
  have hgd := getD_of hke
  have hcb := cst_b h50 (pl sp f l) k
  have hLO := (pl_LOk hsp f l).ix (m := l - f) (by omega) (by omega) hgd
  have hci := canB_iff (sd := sd) (dy := dy) (day := day) (s := s) hgd
  have hdk := (hdy k hk).2
  refine MW.intro (by decide) (Nat.le_of_ble_eq_true rfl) (fun p_ e_ s_ m_ as_ bl_ me_ c_ A_ X hr hnm => ?_)
  have X : VX p_ s_ m_ as_ me_ c_ cX6_canPour 8 RX6 D dd A_ := X
  refine v_eq (loc' := [(0, .ref x), (1, .int (nI i)), (2, .int (nI k)), (3, .int (nI day)), (4, .int (nI s))]) rfl rfl rfl ?_
  refine v_aload_n (pc := 0) X dX6_canPour_0 rfl 0 rfl ?_
  refine v_iload_n (pc := 1) X dX6_canPour_1 rfl 1 rfl ?_
  refine v_iload_n (pc := 2) X dX6_canPour_2 rfl 2 rfl ?_
  refine v_iconst (pc := 3) (v := nI 0) X dX6_canPour_3 rfl ?_
  refine t_callI (pc := 4) X (m_ofPouring (by omega) (by omega)) (lw_V q2263 q2265 qs67 q109 q2266) hdX6_ofPouring ⟨Nat.le_of_ble_eq_true rfl, Nat.le_of_ble_eq_true rfl⟩ rfl rfl (Nat.le_of_ble_eq_true rfl) dX6_canPour_4 ⟨Nat.le_refl _, Nat.le_refl _⟩ (fun r4 σ4 hp4 => ?_)
  obtain ⟨rfl, rfl⟩ := hp4
  refine v_top (y := (nI e.1)) (hpe k e hke).1 ?_
  refine v_istore (pc := 7) (loc' := [(5, .int (nI e.1)), (0, .ref x), (1, .int (nI i)), (2, .int (nI k)), (3, .int (nI day)), (4, .int (nI s))]) X dX6_canPour_7 (by decide) rfl ?_
  refine v_aload_n (pc := 9) X dX6_canPour_9 rfl 1 rfl ?_
  refine v_iload_n (pc := 10) X dX6_canPour_10 rfl 2 rfl ?_
  refine v_iload_n (pc := 11) X dX6_canPour_11 rfl 3 rfl ?_
  refine v_iconst (pc := 12) (v := nI 1) X dX6_canPour_12 rfl ?_
  refine t_callI (pc := 13) X (m_ofPouring (by omega) (by omega)) (lw_V q2263 q2265 qs67 q109 q2266) hdX6_ofPouring ⟨Nat.le_of_ble_eq_true rfl, Nat.le_of_ble_eq_true rfl⟩ rfl rfl (Nat.le_of_ble_eq_true rfl) dX6_canPour_13 ⟨Nat.le_refl _, Nat.le_refl _⟩ (fun r13 σ13 hp13 => ?_)
  obtain ⟨rfl, rfl⟩ := hp13
  refine v_top (y := (nI e.2.1)) (hpe k e hke).2.1 ?_
  refine v_istore (pc := 16) (loc' := [(6, .int (nI e.2.1)), (5, .int (nI e.1)), (0, .ref x), (1, .int (nI i)), (2, .int (nI k)), (3, .int (nI day)), (4, .int (nI s))]) X dX6_canPour_16 (by decide) rfl ?_
  refine v_aload_n (pc := 18) X dX6_canPour_18 rfl 2 rfl ?_
  refine v_iload_n (pc := 19) X dX6_canPour_19 rfl 3 rfl ?_
  refine v_iload_n (pc := 20) X dX6_canPour_20 rfl 4 rfl ?_
  refine v_iconst (pc := 21) (v := nI 2) X dX6_canPour_21 rfl ?_
  refine t_callI (pc := 22) X (m_ofPouring (by omega) (by omega)) (lw_V q2263 q2265 qs67 q109 q2266) hdX6_ofPouring ⟨Nat.le_of_ble_eq_true rfl, Nat.le_of_ble_eq_true rfl⟩ rfl rfl (Nat.le_of_ble_eq_true rfl) dX6_canPour_22 ⟨Nat.le_refl _, Nat.le_refl _⟩ (fun r22 σ22 hp22 => ?_)
  obtain ⟨rfl, rfl⟩ := hp22
  refine v_top (y := (nI e.2.2)) (hpe k e hke).2.2 ?_
  refine v_istore (pc := 25) (loc' := [(7, .int (nI e.2.2)), (6, .int (nI e.2.1)), (5, .int (nI e.1)), (0, .ref x), (1, .int (nI i)), (2, .int (nI k)), (3, .int (nI day)), (4, .int (nI s))]) X dX6_canPour_25 (by decide) rfl ?_
  refine v_aload_n (pc := 27) X dX6_canPour_27 rfl 3 rfl ?_
  refine t_get (pc := 28) X 22 (by decide) q1978 rfl rfl dX6_canPour_28 ?_
  refine v_iload_n (pc := 31) X dX6_canPour_31 rfl 5 rfl ?_
  refine v_iald (pc := 32) X 13 ta_22 rfl (by omega) (by decide) dX6_canPour_32 ?_
  refine v_top (y := (nI (dy k))) (hdy k hk).1 ?_
  refine v_if_neN (pc := 33) X (by omega) 79 dX6_canPour_33 (by decide) (fun h33 => ?_) (fun h33 => ?_)
  · refine v_iconst (pc := 79) (v := nI 0) X dX6_canPour_79 rfl ?_
    exact t_zret (pc := 80) X hr rfl dX6_canPour_80 ⟨_, rfl, bI_f (fun z => h33 (hci.mp z).1), rfl⟩
  · refine v_aload_n (pc := 36) X dX6_canPour_36 rfl 3 rfl ?_
    refine v_iload_n (pc := 37) X dX6_canPour_37 rfl 4 rfl ?_
    refine v_iload_n (pc := 38) X dX6_canPour_38 rfl 5 rfl ?_
    refine t_callI (pc := 39) X (m_pouringCost hn h9 hsd hi hPl hke) (lw_V q2259 q2261 qs66 q109 q2262) hdX6_pouringCost ⟨Nat.le_of_ble_eq_true rfl, Nat.le_of_ble_eq_true rfl⟩ rfl rfl (Nat.le_of_ble_eq_true rfl) dX6_canPour_39 ⟨Nat.le_refl _, Nat.le_refl _⟩ (fun r39 σ39 hp39 => ?_)
    obtain ⟨rfl, rfl⟩ := hp39
    refine v_top (y := (nI (costK sd (pl sp f l) k))) (cst_eq hke (by omega)) ?_
    refine v_iload (pc := 42) X dX6_canPour_42 7 rfl ?_
    refine v_ic_gtN (pc := 44) X (by omega) (by omega) 79 dX6_canPour_44 (by decide) (fun h44 => ?_) (fun h44 => ?_)
    · refine v_iconst (pc := 79) (v := nI 0) X dX6_canPour_79 rfl ?_
      exact t_zret (pc := 80) X hr rfl dX6_canPour_80 ⟨_, rfl, bI_f (fun z => by have := (hci.mp z).2.1; omega), rfl⟩
    · refine v_aload_n (pc := 47) X dX6_canPour_47 rfl 3 rfl ?_
      refine v_iload_n (pc := 48) X dX6_canPour_48 rfl 4 rfl ?_
      refine v_iload (pc := 49) X dX6_canPour_49 2 rfl ?_
      refine v_iload (pc := 51) X dX6_canPour_51 0 rfl ?_
      refine v_iload_n (pc := 53) X dX6_canPour_53 rfl 6 rfl ?_
      refine t_callI (pc := 54) X (m_wasPoured hi hPl hdy hday (by omega) (by omega) hLO.1) (lw_V q2299 q2301 qs74 q109 q2302) hdX6_wasPoured ⟨Nat.le_of_ble_eq_true rfl, Nat.le_of_ble_eq_true rfl⟩ rfl rfl (Nat.le_of_ble_eq_true rfl) dX6_canPour_54 ⟨Nat.le_refl _, Nat.le_refl _⟩ (fun r54 σ54 hp54 => ?_)
      obtain ⟨rfl, rfl⟩ := hp54
      refine v_if_eqB (pc := 57) X 79 dX6_canPour_57 (by decide) (fun h57 => ?_) (fun h57 => ?_)
      · refine v_iconst (pc := 79) (v := nI 0) X dX6_canPour_79 rfl ?_
        exact t_zret (pc := 80) X hr rfl dX6_canPour_80 ⟨_, rfl, bI_f (fun z => h57 (hci.mp z).2.2.1), rfl⟩
      · refine v_aload_n (pc := 60) X dX6_canPour_60 rfl 3 rfl ?_
        refine v_iload_n (pc := 61) X dX6_canPour_61 rfl 4 rfl ?_
        refine v_iload (pc := 62) X dX6_canPour_62 0 rfl ?_
        refine v_iconst (pc := 64) (v := nI 1) X dX6_canPour_64 rfl ?_
        refine v_iaddN (pc := 65) X dX6_canPour_65 ?_
        refine v_iload (pc := 66) X dX6_canPour_66 1 rfl ?_
        refine v_iload_n (pc := 68) X dX6_canPour_68 rfl 6 rfl ?_
        refine t_callI (pc := 69) X (m_wasPoured hi hPl hdy hday (by omega) (by omega) hLO.2) (lw_V q2299 q2301 qs74 q109 q2302) hdX6_wasPoured ⟨Nat.le_of_ble_eq_true rfl, Nat.le_of_ble_eq_true rfl⟩ rfl rfl (Nat.le_of_ble_eq_true rfl) dX6_canPour_69 ⟨Nat.le_refl _, Nat.le_refl _⟩ (fun r69 σ69 hp69 => ?_)
        obtain ⟨rfl, rfl⟩ := hp69
        refine v_if_eqB (pc := 72) X 79 dX6_canPour_72 (by decide) (fun h72 => ?_) (fun h72 => ?_)
        · refine v_iconst (pc := 79) (v := nI 0) X dX6_canPour_79 rfl ?_
          exact t_zret (pc := 80) X hr rfl dX6_canPour_80 ⟨_, rfl, bI_f (fun z => h72 (hci.mp z).2.2.2), rfl⟩
        · refine v_iconst (pc := 75) (v := nI 1) X dX6_canPour_75 rfl ?_
          refine v_goto (pc := 76) X 80 dX6_canPour_76 (by decide) ?_
          exact t_zret (pc := 80) X hr rfl dX6_canPour_80 ⟨_, rfl, bI_t (hci.mpr ⟨h33, h44, h57, h72⟩), rfl⟩
theorem hdX6_strongAt : yX6_strongAt.cls = RX6 ∧ yX6_strongAt.cls ≠ "java/lang/invoke/MethodHandle" ∧ yX6_strongAt.cls ≠ "java/lang/invoke/VarHandle" ∧ (parseMethodDescriptor yX6_strongAt.desc).map (fun d => d.parameters.length) = some 1 := by decide +kernel
set_option maxHeartbeats 4000000 in
theorem m_strongAt {l_ : Launch} {D : va_G} {dd : Nat → ClassId} {x : Nat} {ad : Nat → Nat} {σ : Tw} {st : Nat → Nat} {C q : Nat} (hS : StOf (σ 0) st C) (hq : q < 1000) : TM l_ D dd x ad yX6_strongAt cX6_strongAt 6 (some .int) 0 0 [.ref x, .int (nI q)] σ (TI (fun r σ' => oI (ordC st C q) = r ∧ σ = σ')) := by
  obtain ⟨hC, hC4, hSk⟩ := hS
  refine MW.intro (by decide) (Nat.le_of_ble_eq_true rfl) (fun p_ e_ s_ m_ as_ bl_ me_ c_ A_ X hr hnm => ?_)
  have X : VX p_ s_ m_ as_ me_ c_ cX6_strongAt 6 RX6 D dd A_ := X
  refine v_eq (loc' := [(0, .ref x), (1, .int (nI q))]) rfl rfl rfl ?_
  refine v_iconst (pc := 0) (v := nI 0) X dX6_strongAt_0 rfl ?_
  refine v_istore_n (pc := 1) (loc' := [(2, .int (nI 0)), (0, .ref x), (1, .int (nI q))]) X dX6_strongAt_1 rfl (by decide) rfl ?_
  refine v_sub [1, 2, 0] rfl ?_
  refine v_loop1 (S := Nat) (fun c => tw x ad dd σ) (fun c => [(0, .ref x), (1, .int (nI q)), (2, .int (nI c))]) (fun c => c ≤ C ∧ ordC st C q = fsH (fun c => decide (rnk st C c = q)) (C - c) c) (fun c => C - c) (fun c hI2 ih2 => ?_) 0 ⟨Nat.zero_le _, rfl⟩
  obtain ⟨hc1, hc2⟩ := hI2
  refine v_iload_n (pc := 2) X dX6_strongAt_2 rfl 2 rfl ?_
  refine v_aload_n (pc := 3) X dX6_strongAt_3 rfl 0 rfl ?_
  refine t_get (pc := 4) X 0 (by decide) q1956 rfl rfl dX6_strongAt_4 ?_
  refine v_bipush (pc := 7) (v := nI 10) X dX6_strongAt_7 rfl ?_
  refine v_iald (pc := 9) X 1 ta_0 rfl (by omega) (by decide) dX6_strongAt_9 ?_
  refine v_top (y := (nI C)) hC ?_
  refine v_ic_geN (pc := 10) X (by omega) (by omega) 95 dX6_strongAt_10 (by decide) (fun h10 => ?_) (fun h10 => ?_)
  · refine v_iconst (pc := 95) (v := -1) X dX6_strongAt_95 rfl ?_
    exact t_iret (pc := 96) X hr dX6_strongAt_96 ⟨_, rfl, by rw [hc2, show C - c = 0 by omega]; rfl, rfl⟩
  · refine v_iconst (pc := 13) (v := nI 0) X dX6_strongAt_13 rfl ?_
    refine v_istore_n (pc := 14) (loc' := [(3, .int (nI 0)), (0, .ref x), (1, .int (nI q)), (2, .int (nI c))]) X dX6_strongAt_14 rfl (by decide) rfl ?_
    refine v_iconst (pc := 15) (v := nI 0) X dX6_strongAt_15 rfl ?_
    refine v_istore (pc := 16) (loc' := [(4, .int (nI 0)), (3, .int (nI 0)), (0, .ref x), (1, .int (nI q)), (2, .int (nI c))]) X dX6_strongAt_16 (by decide) rfl ?_
    refine v_sub [2, 3, 4, 1, 0] rfl ?_
    refine v_loop1 (S := Nat) (fun o => tw x ad dd σ) (fun o => [(0, .ref x), (1, .int (nI q)), (2, .int (nI c)), (3, .int (nI (cntB (ahS st c) o))), (4, .int (nI o))]) (fun o => o ≤ C) (fun o => C - o) (fun o hI18 ih18 => ?_) 0 (Nat.zero_le _)
    have hcl := cntB_le (ahS st c) o
    refine v_iload (pc := 18) X dX6_strongAt_18 4 rfl ?_
    refine v_aload_n (pc := 20) X dX6_strongAt_20 rfl 0 rfl ?_
    refine t_get (pc := 21) X 0 (by decide) q1956 rfl rfl dX6_strongAt_21 ?_
    refine v_bipush (pc := 24) (v := nI 10) X dX6_strongAt_24 rfl ?_
    refine v_iald (pc := 26) X 1 ta_0 rfl (by omega) (by decide) dX6_strongAt_26 ?_
    refine v_top (y := (nI C)) hC ?_
    refine v_ic_geN (pc := 27) X (by omega) (by omega) 82 dX6_strongAt_27 (by decide) (fun h27 => ?_) (fun h27 => ?_)
    · refine v_iload_n (pc := 82) X dX6_strongAt_82 rfl 3 rfl ?_
      refine v_iload_n (pc := 83) X dX6_strongAt_83 rfl 1 rfl ?_
      have hoC : o = C := by omega
      subst hoC
      refine v_ic_neN (pc := 84) X (by omega) (by omega) 89 dX6_strongAt_84 (by decide) (fun h84 => ?_) (fun h84 => ?_)
      · refine v_iinc (pc := 89) (v := (nI (c + 1))) (loc' := [(2, .int (nI (c + 1))), (0, .ref x), (1, .int (nI q)), (3, .int (nI (cntB (ahS st c) o))), (4, .int (nI o))]) X dX6_strongAt_89 2 rfl (nI_add _ 1) (by decide) rfl ?_
        refine v_goto (pc := 92) X 2 dX6_strongAt_92 (by decide) ?_
        refine v_sub [1, 2, 0] rfl ?_
        exact ih2 (c + 1) ⟨by omega, by rw [hc2, fsH_n (by simp only [decide_eq_true_eq]; exact h84) (by omega)]; congr 1⟩ (by omega)
      · refine v_iload_n (pc := 87) X dX6_strongAt_87 rfl 2 rfl ?_
        exact t_iret (pc := 88) X hr dX6_strongAt_88 ⟨_, rfl, by rw [hc2, fsH_s (by simp; exact h84) (by omega)]; rfl, rfl⟩
    · refine v_aload_n (pc := 30) X dX6_strongAt_30 rfl 0 rfl ?_
      refine t_get (pc := 31) X 0 (by decide) q1956 rfl rfl dX6_strongAt_31 ?_
      refine v_bipush (pc := 34) (v := nI 11) X dX6_strongAt_34 rfl ?_
      refine v_iload (pc := 36) X dX6_strongAt_36 4 rfl ?_
      refine v_iaddN (pc := 38) X dX6_strongAt_38 ?_
      refine v_iald (pc := 39) X 1 ta_0 rfl (by omega) (by decide) dX6_strongAt_39 ?_
      refine v_top (y := (nI (st o))) (hSk o (by omega)).1 ?_
      refine v_aload_n (pc := 40) X dX6_strongAt_40 rfl 0 rfl ?_
      refine t_get (pc := 41) X 0 (by decide) q1956 rfl rfl dX6_strongAt_41 ?_
      refine v_bipush (pc := 44) (v := nI 11) X dX6_strongAt_44 rfl ?_
      refine v_iload_n (pc := 46) X dX6_strongAt_46 rfl 2 rfl ?_
      refine v_iaddN (pc := 47) X dX6_strongAt_47 ?_
      refine v_iald (pc := 48) X 1 ta_0 rfl (by omega) (by decide) dX6_strongAt_48 ?_
      refine v_top (y := (nI (st c))) (hSk c (by omega)).1 ?_
      have hb1 := (hSk o (by omega)).2
      have hb2 := (hSk c (by omega)).2
      have hsb : (nI (st o) - nI (st c)).toInt = (st o : Int) - st c := subI2 (by omega) (by omega)
      refine v_isub (pc := 49) X dX6_strongAt_49 ?_
      refine v_nm (fun z1 ez1 => ?_)
      refine v_istore (pc := 50) (loc' := [(5, .int z1), (0, .ref x), (1, .int (nI q)), (2, .int (nI c)), (3, .int (nI (cntB (ahS st c) o))), (4, .int (nI o))]) X dX6_strongAt_50 (by decide) rfl ?_
      refine v_iload_n (pc := 52) X dX6_strongAt_52 rfl 4 rfl ?_
      refine v_iload (pc := 53) X dX6_strongAt_53 0 rfl ?_
      refine v_if_gt (pc := 55) X 69 dX6_strongAt_55 (by decide) (fun h55 => ?_) (fun h55 => ?_)
      · refine v_iconst (pc := 69) (v := nI 1) X dX6_strongAt_69 rfl ?_
        refine v_goto (pc := 70) X 74 dX6_strongAt_70 (by decide) ?_
        refine v_iaddN (pc := 74) X dX6_strongAt_74 ?_
        refine v_top (y := (nI (cntB (ahS st c) (o + 1)))) (ah_t (by rw [ahS_iff]; have := ltI.mp h55; rw [ez1, hsb] at this; rw [show ((0 : Int32).toInt) = 0 from rfl] at this; omega)) ?_
        refine v_istore_n (pc := 75) (loc' := [(3, .int (nI (cntB (ahS st c) (o + 1)))), (5, .int z1), (0, .ref x), (1, .int (nI q)), (2, .int (nI c)), (4, .int (nI o))]) X dX6_strongAt_75 rfl (by decide) rfl ?_
        refine v_iinc (pc := 76) (v := (nI (o + 1))) (loc' := [(4, .int (nI (o + 1))), (3, .int (nI (cntB (ahS st c) (o + 1)))), (5, .int z1), (0, .ref x), (1, .int (nI q)), (2, .int (nI c))]) X dX6_strongAt_76 5 rfl (nI_add _ 1) (by decide) rfl ?_
        refine v_goto (pc := 79) X 18 dX6_strongAt_79 (by decide) ?_
        refine v_sub [3, 4, 5, 1, 0] rfl ?_
        exact ih18 (o + 1) (by omega) (by omega)
      · refine v_iload (pc := 58) X dX6_strongAt_58 0 rfl ?_
        refine v_if_ne (pc := 60) X 73 dX6_strongAt_60 (by decide) (fun h60 => ?_) (fun h60 => ?_)
        · refine v_iconst (pc := 73) (v := nI 0) X dX6_strongAt_73 rfl ?_
          refine v_iaddN (pc := 74) X dX6_strongAt_74 ?_
          refine v_top (y := (nI (cntB (ahS st c) (o + 1)))) (ah_f (by rw [ahS_iff]; intro z; exact h60 (by rw [ez1]; apply Int32.toInt_inj.mp; rw [hsb]; have h2 : ¬ (0 : Int32) < z1 := h55; rw [ltI, ez1, hsb] at h2; rw [show ((0 : Int32).toInt) = 0 from rfl] at h2 ⊢; omega))) ?_
          refine v_istore_n (pc := 75) (loc' := [(3, .int (nI (cntB (ahS st c) (o + 1)))), (5, .int z1), (0, .ref x), (1, .int (nI q)), (2, .int (nI c)), (4, .int (nI o))]) X dX6_strongAt_75 rfl (by decide) rfl ?_
          refine v_iinc (pc := 76) (v := (nI (o + 1))) (loc' := [(4, .int (nI (o + 1))), (3, .int (nI (cntB (ahS st c) (o + 1)))), (5, .int z1), (0, .ref x), (1, .int (nI q)), (2, .int (nI c))]) X dX6_strongAt_76 5 rfl (nI_add _ 1) (by decide) rfl ?_
          refine v_goto (pc := 79) X 18 dX6_strongAt_79 (by decide) ?_
          refine v_sub [3, 4, 5, 1, 0] rfl ?_
          exact ih18 (o + 1) (by omega) (by omega)
        · refine v_iload (pc := 63) X dX6_strongAt_63 5 rfl ?_
          refine v_iload_n (pc := 65) X dX6_strongAt_65 rfl 3 rfl ?_
          refine v_ic_geN (pc := 66) X (by omega) (by omega) 73 dX6_strongAt_66 (by decide) (fun h66 => ?_) (fun h66 => ?_)
          · refine v_iconst (pc := 73) (v := nI 0) X dX6_strongAt_73 rfl ?_
            refine v_iaddN (pc := 74) X dX6_strongAt_74 ?_
            refine v_top (y := (nI (cntB (ahS st c) (o + 1)))) (ah_f (by rw [ahS_iff]; have h3 := congrArg Int32.toInt h60; rw [ez1, hsb] at h3; rw [show ((0 : Int32).toInt) = 0 from rfl] at h3; omega)) ?_
            refine v_istore_n (pc := 75) (loc' := [(3, .int (nI (cntB (ahS st c) (o + 1)))), (5, .int z1), (0, .ref x), (1, .int (nI q)), (2, .int (nI c)), (4, .int (nI o))]) X dX6_strongAt_75 rfl (by decide) rfl ?_
            refine v_iinc (pc := 76) (v := (nI (o + 1))) (loc' := [(4, .int (nI (o + 1))), (3, .int (nI (cntB (ahS st c) (o + 1)))), (5, .int z1), (0, .ref x), (1, .int (nI q)), (2, .int (nI c))]) X dX6_strongAt_76 5 rfl (nI_add _ 1) (by decide) rfl ?_
            refine v_goto (pc := 79) X 18 dX6_strongAt_79 (by decide) ?_
            refine v_sub [3, 4, 5, 1, 0] rfl ?_
            exact ih18 (o + 1) (by omega) (by omega)
          · refine v_iconst (pc := 69) (v := nI 1) X dX6_strongAt_69 rfl ?_
            refine v_goto (pc := 70) X 74 dX6_strongAt_70 (by decide) ?_
            refine v_iaddN (pc := 74) X dX6_strongAt_74 ?_
            refine v_top (y := (nI (cntB (ahS st c) (o + 1)))) (ah_t (by rw [ahS_iff]; have h3 := congrArg Int32.toInt h60; rw [ez1, hsb] at h3; rw [show ((0 : Int32).toInt) = 0 from rfl] at h3; omega)) ?_
            refine v_istore_n (pc := 75) (loc' := [(3, .int (nI (cntB (ahS st c) (o + 1)))), (5, .int z1), (0, .ref x), (1, .int (nI q)), (2, .int (nI c)), (4, .int (nI o))]) X dX6_strongAt_75 rfl (by decide) rfl ?_
            refine v_iinc (pc := 76) (v := (nI (o + 1))) (loc' := [(4, .int (nI (o + 1))), (3, .int (nI (cntB (ahS st c) (o + 1)))), (5, .int z1), (0, .ref x), (1, .int (nI q)), (2, .int (nI c))]) X dX6_strongAt_76 5 rfl (nI_add _ 1) (by decide) rfl ?_
            refine v_goto (pc := 79) X 18 dX6_strongAt_79 (by decide) ?_
            refine v_sub [3, 4, 5, 1, 0] rfl ?_
            exact ih18 (o + 1) (by omega) (by omega)
theorem hdX6_poursOn : yX6_poursOn.cls = RX6 ∧ yX6_poursOn.cls ≠ "java/lang/invoke/MethodHandle" ∧ yX6_poursOn.cls ≠ "java/lang/invoke/VarHandle" ∧ (parseMethodDescriptor yX6_poursOn.desc).map (fun d => d.parameters.length) = some 4 := by decide +kernel
set_option maxHeartbeats 4000000 in
theorem m_poursOn {l_ : Launch} {D : va_G} {dd : Nat → ClassId} {x : Nat} {ad : Nat → Nat} {σ : Tw} {n s c : Nat} {sd : Nat → Nat} (hn : σ 0 0 = nI n) (h9 : n ≤ 9) (hsd : SdOf (σ 0) sd) (h50 : ∀ i, sd i ≤ 50) {i f l : Nat} {sp : Nat → Nat → Nat} (hi : i < 4) (hPl : PlanAt (σ 0) i f l sp) {dy : Nat → Nat} {day : Nat} (hdy : ∀ k, k < l - f → σ 22 k = nI (dy k) ∧ dy k < 1000) (hday : day < 1000) (hv : l < n - 1) (hs : s < 1000000) (hcc : c < 1000) : TM l_ D dd x ad yX6_poursOn cX6_poursOn 7 (some .boolean) 5 122 [.ref x, .int (nI i), .int (nI c), .int (nI day), .int (nI s)] σ (TI (fun r σ' => (∃ k, nxt sd (pl sp f l) dy day s (pl sp f l).length = some k ∧ r = bI True ∧ σ' = wa1 (wa1 σ 22 k (nI day)) 23 k (nI c)) ∨ (nxt sd (pl sp f l) dy day s (pl sp f l).length = none ∧ r = bI False ∧ σ' = σ))) := by
  have hfl := hPl.1
  have hl8 := hPl.2.1
  have hsp := hPl.2.2.1
  have hpf := hPl.2.2.2.1
  have hpl := hPl.2.2.2.2.1
  have hpe := hPl.2.2.2.2.2
  have hLn := pl_length hsp f l
  refine MW.intro (by decide) (Nat.le_of_ble_eq_true rfl) (fun p_ e_ s_ m_ as_ bl_ me_ c_ A_ X hr hnm => ?_)
  have X : VX p_ s_ m_ as_ me_ c_ cX6_poursOn 7 RX6 D dd A_ := X
  refine v_eq (loc' := [(0, .ref x), (1, .int (nI i)), (2, .int (nI c)), (3, .int (nI day)), (4, .int (nI s))]) rfl rfl rfl ?_
  refine v_iconst (pc := 0) (v := -1) X dX6_poursOn_0 rfl ?_
  refine v_istore (pc := 1) (loc' := [(5, .int ((-1))), (0, .ref x), (1, .int (nI i)), (2, .int (nI c)), (3, .int (nI day)), (4, .int (nI s))]) X dX6_poursOn_1 (by decide) rfl ?_
  refine v_iconst (pc := 3) (v := nI 0) X dX6_poursOn_3 rfl ?_
  refine v_istore (pc := 4) (loc' := [(6, .int (nI 0)), (5, .int ((-1))), (0, .ref x), (1, .int (nI i)), (2, .int (nI c)), (3, .int (nI day)), (4, .int (nI s))]) X dX6_poursOn_4 (by decide) rfl ?_
  refine v_sub [2, 3, 4, 5, 6, 1, 0] rfl ?_
  refine v_loop1 (S := Nat) (fun k => tw x ad dd σ) (fun k => [(0, .ref x), (1, .int (nI i)), (2, .int (nI c)), (3, .int (nI day)), (4, .int (nI s)), (5, .int ((oI (nxt sd (pl sp f l) dy day s k)))), (6, .int (nI k))]) (fun k => k ≤ l - f) (fun k => l - f - k) (fun k hI6 ih6 => ?_) 0 (Nat.zero_le _)
  have hob : ∀ j, nxt sd (pl sp f l) dy day s k = some j → j < 1000 := nxt_b (by omega)
  refine v_iload (pc := 6) X dX6_poursOn_6 6 rfl ?_
  refine v_aload_n (pc := 8) X dX6_poursOn_8 rfl 0 rfl ?_
  refine v_iload_n (pc := 9) X dX6_poursOn_9 rfl 1 rfl ?_
  refine t_callI (pc := 10) X (m_pourings hi hpf hpl hfl) (lw_V q2247 q2249 qs63 q109 q2250) hdX6_pourings ⟨Nat.le_of_ble_eq_true rfl, Nat.le_of_ble_eq_true rfl⟩ rfl rfl (Nat.le_of_ble_eq_true rfl) dX6_poursOn_10 ⟨Nat.le_refl _, Nat.le_refl _⟩ (fun r10 σ10 hp10 => ?_)
  obtain ⟨rfl, rfl⟩ := hp10
  refine v_ic_geN (pc := 13) X (by omega) (by omega) 67 dX6_poursOn_13 (by decide) (fun h13 => ?_) (fun h13 => ?_)
  · have hke : k = l - f := by omega
    subst hke
    refine v_iload (pc := 67) X dX6_poursOn_67 5 rfl ?_
    refine v_iconst (pc := 69) (v := -1) X dX6_poursOn_69 rfl ?_
    refine v_ic_eq (pc := 70) X 89 dX6_poursOn_70 (by decide) (fun h70 => ?_) (fun h70 => ?_)
    · have hon := (oI_n _ hob).mp h70
      refine v_iload (pc := 89) X dX6_poursOn_89 5 rfl ?_
      refine v_iconst (pc := 91) (v := -1) X dX6_poursOn_91 rfl ?_
      refine v_ic_eq (pc := 92) X 99 dX6_poursOn_92 (by decide) (fun h92 => ?_) (fun h92 => ?_)
      · refine v_iconst (pc := 99) (v := nI 0) X dX6_poursOn_99 rfl ?_
        exact t_zret (pc := 100) X hr rfl dX6_poursOn_100 ⟨_, rfl, Or.inr ⟨by rw [hLn]; exact hon, (bI_f (fun z => z)).symm, rfl⟩⟩
      · refine v_iconst (pc := 95) (v := nI 1) X dX6_poursOn_95 rfl ?_
        refine v_goto (pc := 96) X 100 dX6_poursOn_96 (by decide) ?_
        exact t_zret (pc := 100) X hr rfl dX6_poursOn_100 (absurd h70 h92)
    · obtain ⟨j, hoj⟩ := oI_ne hob h70
      have hjk := (nxt_lt hoj).1
      have hoj2 : oI (nxt sd (pl sp f l) dy day s (l - f)) = nI j := by rw [hoj]; rfl
      refine v_aload_n (pc := 73) X dX6_poursOn_73 rfl 0 rfl ?_
      refine t_get (pc := 74) X 22 (by decide) q1978 rfl rfl dX6_poursOn_74 ?_
      refine v_iload (pc := 77) X dX6_poursOn_77 5 rfl ?_
      refine v_iload_n (pc := 79) X dX6_poursOn_79 rfl 3 rfl ?_
      refine v_iast (pc := 80) X 13 ta_22 hoj2 (by omega) (by decide) dX6_poursOn_80 (tb_22 _) ?_
      refine v_aload_n (pc := 81) X dX6_poursOn_81 rfl 0 rfl ?_
      refine t_get (pc := 82) X 23 (by decide) q1979 rfl rfl dX6_poursOn_82 ?_
      refine v_iload (pc := 85) X dX6_poursOn_85 5 rfl ?_
      refine v_iload_n (pc := 87) X dX6_poursOn_87 rfl 2 rfl ?_
      refine v_iast (pc := 88) X 14 ta_23 hoj2 (by omega) (by decide) dX6_poursOn_88 (tb_23 _) ?_
      refine v_iload (pc := 89) X dX6_poursOn_89 5 rfl ?_
      refine v_iconst (pc := 91) (v := -1) X dX6_poursOn_91 rfl ?_
      refine v_ic_eq (pc := 92) X 99 dX6_poursOn_92 (by decide) (fun h92 => ?_) (fun h92 => ?_)
      · refine v_iconst (pc := 99) (v := nI 0) X dX6_poursOn_99 rfl ?_
        exact t_zret (pc := 100) X hr rfl dX6_poursOn_100 (absurd h92 h70)
      · refine v_iconst (pc := 95) (v := nI 1) X dX6_poursOn_95 rfl ?_
        refine v_goto (pc := 96) X 100 dX6_poursOn_96 (by decide) ?_
        exact t_zret (pc := 100) X hr rfl dX6_poursOn_100 ⟨_, rfl, Or.inl ⟨j, by rw [hLn]; exact hoj, (bI_t trivial).symm, rfl⟩⟩
  · obtain ⟨e, hke⟩ := get_lt (L := pl sp f l) (k := k) (by omega)
    have hee := pl_mem hsp (List.mem_of_getElem? hke)
    have hcb := cst_b h50 (pl sp f l) k
    refine v_aload_n (pc := 16) X dX6_poursOn_16 rfl 0 rfl ?_
    refine v_iload_n (pc := 17) X dX6_poursOn_17 rfl 1 rfl ?_
    refine v_iload (pc := 18) X dX6_poursOn_18 6 rfl ?_
    refine v_iload_n (pc := 20) X dX6_poursOn_20 rfl 3 rfl ?_
    refine v_iload (pc := 21) X dX6_poursOn_21 4 rfl ?_
    refine t_callI (pc := 23) X (m_canPour hn h9 hsd h50 hi hPl hdy hday hv (by omega) hs) (lw_V q2295 q2297 qs73 q109 q2298) hdX6_canPour ⟨Nat.le_of_ble_eq_true rfl, Nat.le_of_ble_eq_true rfl⟩ rfl rfl (Nat.le_of_ble_eq_true rfl) dX6_poursOn_23 ⟨Nat.le_refl _, Nat.le_refl _⟩ (fun r23 σ23 hp23 => ?_)
    obtain ⟨rfl, rfl⟩ := hp23
    refine v_if_eqB (pc := 26) X 61 dX6_poursOn_26 (by decide) (fun h26 => ?_) (fun h26 => ?_)
    · refine v_iinc (pc := 61) (v := (nI (k + 1))) (loc' := [(6, .int (nI (k + 1))), (0, .ref x), (1, .int (nI i)), (2, .int (nI c)), (3, .int (nI day)), (4, .int (nI s)), (5, .int (oI (nxt sd (pl sp f l) dy day s (k + 1))))]) X dX6_poursOn_61 6 rfl (nI_add _ 1) (by decide) (by rw [← nxt_n (fun z => h26 z.1)]; rfl) ?_
      refine v_goto (pc := 64) X 6 dX6_poursOn_64 (by decide) ?_
      refine v_sub [1, 2, 3, 4, 5, 6, 0] rfl ?_
      exact ih6 (k + 1) (by omega) (by omega)
    · refine v_iload (pc := 29) X dX6_poursOn_29 5 rfl ?_
      refine v_iconst (pc := 31) (v := -1) X dX6_poursOn_31 rfl ?_
      refine v_ic_eq (pc := 32) X 52 dX6_poursOn_32 (by decide) (fun h32 => ?_) (fun h32 => ?_)
      · refine v_iload (pc := 52) X dX6_poursOn_52 6 rfl ?_
        refine v_goto (pc := 54) X 59 dX6_poursOn_54 (by decide) ?_
        refine v_top (y := ((oI (nxt sd (pl sp f l) dy day s (k + 1))))) (nxt_s h26 (by rw [(oI_n _ hob).mp h32]; rfl)) ?_
        refine v_istore (pc := 59) (loc' := [(5, .int ((oI (nxt sd (pl sp f l) dy day s (k + 1))))), (0, .ref x), (1, .int (nI i)), (2, .int (nI c)), (3, .int (nI day)), (4, .int (nI s)), (6, .int (nI k))]) X dX6_poursOn_59 (by decide) rfl ?_
        refine v_iinc (pc := 61) (v := (nI (k + 1))) (loc' := [(6, .int (nI (k + 1))), (5, .int ((oI (nxt sd (pl sp f l) dy day s (k + 1))))), (0, .ref x), (1, .int (nI i)), (2, .int (nI c)), (3, .int (nI day)), (4, .int (nI s))]) X dX6_poursOn_61 6 rfl (nI_add _ 1) (by decide) rfl ?_
        refine v_goto (pc := 64) X 6 dX6_poursOn_64 (by decide) ?_
        refine v_sub [2, 3, 4, 5, 6, 1, 0] rfl ?_
        exact ih6 (k + 1) (by omega) (by omega)
      · obtain ⟨j, hoj⟩ := oI_ne hob h32
        have hjk := (nxt_lt hoj).1
        obtain ⟨e2, hke2⟩ := get_lt (L := pl sp f l) (k := j) (by omega)
        have hee2 := pl_mem hsp (List.mem_of_getElem? hke2)
        have hcb2 := cst_b h50 (pl sp f l) j
        refine v_aload_n (pc := 35) X dX6_poursOn_35 rfl 0 rfl ?_
        refine v_iload_n (pc := 36) X dX6_poursOn_36 rfl 1 rfl ?_
        refine v_iload (pc := 37) X dX6_poursOn_37 6 rfl ?_
        refine t_callI (pc := 39) X (m_pouringCost hn h9 hsd hi hPl hke) (lw_V q2259 q2261 qs66 q109 q2262) hdX6_pouringCost ⟨Nat.le_of_ble_eq_true rfl, Nat.le_of_ble_eq_true rfl⟩ rfl rfl (Nat.le_of_ble_eq_true rfl) dX6_poursOn_39 ⟨Nat.le_refl _, Nat.le_refl _⟩ (fun r39 σ39 hp39 => ?_)
        obtain ⟨rfl, rfl⟩ := hp39
        refine v_top (y := (nI (costK sd (pl sp f l) k))) (cst_eq hke (by omega)) ?_
        refine v_aload_n (pc := 42) X dX6_poursOn_42 rfl 0 rfl ?_
        refine v_iload_n (pc := 43) X dX6_poursOn_43 rfl 1 rfl ?_
        refine v_iload (pc := 44) X dX6_poursOn_44 5 rfl ?_
        refine v_st (st' := [.int (nI j), .int (nI i), .ref x, .int (nI (costK sd (pl sp f l) k))]) (by rw [hoj]; rfl) ?_
        refine t_callI (pc := 46) X (m_pouringCost hn h9 hsd hi hPl hke2) (lw_V q2259 q2261 qs66 q109 q2262) hdX6_pouringCost ⟨Nat.le_of_ble_eq_true rfl, Nat.le_of_ble_eq_true rfl⟩ rfl rfl (Nat.le_of_ble_eq_true rfl) dX6_poursOn_46 ⟨Nat.le_refl _, Nat.le_refl _⟩ (fun r46 σ46 hp46 => ?_)
        obtain ⟨rfl, rfl⟩ := hp46
        refine v_top (y := (nI (costK sd (pl sp f l) j))) (cst_eq hke2 (by omega)) ?_
        refine v_ic_leN (pc := 49) X (by omega) (by omega) 57 dX6_poursOn_49 (by decide) (fun h49 => ?_) (fun h49 => ?_)
        · refine v_iload (pc := 57) X dX6_poursOn_57 5 rfl ?_
          refine v_top (y := ((oI (nxt sd (pl sp f l) dy day s (k + 1))))) (nxt_n (by rw [hoj]; intro z; have := z.2; simp [betB] at this; omega)) ?_
          refine v_istore (pc := 59) (loc' := [(5, .int ((oI (nxt sd (pl sp f l) dy day s (k + 1))))), (0, .ref x), (1, .int (nI i)), (2, .int (nI c)), (3, .int (nI day)), (4, .int (nI s)), (6, .int (nI k))]) X dX6_poursOn_59 (by decide) rfl ?_
          refine v_iinc (pc := 61) (v := (nI (k + 1))) (loc' := [(6, .int (nI (k + 1))), (5, .int ((oI (nxt sd (pl sp f l) dy day s (k + 1))))), (0, .ref x), (1, .int (nI i)), (2, .int (nI c)), (3, .int (nI day)), (4, .int (nI s))]) X dX6_poursOn_61 6 rfl (nI_add _ 1) (by decide) rfl ?_
          refine v_goto (pc := 64) X 6 dX6_poursOn_64 (by decide) ?_
          refine v_sub [2, 3, 4, 5, 6, 1, 0] rfl ?_
          exact ih6 (k + 1) (by omega) (by omega)
        · refine v_iload (pc := 52) X dX6_poursOn_52 6 rfl ?_
          refine v_goto (pc := 54) X 59 dX6_poursOn_54 (by decide) ?_
          refine v_top (y := ((oI (nxt sd (pl sp f l) dy day s (k + 1))))) (nxt_s h26 (by rw [hoj]; simp [betB]; omega)) ?_
          refine v_istore (pc := 59) (loc' := [(5, .int ((oI (nxt sd (pl sp f l) dy day s (k + 1))))), (0, .ref x), (1, .int (nI i)), (2, .int (nI c)), (3, .int (nI day)), (4, .int (nI s)), (6, .int (nI k))]) X dX6_poursOn_59 (by decide) rfl ?_
          refine v_iinc (pc := 61) (v := (nI (k + 1))) (loc' := [(6, .int (nI (k + 1))), (5, .int ((oI (nxt sd (pl sp f l) dy day s (k + 1))))), (0, .ref x), (1, .int (nI i)), (2, .int (nI c)), (3, .int (nI day)), (4, .int (nI s))]) X dX6_poursOn_61 6 rfl (nI_add _ 1) (by decide) rfl ?_
          refine v_goto (pc := 64) X 6 dX6_poursOn_64 (by decide) ?_
          refine v_sub [2, 3, 4, 5, 6, 1, 0] rfl ?_
          exact ih6 (k + 1) (by omega) (by omega)
theorem hdX6_tooHeavy : yX6_tooHeavy.cls = RX6 ∧ yX6_tooHeavy.cls ≠ "java/lang/invoke/MethodHandle" ∧ yX6_tooHeavy.cls ≠ "java/lang/invoke/VarHandle" ∧ (parseMethodDescriptor yX6_tooHeavy.desc).map (fun d => d.parameters.length) = some 1 := by decide +kernel
set_option maxHeartbeats 4000000 in
theorem m_tooHeavy {l_ : Launch} {D : va_G} {dd : Nat → ClassId} {x : Nat} {ad : Nat → Nat} {σ : Tw} {n C : Nat} {sd st : Nat → Nat} (hn : σ 0 0 = nI n) (h9 : n ≤ 9) (hsd : SdOf (σ 0) sd) (h50 : ∀ i, sd i ≤ 50) {i f l : Nat} {sp : Nat → Nat → Nat} (hi : i < 4) (hPl : PlanAt (σ 0) i f l sp) (hv : l < n - 1) (hS : StOf (σ 0) st C) : TM l_ D dd x ad yX6_tooHeavy cX6_tooHeavy 4 (some .int) 3 67 [.ref x, .int (nI i)] σ (TI (fun r σ' => oI (hvy sd (pl sp f l) (strM st C)) = r ∧ σ = σ')) := by
  have hfl := hPl.1
  have hl8 := hPl.2.1
  have hsp := hPl.2.2.1
  have hpf := hPl.2.2.2.1
  have hpl := hPl.2.2.2.2.1
  have hpe := hPl.2.2.2.2.2
  have hLn := pl_length hsp f l
  obtain ⟨hC, hC4, hSk⟩ := id hS
  refine MW.intro (by decide) (Nat.le_of_ble_eq_true rfl) (fun p_ e_ s_ m_ as_ bl_ me_ c_ A_ X hr hnm => ?_)
  have X : VX p_ s_ m_ as_ me_ c_ cX6_tooHeavy 4 RX6 D dd A_ := X
  refine v_eq (loc' := [(0, .ref x), (1, .int (nI i))]) rfl rfl rfl ?_
  refine v_aload_n (pc := 0) X dX6_tooHeavy_0 rfl 0 rfl ?_
  refine t_get (pc := 1) X 0 (by decide) q1956 rfl rfl dX6_tooHeavy_1 ?_
  refine v_bipush (pc := 4) (v := nI 10) X dX6_tooHeavy_4 rfl ?_
  refine v_iald (pc := 6) X 1 ta_0 rfl (by omega) (by decide) dX6_tooHeavy_6 ?_
  refine v_top (y := (nI C)) hC ?_
  refine v_if_neN (pc := 7) X (by omega) 14 dX6_tooHeavy_7 (by decide) (fun h7 => ?_) (fun h7 => ?_)
  · obtain ⟨c0, ho0, hc0, -⟩ := ordC_ex (st := st) (C := C) (place := 0) (by omega)
    refine v_aload_n (pc := 14) X dX6_tooHeavy_14 rfl 0 rfl ?_
    refine t_get (pc := 15) X 0 (by decide) q1956 rfl rfl dX6_tooHeavy_15 ?_
    refine v_bipush (pc := 18) (v := nI 11) X dX6_tooHeavy_18 rfl ?_
    refine v_aload_n (pc := 20) X dX6_tooHeavy_20 rfl 0 rfl ?_
    refine v_iconst (pc := 21) (v := nI 0) X dX6_tooHeavy_21 rfl ?_
    refine t_callI (pc := 22) X (m_strongAt hS (by omega)) (lw_V q2287 q2289 qs71 q109 q2290) hdX6_strongAt ⟨Nat.le_of_ble_eq_true rfl, Nat.le_of_ble_eq_true rfl⟩ rfl rfl (Nat.le_of_ble_eq_true rfl) dX6_tooHeavy_22 ⟨Nat.le_refl _, Nat.le_refl _⟩ (fun r22 σ22 hp22 => ?_)
    obtain ⟨rfl, rfl⟩ := hp22
    refine v_top (y := nI c0) (by rw [ho0]; rfl) ?_
    refine v_iaddN (pc := 25) X dX6_tooHeavy_25 ?_
    refine v_iald (pc := 26) X 1 ta_0 rfl (by omega) (by decide) dX6_tooHeavy_26 ?_
    refine v_top (y := (nI (strM st C))) ((hSk c0 (by omega)).1.trans (by unfold strM; rw [if_neg h7, ho0]; rfl)) ?_
    have hsb := strM_le hS
    refine v_istore_n (pc := 27) (loc' := [(2, .int (nI (strM st C))), (0, .ref x), (1, .int (nI i))]) X dX6_tooHeavy_27 rfl (by decide) rfl ?_
    refine v_iconst (pc := 28) (v := nI 0) X dX6_tooHeavy_28 rfl ?_
    refine v_istore_n (pc := 29) (loc' := [(3, .int (nI 0)), (2, .int (nI (strM st C))), (0, .ref x), (1, .int (nI i))]) X dX6_tooHeavy_29 rfl (by decide) rfl ?_
    refine v_sub [2, 3, 1, 0] rfl ?_
    refine v_loop1 (S := Nat) (fun k => tw x ad dd σ) (fun k => [(0, .ref x), (1, .int (nI i)), (2, .int (nI (strM st C))), (3, .int (nI k))]) (fun k => k ≤ l - f ∧ hvy sd (pl sp f l) (strM st C) = fsH (fun k => decide (strM st C < costK sd (pl sp f l) k)) (l - f - k) k) (fun k => l - f - k) (fun k hI30 ih30 => ?_) 0 ⟨Nat.zero_le _, by unfold hvy; rw [hLn]; rfl⟩
    obtain ⟨hk1, hk2⟩ := hI30
    refine v_iload_n (pc := 30) X dX6_tooHeavy_30 rfl 3 rfl ?_
    refine v_aload_n (pc := 31) X dX6_tooHeavy_31 rfl 0 rfl ?_
    refine v_iload_n (pc := 32) X dX6_tooHeavy_32 rfl 1 rfl ?_
    refine t_callI (pc := 33) X (m_pourings hi hpf hpl hfl) (lw_V q2247 q2249 qs63 q109 q2250) hdX6_pourings ⟨Nat.le_of_ble_eq_true rfl, Nat.le_of_ble_eq_true rfl⟩ rfl rfl (Nat.le_of_ble_eq_true rfl) dX6_tooHeavy_33 ⟨Nat.le_refl _, Nat.le_refl _⟩ (fun r33 σ33 hp33 => ?_)
    obtain ⟨rfl, rfl⟩ := hp33
    refine v_ic_geN (pc := 36) X (by omega) (by omega) 57 dX6_tooHeavy_36 (by decide) (fun h36 => ?_) (fun h36 => ?_)
    · refine v_iconst (pc := 57) (v := -1) X dX6_tooHeavy_57 rfl ?_
      exact t_iret (pc := 58) X hr dX6_tooHeavy_58 ⟨_, rfl, by rw [hk2, show l - f - k = 0 by omega]; rfl, rfl⟩
    · obtain ⟨e, hke⟩ := get_lt (L := pl sp f l) (k := k) (by omega)
      have hee := pl_mem hsp (List.mem_of_getElem? hke)
      have hcb := cst_b h50 (pl sp f l) k
      refine v_aload_n (pc := 39) X dX6_tooHeavy_39 rfl 0 rfl ?_
      refine v_iload_n (pc := 40) X dX6_tooHeavy_40 rfl 1 rfl ?_
      refine v_iload_n (pc := 41) X dX6_tooHeavy_41 rfl 3 rfl ?_
      refine t_callI (pc := 42) X (m_pouringCost hn h9 hsd hi hPl hke) (lw_V q2259 q2261 qs66 q109 q2262) hdX6_pouringCost ⟨Nat.le_of_ble_eq_true rfl, Nat.le_of_ble_eq_true rfl⟩ rfl rfl (Nat.le_of_ble_eq_true rfl) dX6_tooHeavy_42 ⟨Nat.le_refl _, Nat.le_refl _⟩ (fun r42 σ42 hp42 => ?_)
      obtain ⟨rfl, rfl⟩ := hp42
      refine v_top (y := (nI (costK sd (pl sp f l) k))) (cst_eq hke (by omega)) ?_
      refine v_iload_n (pc := 45) X dX6_tooHeavy_45 rfl 2 rfl ?_
      refine v_ic_leN (pc := 46) X (by omega) (by omega) 51 dX6_tooHeavy_46 (by decide) (fun h46 => ?_) (fun h46 => ?_)
      · refine v_iinc (pc := 51) (v := (nI (k + 1))) (loc' := [(3, .int (nI (k + 1))), (0, .ref x), (1, .int (nI i)), (2, .int (nI (strM st C)))]) X dX6_tooHeavy_51 3 rfl (nI_add _ 1) (by decide) rfl ?_
        refine v_goto (pc := 54) X 30 dX6_tooHeavy_54 (by decide) ?_
        refine v_sub [1, 2, 3, 0] rfl ?_
        exact ih30 (k + 1) ⟨by omega, by rw [hk2, fsH_n (by simp only [decide_eq_true_eq]; omega) (by omega)]; congr 1⟩ (by omega)
      · refine v_iload_n (pc := 49) X dX6_tooHeavy_49 rfl 3 rfl ?_
        exact t_iret (pc := 50) X hr dX6_tooHeavy_50 ⟨_, rfl, by rw [hk2, fsH_s (by simp only [decide_eq_true_eq]; omega) (by omega)]; rfl, rfl⟩
  · refine v_iconst (pc := 10) (v := nI 0) X dX6_tooHeavy_10 rfl ?_
    refine v_goto (pc := 11) X 27 dX6_tooHeavy_11 (by decide) ?_
    refine v_top (y := (nI (strM st C))) (by unfold strM; rw [if_pos h7]) ?_
    have hsb := strM_le hS
    refine v_istore_n (pc := 27) (loc' := [(2, .int (nI (strM st C))), (0, .ref x), (1, .int (nI i))]) X dX6_tooHeavy_27 rfl (by decide) rfl ?_
    refine v_iconst (pc := 28) (v := nI 0) X dX6_tooHeavy_28 rfl ?_
    refine v_istore_n (pc := 29) (loc' := [(3, .int (nI 0)), (2, .int (nI (strM st C))), (0, .ref x), (1, .int (nI i))]) X dX6_tooHeavy_29 rfl (by decide) rfl ?_
    refine v_sub [2, 3, 1, 0] rfl ?_
    refine v_loop1 (S := Nat) (fun k => tw x ad dd σ) (fun k => [(0, .ref x), (1, .int (nI i)), (2, .int (nI (strM st C))), (3, .int (nI k))]) (fun k => k ≤ l - f ∧ hvy sd (pl sp f l) (strM st C) = fsH (fun k => decide (strM st C < costK sd (pl sp f l) k)) (l - f - k) k) (fun k => l - f - k) (fun k hI30 ih30 => ?_) 0 ⟨Nat.zero_le _, by unfold hvy; rw [hLn]; rfl⟩
    obtain ⟨hk1, hk2⟩ := hI30
    refine v_iload_n (pc := 30) X dX6_tooHeavy_30 rfl 3 rfl ?_
    refine v_aload_n (pc := 31) X dX6_tooHeavy_31 rfl 0 rfl ?_
    refine v_iload_n (pc := 32) X dX6_tooHeavy_32 rfl 1 rfl ?_
    refine t_callI (pc := 33) X (m_pourings hi hpf hpl hfl) (lw_V q2247 q2249 qs63 q109 q2250) hdX6_pourings ⟨Nat.le_of_ble_eq_true rfl, Nat.le_of_ble_eq_true rfl⟩ rfl rfl (Nat.le_of_ble_eq_true rfl) dX6_tooHeavy_33 ⟨Nat.le_refl _, Nat.le_refl _⟩ (fun r33 σ33 hp33 => ?_)
    obtain ⟨rfl, rfl⟩ := hp33
    refine v_ic_geN (pc := 36) X (by omega) (by omega) 57 dX6_tooHeavy_36 (by decide) (fun h36 => ?_) (fun h36 => ?_)
    · refine v_iconst (pc := 57) (v := -1) X dX6_tooHeavy_57 rfl ?_
      exact t_iret (pc := 58) X hr dX6_tooHeavy_58 ⟨_, rfl, by rw [hk2, show l - f - k = 0 by omega]; rfl, rfl⟩
    · obtain ⟨e, hke⟩ := get_lt (L := pl sp f l) (k := k) (by omega)
      have hee := pl_mem hsp (List.mem_of_getElem? hke)
      have hcb := cst_b h50 (pl sp f l) k
      refine v_aload_n (pc := 39) X dX6_tooHeavy_39 rfl 0 rfl ?_
      refine v_iload_n (pc := 40) X dX6_tooHeavy_40 rfl 1 rfl ?_
      refine v_iload_n (pc := 41) X dX6_tooHeavy_41 rfl 3 rfl ?_
      refine t_callI (pc := 42) X (m_pouringCost hn h9 hsd hi hPl hke) (lw_V q2259 q2261 qs66 q109 q2262) hdX6_pouringCost ⟨Nat.le_of_ble_eq_true rfl, Nat.le_of_ble_eq_true rfl⟩ rfl rfl (Nat.le_of_ble_eq_true rfl) dX6_tooHeavy_42 ⟨Nat.le_refl _, Nat.le_refl _⟩ (fun r42 σ42 hp42 => ?_)
      obtain ⟨rfl, rfl⟩ := hp42
      refine v_top (y := (nI (costK sd (pl sp f l) k))) (cst_eq hke (by omega)) ?_
      refine v_iload_n (pc := 45) X dX6_tooHeavy_45 rfl 2 rfl ?_
      refine v_ic_leN (pc := 46) X (by omega) (by omega) 51 dX6_tooHeavy_46 (by decide) (fun h46 => ?_) (fun h46 => ?_)
      · refine v_iinc (pc := 51) (v := (nI (k + 1))) (loc' := [(3, .int (nI (k + 1))), (0, .ref x), (1, .int (nI i)), (2, .int (nI (strM st C)))]) X dX6_tooHeavy_51 3 rfl (nI_add _ 1) (by decide) rfl ?_
        refine v_goto (pc := 54) X 30 dX6_tooHeavy_54 (by decide) ?_
        refine v_sub [1, 2, 3, 0] rfl ?_
        exact ih30 (k + 1) ⟨by omega, by rw [hk2, fsH_n (by simp only [decide_eq_true_eq]; omega) (by omega)]; congr 1⟩ (by omega)
      · refine v_iload_n (pc := 49) X dX6_tooHeavy_49 rfl 3 rfl ?_
        exact t_iret (pc := 50) X hr dX6_tooHeavy_50 ⟨_, rfl, by rw [hk2, fsH_s (by simp only [decide_eq_true_eq]; omega) (by omega)]; rfl, rfl⟩
theorem hdX6_poursAll : yX6_poursAll.cls = RX6 ∧ yX6_poursAll.cls ≠ "java/lang/invoke/MethodHandle" ∧ yX6_poursAll.cls ≠ "java/lang/invoke/VarHandle" ∧ (parseMethodDescriptor yX6_poursAll.desc).map (fun d => d.parameters.length) = some 2 := by decide +kernel
set_option maxHeartbeats 4000000 in
theorem m_poursAll {l_ : Launch} {D : va_G} {dd : Nat → ClassId} {x : Nat} {ad : Nat → Nat} {σ : Tw} {n C : Nat} {t : Nat} {sd st : Nat → Nat} (hn : σ 0 0 = nI n) (h9 : n ≤ 9) (hsd : SdOf (σ 0) sd) (h50 : ∀ i, sd i ≤ 50) {i f l : Nat} {sp : Nat → Nat → Nat} (hi : i < 4) (hPl : PlanAt (σ 0) i f l sp) (hS : StOf (σ 0) st C) (hs1 : ∀ j, j < n → 1 ≤ sd j) : TM l_ D dd x ad yX6_poursAll cX6_poursAll 6 (some .boolean) 6 148 [.ref x, .int (nI i), .int (nI t)] σ (TI (fun r σ' => bI (refD n sd st C f l (pl sp f l) = none) = r ∧ (∀ a d, refD n sd st C f l (pl sp f l) = some (a, d) → σ' = ws1 (ws1 (ws1 (ws1 σ 9 a) 10 d) 14 (nI t)) 11 1) ∧ (refD n sd st C f l (pl sp f l) = none → Ch [22, 23] [24] σ σ' ∧ DyIs σ' (sched sd (pl sp f l) st C).2 (l - f) ∧ (sched sd (pl sp f l) st C).2.2.2 = 0 ∧ σ' 99 24 = nI (sched sd (pl sp f l) st C).1 ∧ (sched sd (pl sp f l) st C).1 ≤ 7))) := by
  have hfl := hPl.1
  have hl8 := hPl.2.1
  have hsp := hPl.2.2.1
  have hpf := hPl.2.2.2.1
  have hpl := hPl.2.2.2.2.1
  have hpe := hPl.2.2.2.2.2
  have hLn := pl_length hsp f l
  obtain ⟨hC, hC4, hSk⟩ := id hS
  refine MW.intro (by decide) (Nat.le_of_ble_eq_true rfl) (fun p_ e_ s_ m_ as_ bl_ me_ c_ A_ X hr hnm => ?_)
  have X : VX p_ s_ m_ as_ me_ c_ cX6_poursAll 6 RX6 D dd A_ := X
  refine v_eq (loc' := [(0, .ref x), (1, .int (nI i)), (2, .int (nI t))]) rfl rfl rfl ?_
  refine v_aload_n (pc := 0) X dX6_poursAll_0 rfl 0 rfl ?_
  refine v_iload_n (pc := 1) X dX6_poursAll_1 rfl 1 rfl ?_
  refine t_callI (pc := 2) X (m_canBePoured hn h9 hi hl8 hpl) (lw_V q2255 q2257 qs65 q109 q2258) hdX6_canBePoured ⟨Nat.le_of_ble_eq_true rfl, Nat.le_of_ble_eq_true rfl⟩ rfl rfl (Nat.le_of_ble_eq_true rfl) dX6_poursAll_2 ⟨Nat.le_refl _, Nat.le_refl _⟩ (fun r2 σ2 hp2 => ?_)
  obtain ⟨rfl, rfl⟩ := hp2
  refine v_if_neB (pc := 5) X 43 dX6_poursAll_5 (by decide) (fun h5 => ?_) (fun h5 => ?_)
  · refine v_aload_n (pc := 43) X dX6_poursAll_43 rfl 0 rfl ?_
    refine v_iload_n (pc := 44) X dX6_poursAll_44 rfl 1 rfl ?_
    refine t_callI (pc := 45) X (m_tooHeavy hn h9 hsd h50 hi hPl (by omega) hS) (lw_V q2283 q2285 qs70 q109 q2286) hdX6_tooHeavy ⟨Nat.le_of_ble_eq_true rfl, Nat.le_of_ble_eq_true rfl⟩ rfl rfl (Nat.le_of_ble_eq_true rfl) dX6_poursAll_45 ⟨Nat.le_refl _, Nat.le_refl _⟩ (fun r45 σ45 hp45 => ?_)
    obtain ⟨rfl, rfl⟩ := hp45
    have hvb : ∀ k, hvy sd (pl sp f l) (strM st C) = some k → k < 1000 := fun k h => by have := (fsH_lt h).2.1; omega
    refine v_nm (fun zh ezh => ?_)
    refine v_iconst (pc := 48) (v := -1) X dX6_poursAll_48 rfl ?_
    refine v_ic_eq (pc := 49) X 67 dX6_poursAll_49 (by decide) (fun h49 => ?_) (fun h49 => ?_)
    · have hre : refD n sd st C f l (pl sp f l) = none := refD_n h5 ((oI_n _ hvb).mp (ezh.symm.trans h49))
      have hst0 : ∀ k, k < l - f → costK sd (pl sp f l) k ≤ strM st C := hvy_n hLn ((oI_n _ hvb).mp (ezh.symm.trans h49))
      refine v_iconst (pc := 67) (v := nI 0) X dX6_poursAll_67 rfl ?_
      refine v_istore_n (pc := 68) (loc' := [(3, .int (nI 0)), (0, .ref x), (1, .int (nI i)), (2, .int (nI t))]) X dX6_poursAll_68 rfl (by decide) rfl ?_
      refine v_sub [1, 2, 3, 0] rfl ?_
      refine v_loop2 (S := Nat) (T := Tw) (fun k τ => tw x ad dd τ) (fun k τ => [(0, .ref x), (1, .int (nI i)), (2, .int (nI t)), (3, .int (nI k))]) (fun k τ => k ≤ 7 ∧ Ch [22, 23] [24] σ τ ∧ ∀ j, j < k → τ 22 j = nI 0) (fun k τ => 7 - k) (fun k τ hI69 ih69 => ?_) 0 _ ⟨Nat.zero_le _, Ch.rf _ _ _, fun j h => by omega⟩
      obtain ⟨hk1, hC1, hz⟩ := hI69
      refine v_iload_n (pc := 69) X dX6_poursAll_69 rfl 3 rfl ?_
      refine v_bipush (pc := 70) (v := nI 7) X dX6_poursAll_70 rfl ?_
      refine v_ic_geN (pc := 72) X (by omega) (by omega) 88 dX6_poursAll_72 (by decide) (fun h72 => ?_) (fun h72 => ?_)
      · have hg0 : τ 0 = σ 0 := hC1.1 0 (by decide) (by decide)
        refine v_aload_n (pc := 88) X dX6_poursAll_88 rfl 0 rfl ?_
        refine v_iload_n (pc := 89) X dX6_poursAll_89 rfl 1 rfl ?_
        refine t_callI (pc := 90) X (m_pourings hi (by rw [hg0]; exact hpf) (by rw [hg0]; exact hpl) hfl) (lw_V q2247 q2249 qs63 q109 q2250) hdX6_pourings ⟨Nat.le_of_ble_eq_true rfl, Nat.le_of_ble_eq_true rfl⟩ rfl rfl (Nat.le_of_ble_eq_true rfl) dX6_poursAll_90 ⟨Nat.le_refl _, Nat.le_refl _⟩ (fun r90 σ90 hp90 => ?_)
        obtain ⟨rfl, rfl⟩ := hp90
        refine v_istore_n (pc := 93) (loc' := [(3, .int (nI (l - f))), (0, .ref x), (1, .int (nI i)), (2, .int (nI t))]) X dX6_poursAll_93 rfl (by decide) rfl ?_
        refine v_aload_n (pc := 94) X dX6_poursAll_94 rfl 1 rfl ?_
        refine v_iconst (pc := 95) (v := nI 0) X dX6_poursAll_95 rfl ?_
        refine t_put (pc := 96) X 24 (by decide) q1980 rfl rfl rfl rfl dX6_poursAll_96 (tf_24 _) ?_
        refine v_sub [1, 2, 3, 0] rfl ?_
        refine v_loop3 (S := Nat) (T := DS) (Z := Tw) (fun tt s ρ => tw x ad dd ρ) (fun tt s ρ => [(0, .ref x), (1, .int (nI i)), (2, .int (nI t)), (3, .int (nI s.2.2))]) (fun tt s ρ => Ch [22, 23] [24] σ ρ ∧ DyIs ρ s (l - f) ∧ ρ 99 24 = nI tt ∧ DsOk (pl sp f l) tt s ∧ tt + s.2.2 ≤ l - f ∧ ∃ fu, s.2.2 ≤ fu ∧ runS sd (pl sp f l) st C fu tt s = sched sd (pl sp f l) st C) (fun tt s ρ => s.2.2) (fun tt s ρ hI99 ih99 => ?_) 0 (((fun _ => 0), (fun _ => 0), l - f)) _ ⟨hC1.num 24 _ (by decide), ⟨fun k hk => hz k (by omega), fun k _ h => absurd rfl h⟩, rfl, ⟨fun k _ => Nat.le_refl _, by rw [cntB_all (fun k _ => by simp), hLn]⟩, by show 0 + (l - f) ≤ _; omega, _, Nat.le_refl _, by unfold sched; rw [hLn]⟩
        obtain ⟨hC2, hD2, hT2, hO2, hl2, fu, hfu, hrun⟩ := hI99
        refine v_iload_n (pc := 99) X dX6_poursAll_99 rfl 3 rfl ?_
        refine v_if_leN (pc := 100) X (by omega) 177 dX6_poursAll_100 (by decide) (fun h100 => ?_) (fun h100 => ?_)
        · refine v_iconst (pc := 177) (v := nI 1) X dX6_poursAll_177 rfl ?_
          exact t_zret (pc := 178) X hr rfl dX6_poursAll_178 (have hsc : sched sd (pl sp f l) st C = (tt, s) := hrun.symm.trans (runS_0 h100 fu); ⟨_, rfl, bI_t hre, fun a d e => (by rw [hre] at e; cases e), fun _ => ⟨hC2, by rw [hsc]; exact hD2, by rw [hsc]; exact h100, by rw [hsc]; exact hT2, by rw [hsc]; show tt ≤ 7; omega⟩⟩)
        · have hg2 : ρ 0 = σ 0 := hC2.1 0 (by decide) (by decide)
          have hO2b : DsOk (pl sp f l) (tt + 1) s := ⟨fun k hk => Nat.le_succ_of_le (hO2.1 k hk), hO2.2⟩
          have hCp : 0 < C := by
            rcases Nat.eq_zero_or_pos C with e | e
            · exfalso
              obtain ⟨e0, hke0⟩ := get_lt (L := pl sp f l) (k := 0) (by omega)
              have hee0 := pl_mem hsp (List.mem_of_getElem? hke0)
              have hp0 := cst_p hke0 hs1 (by omega) (by omega) (by omega)
              have hq0 := hst0 0 (by omega)
              have : strM st C = 0 := by unfold strM; rw [if_pos e]
              omega
            · exact e
          obtain ⟨c1, ho1, hc1, -⟩ := ordC_ex (st := st) (C := C) (place := 0) hCp
          have hst1 : ∀ k, k < (pl sp f l).length → costK sd (pl sp f l) k ≤ st c1 := fun k hk => by have := hst0 k (by omega); unfold strM at this; rw [if_neg (by omega), ho1] at this; exact this
          have hpg := day_prog (pl_LOk hsp f l) hO2 hCp ho1 hst1 (by omega)
          refine v_aload_n (pc := 103) X dX6_poursAll_103 rfl 0 rfl ?_
          refine v_dup (pc := 104) X dX6_poursAll_104 rfl ?_
          refine t_get (pc := 105) X 24 (by decide) q1980 rfl rfl dX6_poursAll_105 ?_
          refine v_top (y := (nI tt)) hT2 ?_
          refine v_iconst (pc := 108) (v := nI 1) X dX6_poursAll_108 rfl ?_
          refine v_iaddN (pc := 109) X dX6_poursAll_109 ?_
          refine t_put (pc := 110) X 24 (by decide) q1980 rfl rfl rfl rfl dX6_poursAll_110 (tf_24 _) ?_
          refine v_iconst (pc := 113) (v := nI 0) X dX6_poursAll_113 rfl ?_
          refine v_istore (pc := 114) (loc' := [(4, .int (nI 0)), (0, .ref x), (1, .int (nI i)), (2, .int (nI t)), (3, .int (nI s.2.2))]) X dX6_poursAll_114 (by decide) rfl ?_
          refine v_sub [1, 2, 3, 4, 0] rfl ?_
          refine v_loop2 (S := Nat) (T := Tw) (fun q ω => tw x ad dd ω) (fun q ω => [(0, .ref x), (1, .int (nI i)), (2, .int (nI t)), (3, .int (nI ((dayS sd (pl sp f l) st C (tt + 1) s q).2.2))), (4, .int (nI q))]) (fun q ω => q ≤ C ∧ Ch [22, 23] [24] σ ω ∧ DyIs ω (dayS sd (pl sp f l) st C (tt + 1) s q) (l - f) ∧ ω 99 24 = nI (tt + 1)) (fun q ω => C - q) (fun q ω hI116 ih116 => ?_) 0 _ ⟨Nat.zero_le _, hC2.num 24 _ (by decide), hD2, rfl⟩
          obtain ⟨hq1, hC3, hD3, hT3⟩ := hI116
          have hO3 := dayS_ok (sd := sd) (st := st) (C := C) (Nat.succ_pos tt) hO2b q
          have hg3 : ω 0 = σ 0 := hC3.1 0 (by decide) (by decide)
          refine v_iload (pc := 116) X dX6_poursAll_116 4 rfl ?_
          refine v_aload_n (pc := 118) X dX6_poursAll_118 rfl 0 rfl ?_
          refine t_get (pc := 119) X 0 (by decide) q1956 rfl rfl dX6_poursAll_119 ?_
          refine v_bipush (pc := 122) (v := nI 10) X dX6_poursAll_122 rfl ?_
          refine v_iald (pc := 124) X 1 ta_0 rfl (by omega) (by decide) dX6_poursAll_124 ?_
          refine v_top (y := (nI C)) ((congrFun hg3 _).trans hC) ?_
          refine v_ic_geN (pc := 125) X (by omega) (by omega) 174 dX6_poursAll_125 (by decide) (fun h125 => ?_) (fun h125 => ?_)
          · have hqC : q = C := by omega
            have hpq : (dayS sd (pl sp f l) st C (tt + 1) s q).2.2 < s.2.2 := by rw [hqC]; exact hpg
            refine v_goto (pc := 174) X 99 dX6_poursAll_174 (by decide) ?_
            refine v_sub [0, 1, 2, 3] rfl ?_
            exact ih99 (tt + 1) (dayS sd (pl sp f l) st C (tt + 1) s q) _ ⟨hC3, hD3, hT3, hO3.1, (by omega), fu - 1, (by omega), (by rw [← hrun, hqC]; exact runS_s (by omega) hfu)⟩ hpq
          · obtain ⟨c0, ho0, hc0, -⟩ := ordC_ex (st := st) (C := C) (place := q) (by omega)
            have hds : dayS sd (pl sp f l) st C (tt + 1) s (q + 1) = plcS sd (pl sp f l) st (tt + 1) (dayS sd (pl sp f l) st C (tt + 1) s q) c0 := by show plcS _ _ _ _ _ ((ordC st C q).getD 0) = _; rw [ho0]; rfl
            have hb3 := (hSk c0 (by omega)).2
            generalize hse : dayS sd (pl sp f l) st C (tt + 1) s q = s3 at *
            refine v_aload_n (pc := 128) X dX6_poursAll_128 rfl 0 rfl ?_
            refine v_iload (pc := 129) X dX6_poursAll_129 4 rfl ?_
            refine t_callI (pc := 131) X (m_strongAt (by rw [hg3]; exact hS) (by omega)) (lw_V q2287 q2289 qs71 q109 q2290) hdX6_strongAt ⟨Nat.le_of_ble_eq_true rfl, Nat.le_of_ble_eq_true rfl⟩ rfl rfl (Nat.le_of_ble_eq_true rfl) dX6_poursAll_131 ⟨Nat.le_refl _, Nat.le_refl _⟩ (fun r131 σ131 hp131 => ?_)
            obtain ⟨rfl, rfl⟩ := hp131
            refine v_top (y := nI c0) (by rw [ho0]; rfl) ?_
            refine v_istore (pc := 134) (loc' := [(5, .int (nI c0)), (0, .ref x), (1, .int (nI i)), (2, .int (nI t)), (3, .int (nI s3.2.2)), (4, .int (nI q))]) X dX6_poursAll_134 (by decide) rfl ?_
            refine v_iload_n (pc := 136) X dX6_poursAll_136 rfl 4 rfl ?_
            refine v_aload_n (pc := 137) X dX6_poursAll_137 rfl 1 rfl ?_
            refine v_iload_n (pc := 138) X dX6_poursAll_138 rfl 2 rfl ?_
            refine v_iload (pc := 139) X dX6_poursAll_139 0 rfl ?_
            refine v_aload_n (pc := 141) X dX6_poursAll_141 rfl 1 rfl ?_
            refine t_get (pc := 142) X 24 (by decide) q1980 rfl rfl dX6_poursAll_142 ?_
            refine v_top (y := (nI (tt + 1))) hT3 ?_
            refine v_aload_n (pc := 145) X dX6_poursAll_145 rfl 1 rfl ?_
            refine t_get (pc := 146) X 0 (by decide) q1956 rfl rfl dX6_poursAll_146 ?_
            refine v_bipush (pc := 149) (v := nI 11) X dX6_poursAll_149 rfl ?_
            refine v_iload (pc := 151) X dX6_poursAll_151 0 rfl ?_
            refine v_iaddN (pc := 153) X dX6_poursAll_153 ?_
            refine v_iald (pc := 154) X 1 ta_0 rfl (by omega) (by decide) dX6_poursAll_154 ?_
            refine v_top (y := (nI (st c0))) ((congrFun hg3 _).trans (hSk c0 (by omega)).1) ?_
            refine t_callI (pc := 155) X (m_poursOn (dy := s3.1) (day := tt + 1) (n := n) (sd := sd) (by rw [hg3]; exact hn) h9 (by rw [hg3]; exact hsd) h50 hi (by rw [hg3]; exact hPl) (fun k hk => ⟨hD3.1 k hk, by have := hO3.1.1 k (by omega); omega⟩) (by omega) h5 (by omega) (by omega)) (lw_V q2291 q2293 qs72 q109 q2294) hdX6_poursOn ⟨Nat.le_of_ble_eq_true rfl, Nat.le_of_ble_eq_true rfl⟩ rfl rfl (Nat.le_of_ble_eq_true rfl) dX6_poursAll_155 ⟨Nat.le_refl _, Nat.le_refl _⟩ (fun r155 σ155 hp155 => ?_)
            have hIn : DyIs σ155 (plcS sd (pl sp f l) st (tt + 1) s3 c0) (l - f) ∧ Ch [22, 23] [24] σ σ155 ∧ σ155 99 24 = nI (tt + 1) ∧ ∃ b : Prop, ∃ _ : Decidable b, r155 = bI b ∧ (b → 1 ≤ s3.2.2 ∧ (plcS sd (pl sp f l) st (tt + 1) s3 c0).2.2 = s3.2.2 - 1) ∧ (¬ b → (plcS sd (pl sp f l) st (tt + 1) s3 c0).2.2 = s3.2.2) := pl_place hLn hp155 hD3 hC3 hT3 hO3.1
            obtain ⟨hD4, hC4b, hT4, bb, hbd, hrb, hb1, hb0⟩ := hIn
            refine v_top (y := bI bb) hrb ?_
            refine v_if_eqB (pc := 158) X 165 dX6_poursAll_158 (by decide) (fun h158 => ?_) (fun h158 => ?_)
            · have hb0a := hb0 h158
              refine v_iconst (pc := 165) (v := nI 0) X dX6_poursAll_165 rfl ?_
              refine v_isubN (pc := 166) X (by omega) dX6_poursAll_166 ?_
              refine v_top (y := (nI ((dayS sd (pl sp f l) st C (tt + 1) s (q + 1)).2.2))) (by rw [hds, hb0a]; rfl) ?_
              refine v_istore_n (pc := 167) (loc' := [(3, .int (nI ((dayS sd (pl sp f l) st C (tt + 1) s (q + 1)).2.2))), (5, .int (nI c0)), (0, .ref x), (1, .int (nI i)), (2, .int (nI t)), (4, .int (nI q))]) X dX6_poursAll_167 rfl (by decide) rfl ?_
              refine v_iinc (pc := 168) (v := (nI (q + 1))) (loc' := [(4, .int (nI (q + 1))), (3, .int (nI ((dayS sd (pl sp f l) st C (tt + 1) s (q + 1)).2.2))), (5, .int (nI c0)), (0, .ref x), (1, .int (nI i)), (2, .int (nI t))]) X dX6_poursAll_168 5 rfl (nI_add _ 1) (by decide) rfl ?_
              refine v_goto (pc := 171) X 116 dX6_poursAll_171 (by decide) ?_
              refine v_sub [3, 4, 5, 1, 0] rfl ?_
              exact ih116 (q + 1) _ ⟨by omega, hC4b, by rw [hds]; exact hD4, hT4⟩ (by omega)
            · obtain ⟨hb1a, hb1b⟩ := hb1 h158
              refine v_iconst (pc := 161) (v := nI 1) X dX6_poursAll_161 rfl ?_
              refine v_goto (pc := 162) X 166 dX6_poursAll_162 (by decide) ?_
              refine v_isubN (pc := 166) X (by omega) dX6_poursAll_166 ?_
              refine v_top (y := (nI ((dayS sd (pl sp f l) st C (tt + 1) s (q + 1)).2.2))) (by rw [hds, hb1b]) ?_
              refine v_istore_n (pc := 167) (loc' := [(3, .int (nI ((dayS sd (pl sp f l) st C (tt + 1) s (q + 1)).2.2))), (5, .int (nI c0)), (0, .ref x), (1, .int (nI i)), (2, .int (nI t)), (4, .int (nI q))]) X dX6_poursAll_167 rfl (by decide) rfl ?_
              refine v_iinc (pc := 168) (v := (nI (q + 1))) (loc' := [(4, .int (nI (q + 1))), (3, .int (nI ((dayS sd (pl sp f l) st C (tt + 1) s (q + 1)).2.2))), (5, .int (nI c0)), (0, .ref x), (1, .int (nI i)), (2, .int (nI t))]) X dX6_poursAll_168 5 rfl (nI_add _ 1) (by decide) rfl ?_
              refine v_goto (pc := 171) X 116 dX6_poursAll_171 (by decide) ?_
              refine v_sub [3, 4, 5, 1, 0] rfl ?_
              exact ih116 (q + 1) _ ⟨by omega, hC4b, by rw [hds]; exact hD4, hT4⟩ (by omega)
      · refine v_aload_n (pc := 75) X dX6_poursAll_75 rfl 0 rfl ?_
        refine t_get (pc := 76) X 22 (by decide) q1978 rfl rfl dX6_poursAll_76 ?_
        refine v_iload_n (pc := 79) X dX6_poursAll_79 rfl 3 rfl ?_
        refine v_iconst (pc := 80) (v := nI 0) X dX6_poursAll_80 rfl ?_
        refine v_iast (pc := 81) X 13 ta_22 rfl (by omega) (by decide) dX6_poursAll_81 (tb_22 _) ?_
        refine v_iinc (pc := 82) (v := (nI (k + 1))) (loc' := [(3, .int (nI (k + 1))), (0, .ref x), (1, .int (nI i)), (2, .int (nI t))]) X dX6_poursAll_82 3 rfl (nI_add _ 1) (by decide) rfl ?_
        refine v_goto (pc := 85) X 69 dX6_poursAll_85 (by decide) ?_
        refine v_sub [1, 2, 3, 0] rfl ?_
        exact ih69 _ _ ⟨by omega, hC1.row 22 _ (by decide) (by decide), fun j hj => by (by_cases e : j = k); (subst e; exact rd_s); (exact (rd_n e).trans (hz j (by omega)))⟩ (by omega)
    · refine v_aload_n (pc := 52) X dX6_poursAll_52 rfl 0 rfl ?_
      refine v_bipush (pc := 53) (v := nI 6) X dX6_poursAll_53 rfl ?_
      refine v_aload_n (pc := 55) X dX6_poursAll_55 rfl 0 rfl ?_
      refine v_iload_n (pc := 56) X dX6_poursAll_56 rfl 1 rfl ?_
      refine t_callI (pc := 57) X (m_tooHeavy hn h9 hsd h50 hi hPl (by omega) hS) (lw_V q2283 q2285 qs70 q109 q2286) hdX6_tooHeavy ⟨Nat.le_of_ble_eq_true rfl, Nat.le_of_ble_eq_true rfl⟩ rfl rfl (Nat.le_of_ble_eq_true rfl) dX6_poursAll_57 ⟨Nat.le_refl _, Nat.le_refl _⟩ (fun r57 σ57 hp57 => ?_)
      obtain ⟨rfl, rfl⟩ := hp57
      refine v_iload_n (pc := 60) X dX6_poursAll_60 rfl 2 rfl ?_
      refine v_nm (fun zh2 ezh2 => ?_)
      refine t_callI (pc := 61) X m_refused (lw_V q2086 q2088 qs39 q109 q2089) hdX6_refused ⟨Nat.le_of_ble_eq_true rfl, Nat.le_of_ble_eq_true rfl⟩ rfl rfl (Nat.le_of_ble_eq_true rfl) dX6_poursAll_61 ⟨Nat.le_refl _, Nat.le_refl _⟩ (fun r61 σ61 hp61 => ?_)
      obtain ⟨rfl, rfl⟩ := hp61
      refine v_istore_n (pc := 64) (loc' := [(3, .int (nI 0)), (0, .ref x), (1, .int (nI i)), (2, .int (nI t))]) X dX6_poursAll_64 rfl (by decide) rfl ?_
      refine v_iconst (pc := 65) (v := nI 0) X dX6_poursAll_65 rfl ?_
      exact t_zret (pc := 66) X hr rfl dX6_poursAll_66 (have hrh := refD_h h5 (show hvy sd (pl sp f l) (strM st C) ≠ none from fun z => h49 (by rw [ezh, z]; rfl)); ⟨_, rfl, bI_f (by rw [hrh]; simp), fun a d e => by rw [hrh] at e; cases e; rw [ezh2], fun e => by rw [hrh] at e; cases e⟩)
  · refine v_aload_n (pc := 8) X dX6_poursAll_8 rfl 0 rfl ?_
    refine v_iconst (pc := 9) (v := nI 5) X dX6_poursAll_9 rfl ?_
    refine v_aload_n (pc := 10) X dX6_poursAll_10 rfl 0 rfl ?_
    refine v_iload_n (pc := 11) X dX6_poursAll_11 rfl 1 rfl ?_
    refine v_iconst (pc := 12) (v := nI 0) X dX6_poursAll_12 rfl ?_
    refine t_callI (pc := 13) X (m_of (by omega) (by omega)) (lw_V q2243 q2245 qs62 q109 q2246) hdX6_of ⟨Nat.le_of_ble_eq_true rfl, Nat.le_of_ble_eq_true rfl⟩ rfl rfl (Nat.le_of_ble_eq_true rfl) dX6_poursAll_13 ⟨Nat.le_refl _, Nat.le_refl _⟩ (fun r13 σ13 hp13 => ?_)
    obtain ⟨rfl, rfl⟩ := hp13
    refine v_top (y := (nI f)) hpf ?_
    refine v_aload_n (pc := 16) X dX6_poursAll_16 rfl 0 rfl ?_
    refine t_callI (pc := 17) X (m_vats hn h9) (lw_V q2090 q2092 qs40 q109 q2093) hdX6_vats ⟨Nat.le_of_ble_eq_true rfl, Nat.le_of_ble_eq_true rfl⟩ rfl rfl (Nat.le_of_ble_eq_true rfl) dX6_poursAll_17 ⟨Nat.le_refl _, Nat.le_refl _⟩ (fun r17 σ17 hp17 => ?_)
    obtain ⟨rfl, rfl⟩ := hp17
    refine v_ic_leN (pc := 20) X (by omega) (by omega) 32 dX6_poursAll_20 (by decide) (fun h20 => ?_) (fun h20 => ?_)
    · refine v_aload_n (pc := 32) X dX6_poursAll_32 rfl 0 rfl ?_
      refine t_callI (pc := 33) X (m_vats hn h9) (lw_V q2090 q2092 qs40 q109 q2093) hdX6_vats ⟨Nat.le_of_ble_eq_true rfl, Nat.le_of_ble_eq_true rfl⟩ rfl rfl (Nat.le_of_ble_eq_true rfl) dX6_poursAll_33 ⟨Nat.le_refl _, Nat.le_refl _⟩ (fun r33 σ33 hp33 => ?_)
      obtain ⟨rfl, rfl⟩ := hp33
      refine v_top (y := (nI (max f (n - 1)))) (by rw [Nat.max_eq_right (by omega)]) ?_
      refine v_iload_n (pc := 36) X dX6_poursAll_36 rfl 2 rfl ?_
      refine t_callI (pc := 37) X m_refused (lw_V q2086 q2088 qs39 q109 q2089) hdX6_refused ⟨Nat.le_of_ble_eq_true rfl, Nat.le_of_ble_eq_true rfl⟩ rfl rfl (Nat.le_of_ble_eq_true rfl) dX6_poursAll_37 ⟨Nat.le_refl _, Nat.le_refl _⟩ (fun r37 σ37 hp37 => ?_)
      obtain ⟨rfl, rfl⟩ := hp37
      refine v_istore_n (pc := 40) (loc' := [(3, .int (nI 0)), (0, .ref x), (1, .int (nI i)), (2, .int (nI t))]) X dX6_poursAll_40 rfl (by decide) rfl ?_
      refine v_iconst (pc := 41) (v := nI 0) X dX6_poursAll_41 rfl ?_
      exact t_zret (pc := 42) X hr rfl dX6_poursAll_42 ⟨_, rfl, bI_f (by rw [refD_v h5]; simp), fun a d e => by rw [refD_v h5] at e; cases e; rfl, fun e => by rw [refD_v h5] at e; cases e⟩
    · refine v_aload_n (pc := 23) X dX6_poursAll_23 rfl 0 rfl ?_
      refine v_iload_n (pc := 24) X dX6_poursAll_24 rfl 1 rfl ?_
      refine v_iconst (pc := 25) (v := nI 0) X dX6_poursAll_25 rfl ?_
      refine t_callI (pc := 26) X (m_of (by omega) (by omega)) (lw_V q2243 q2245 qs62 q109 q2246) hdX6_of ⟨Nat.le_of_ble_eq_true rfl, Nat.le_of_ble_eq_true rfl⟩ rfl rfl (Nat.le_of_ble_eq_true rfl) dX6_poursAll_26 ⟨Nat.le_refl _, Nat.le_refl _⟩ (fun r26 σ26 hp26 => ?_)
      obtain ⟨rfl, rfl⟩ := hp26
      refine v_top (y := (nI f)) hpf ?_
      refine v_goto (pc := 29) X 36 dX6_poursAll_29 (by decide) ?_
      refine v_top (y := (nI (max f (n - 1)))) (by rw [Nat.max_eq_left (by omega)]) ?_
      refine v_iload_n (pc := 36) X dX6_poursAll_36 rfl 2 rfl ?_
      refine t_callI (pc := 37) X m_refused (lw_V q2086 q2088 qs39 q109 q2089) hdX6_refused ⟨Nat.le_of_ble_eq_true rfl, Nat.le_of_ble_eq_true rfl⟩ rfl rfl (Nat.le_of_ble_eq_true rfl) dX6_poursAll_37 ⟨Nat.le_refl _, Nat.le_refl _⟩ (fun r37 σ37 hp37 => ?_)
      obtain ⟨rfl, rfl⟩ := hp37
      refine v_istore_n (pc := 40) (loc' := [(3, .int (nI 0)), (0, .ref x), (1, .int (nI i)), (2, .int (nI t))]) X dX6_poursAll_40 rfl (by decide) rfl ?_
      refine v_iconst (pc := 41) (v := nI 0) X dX6_poursAll_41 rfl ?_
      exact t_zret (pc := 42) X hr rfl dX6_poursAll_42 ⟨_, rfl, bI_f (by rw [refD_v h5]; simp), fun a d e => by rw [refD_v h5] at e; cases e; rfl, fun e => by rw [refD_v h5] at e; cases e⟩
theorem hdX6_days : yX6_days.cls = RX6 ∧ yX6_days.cls ≠ "java/lang/invoke/MethodHandle" ∧ yX6_days.cls ≠ "java/lang/invoke/VarHandle" ∧ (parseMethodDescriptor yX6_days.desc).map (fun d => d.parameters.length) = some 1 := by decide +kernel
set_option maxHeartbeats 4000000 in
theorem m_days {l_ : Launch} {D : va_G} {dd : Nat → ClassId} {x : Nat} {ad : Nat → Nat} {σ : Tw} {n np C : Nat} {sd st : Nat → Nat} {a : Int32} (hn : σ 0 0 = nI n) (h9 : n ≤ 9) (hsd : SdOf (σ 0) sd) (h50 : ∀ i, sd i ≤ 50) (hs1 : ∀ j, j < n → 1 ≤ sd j) (hp : σ 0 15 = nI np) (hp4 : np ≤ 4) (hPs : PlansOk (σ 0) np) (hS : StOf (σ 0) st C) : TM l_ D dd x ad yX6_days cX6_days 2 (some .int) 7 173 [.ref x, .int a] σ (TI (fun r σ' => Qr σ (qDays (σ 0) n np C sd st a) r σ')) := by
  refine MW.intro (by decide) (Nat.le_of_ble_eq_true rfl) (fun p_ e_ s_ m_ as_ bl_ me_ c_ A_ X hr hnm => ?_)
  have X : VX p_ s_ m_ as_ me_ c_ cX6_days 2 RX6 D dd A_ := X
  refine v_eq (loc' := [(0, .ref x), (1, .int a)]) rfl rfl rfl ?_
  refine v_aload_n (pc := 0) X dX6_days_0 rfl 0 rfl ?_
  refine v_iload_n (pc := 1) X dX6_days_1 rfl 1 rfl ?_
  refine t_callI (pc := 2) X (m_isPlan hp) (lw_V q2235 q2237 qs61 q109 q2238) hdX6_isPlan ⟨Nat.le_of_ble_eq_true rfl, Nat.le_of_ble_eq_true rfl⟩ rfl rfl (Nat.le_of_ble_eq_true rfl) dX6_days_2 ⟨Nat.le_refl _, Nat.le_refl _⟩ (fun r2 σ2 hp2 => ?_)
  obtain ⟨rfl, rfl⟩ := hp2
  refine v_if_neB (pc := 5) X 14 dX6_days_5 (by decide) (fun h5 => ?_) (fun h5 => ?_)
  · obtain ⟨i, hii, rfl⟩ := inN_of (by omega) h5
    have hci : (nI i).toNatClampNeg = i := nI_clamp (by omega)
    have hi : i < 4 := by omega
    obtain ⟨f, l, sp, hPl⟩ := hPs i hii
    obtain ⟨hbf, hbe, hbL⟩ := hPl.eqs
    have hfl := hPl.1
    have hl8 := hPl.2.1
    have hsp := hPl.2.2.1
    have hpf := hPl.2.2.2.1
    have hpl := hPl.2.2.2.2.1
    have hpe := hPl.2.2.2.2.2
    have hLn := pl_length hsp f l
    refine v_aload_n (pc := 14) X dX6_days_14 rfl 0 rfl ?_
    refine v_iload_n (pc := 15) X dX6_days_15 rfl 1 rfl ?_
    refine v_iconst (pc := 16) (v := nI 2) X dX6_days_16 rfl ?_
    refine t_callI (pc := 17) X (m_poursAll hn h9 hsd h50 hi hPl hS hs1) (lw_V q2279 q2281 qs69 q109 q2282) hdX6_poursAll ⟨Nat.le_of_ble_eq_true rfl, Nat.le_of_ble_eq_true rfl⟩ rfl rfl (Nat.le_of_ble_eq_true rfl) dX6_days_17 ⟨Nat.le_refl _, Nat.le_refl _⟩ (fun r17 σ17 hp17 => ?_)
    obtain ⟨rfl, hpr17, hpo17⟩ := hp17
    refine v_if_eqB (pc := 20) X 34 dX6_days_20 (by decide) (fun h20 => ?_) (fun h20 => ?_)
    · obtain ⟨⟨ra, rd⟩, hrr⟩ := Option.ne_none_iff_exists'.mp h20
      have hsr := hpr17 ra rd hrr
      subst hsr
      refine v_iconst (pc := 34) (v := nI 0) X dX6_days_34 rfl ?_
      exact t_iret (pc := 35) X hr dX6_days_35 ⟨_, rfl, Qr.ref (by unfold qDays; rw [if_pos h5, hci, hbf, hbe, hbL, hrr]) (by decide) (Ch.rf _ _ _)⟩
    · obtain ⟨hCD, hDD, hD0, hDT, hD7⟩ := hpo17 h20
      refine v_aload_n (pc := 23) X dX6_days_23 rfl 0 rfl ?_
      refine v_aload_n (pc := 24) X dX6_days_24 rfl 0 rfl ?_
      refine t_get (pc := 25) X 24 (by decide) q1980 rfl rfl dX6_days_25 ?_
      refine t_callI (pc := 28) X m_done (lw_V q2094 q2096 qs41 q109 q2097) hdX6_done ⟨Nat.le_of_ble_eq_true rfl, Nat.le_of_ble_eq_true rfl⟩ rfl rfl (Nat.le_of_ble_eq_true rfl) dX6_days_28 ⟨Nat.le_refl _, Nat.le_refl _⟩ (fun r28 σ28 hp28 => ?_)
      obtain ⟨rfl, rfl⟩ := hp28
      refine v_goto (pc := 31) X 35 dX6_days_31 (by decide) ?_
      exact t_iret (pc := 35) X hr dX6_days_35 ⟨_, rfl, Qr.ok (by unfold qDays; rw [if_pos h5, hci, hbf, hbe, hbL, h20]) hDT (hCD.mono (by decide) (by decide))⟩
  · refine v_aload_n (pc := 8) X dX6_days_8 rfl 0 rfl ?_
    refine v_iconst (pc := 9) (v := nI 1) X dX6_days_9 rfl ?_
    refine t_callI (pc := 10) X m_fails (lw_V q2082 q2084 qs38 q109 q2085) hdX6_fails ⟨Nat.le_of_ble_eq_true rfl, Nat.le_of_ble_eq_true rfl⟩ rfl rfl (Nat.le_of_ble_eq_true rfl) dX6_days_10 ⟨Nat.le_refl _, Nat.le_refl _⟩ (fun r10 σ10 hp10 => ?_)
    obtain ⟨rfl, rfl⟩ := hp10
    exact t_iret (pc := 13) X hr dX6_days_13 ⟨_, rfl, Qr.fail (by unfold qDays; rw [if_neg h5]) (by decide) (Ch.rf _ _ _)⟩
theorem hdX6_poured : yX6_poured.cls = RX6 ∧ yX6_poured.cls ≠ "java/lang/invoke/MethodHandle" ∧ yX6_poured.cls ≠ "java/lang/invoke/VarHandle" ∧ (parseMethodDescriptor yX6_poured.desc).map (fun d => d.parameters.length) = some 3 := by decide +kernel
set_option maxHeartbeats 4000000 in
theorem m_poured {l_ : Launch} {D : va_G} {dd : Nat → ClassId} {x : Nat} {ad : Nat → Nat} {σ : Tw} {n np C : Nat} {sd st : Nat → Nat} {a k c : Int32} (hn : σ 0 0 = nI n) (h9 : n ≤ 9) (hsd : SdOf (σ 0) sd) (h50 : ∀ i, sd i ≤ 50) (hs1 : ∀ j, j < n → 1 ≤ sd j) (hp : σ 0 15 = nI np) (hp4 : np ≤ 4) (hPs : PlansOk (σ 0) np) (hS : StOf (σ 0) st C) : TM l_ D dd x ad yX6_poured cX6_poured 4 (some .int) 7 173 [.ref x, .int a, .int k, .int c] σ (TI (fun r σ' => Qr σ (qPoured (σ 0) n np C sd st a k c) r σ')) := by
  refine MW.intro (by decide) (Nat.le_of_ble_eq_true rfl) (fun p_ e_ s_ m_ as_ bl_ me_ c_ A_ X hr hnm => ?_)
  have X : VX p_ s_ m_ as_ me_ c_ cX6_poured 4 RX6 D dd A_ := X
  refine v_eq (loc' := [(0, .ref x), (1, .int a), (2, .int k), (3, .int c)]) rfl rfl rfl ?_
  refine v_aload_n (pc := 0) X dX6_poured_0 rfl 0 rfl ?_
  refine v_iload_n (pc := 1) X dX6_poured_1 rfl 1 rfl ?_
  refine t_callI (pc := 2) X (m_isPlan hp) (lw_V q2235 q2237 qs61 q109 q2238) hdX6_isPlan ⟨Nat.le_of_ble_eq_true rfl, Nat.le_of_ble_eq_true rfl⟩ rfl rfl (Nat.le_of_ble_eq_true rfl) dX6_poured_2 ⟨Nat.le_refl _, Nat.le_refl _⟩ (fun r2 σ2 hp2 => ?_)
  obtain ⟨rfl, rfl⟩ := hp2
  refine v_if_neB (pc := 5) X 14 dX6_poured_5 (by decide) (fun h5 => ?_) (fun h5 => ?_)
  · obtain ⟨i, hii, rfl⟩ := inN_of (by omega) h5
    have hci : (nI i).toNatClampNeg = i := nI_clamp (by omega)
    have hi : i < 4 := by omega
    obtain ⟨f, l, sp, hPl⟩ := hPs i hii
    obtain ⟨hbf, hbe, hbL⟩ := hPl.eqs
    have hfl := hPl.1
    have hl8 := hPl.2.1
    have hsp := hPl.2.2.1
    have hpf := hPl.2.2.2.1
    have hpl := hPl.2.2.2.2.1
    have hpe := hPl.2.2.2.2.2
    have hLn := pl_length hsp f l
    refine v_aload_n (pc := 14) X dX6_poured_14 rfl 0 rfl ?_
    refine v_iload_n (pc := 15) X dX6_poured_15 rfl 1 rfl ?_
    refine v_iload_n (pc := 16) X dX6_poured_16 rfl 2 rfl ?_
    refine t_callI (pc := 17) X (m_isPouring hi hPl) (lw_V q2271 q2273 qs68 q109 q2274) hdX6_isPouring ⟨Nat.le_of_ble_eq_true rfl, Nat.le_of_ble_eq_true rfl⟩ rfl rfl (Nat.le_of_ble_eq_true rfl) dX6_poured_17 ⟨Nat.le_refl _, Nat.le_refl _⟩ (fun r17 σ17 hp17 => ?_)
    obtain ⟨rfl, rfl⟩ := hp17
    refine v_if_neB (pc := 20) X 29 dX6_poured_20 (by decide) (fun h20 => ?_) (fun h20 => ?_)
    · obtain ⟨j, hj, rfl⟩ := inN_of (by omega) h20
      have hcj : (nI j).toNatClampNeg = j := nI_clamp (by omega)
      refine v_aload_n (pc := 29) X dX6_poured_29 rfl 0 rfl ?_
      refine v_iload_n (pc := 30) X dX6_poured_30 rfl 1 rfl ?_
      refine v_iconst (pc := 31) (v := nI 3) X dX6_poured_31 rfl ?_
      refine t_callI (pc := 32) X (m_poursAll hn h9 hsd h50 hi hPl hS hs1) (lw_V q2279 q2281 qs69 q109 q2282) hdX6_poursAll ⟨Nat.le_of_ble_eq_true rfl, Nat.le_of_ble_eq_true rfl⟩ rfl rfl (Nat.le_of_ble_eq_true rfl) dX6_poured_32 ⟨Nat.le_refl _, Nat.le_refl _⟩ (fun r32 σ32 hp32 => ?_)
      obtain ⟨rfl, hpr32, hpo32⟩ := hp32
      refine v_if_eqB (pc := 35) X 64 dX6_poured_35 (by decide) (fun h35 => ?_) (fun h35 => ?_)
      · obtain ⟨⟨ra, rd⟩, hrr⟩ := Option.ne_none_iff_exists'.mp h35
        have hsr := hpr32 ra rd hrr
        subst hsr
        refine v_iconst (pc := 64) (v := nI 0) X dX6_poured_64 rfl ?_
        exact t_iret (pc := 65) X hr dX6_poured_65 ⟨_, rfl, Qr.ref (by unfold qPoured; rw [if_pos h5, hci, hbf, hbe, if_pos h20, hbL, hrr]) (by decide) (Ch.rf _ _ _)⟩
      · obtain ⟨hCD, hDD, hD0, hDT, hD7⟩ := hpo32 h35
        refine v_aload_n (pc := 38) X dX6_poured_38 rfl 0 rfl ?_
        refine v_iload_n (pc := 39) X dX6_poured_39 rfl 3 rfl ?_
        refine v_if_eq (pc := 40) X 52 dX6_poured_40 (by decide) (fun h40 => ?_) (fun h40 => ?_)
        · refine v_aload_n (pc := 52) X dX6_poured_52 rfl 0 rfl ?_
          refine t_get (pc := 53) X 22 (by decide) q1978 rfl rfl dX6_poured_53 ?_
          refine v_iload_n (pc := 56) X dX6_poured_56 rfl 2 rfl ?_
          refine v_iald (pc := 57) X 13 ta_22 rfl (by omega) (by decide) dX6_poured_57 ?_
          refine v_nm (fun z ez => ?_)
          refine t_callI (pc := 58) X m_done (lw_V q2094 q2096 qs41 q109 q2097) hdX6_done ⟨Nat.le_of_ble_eq_true rfl, Nat.le_of_ble_eq_true rfl⟩ rfl rfl (Nat.le_of_ble_eq_true rfl) dX6_poured_58 ⟨Nat.le_refl _, Nat.le_refl _⟩ (fun r58 σ58 hp58 => ?_)
          obtain ⟨rfl, rfl⟩ := hp58
          refine v_goto (pc := 61) X 65 dX6_poured_61 (by decide) ?_
          exact t_iret (pc := 65) X hr dX6_poured_65 ⟨_, rfl, Qr.ok (by unfold qPoured; rw [if_pos h5, hci, hbf, hbe, if_pos h20, hbL, h35, hcj]; dsimp only; rw [if_pos h40]) (ez.trans (hDD.1 j hj)) (hCD.mono (by decide) (by decide))⟩
        · refine v_aload_n (pc := 43) X dX6_poured_43 rfl 0 rfl ?_
          refine t_get (pc := 44) X 23 (by decide) q1979 rfl rfl dX6_poured_44 ?_
          refine v_iload_n (pc := 47) X dX6_poured_47 rfl 2 rfl ?_
          refine v_iald (pc := 48) X 14 ta_23 rfl (by omega) (by decide) dX6_poured_48 ?_
          refine v_goto (pc := 49) X 58 dX6_poured_49 (by decide) ?_
          refine v_nm (fun z ez => ?_)
          refine t_callI (pc := 58) X m_done (lw_V q2094 q2096 qs41 q109 q2097) hdX6_done ⟨Nat.le_of_ble_eq_true rfl, Nat.le_of_ble_eq_true rfl⟩ rfl rfl (Nat.le_of_ble_eq_true rfl) dX6_poured_58 ⟨Nat.le_refl _, Nat.le_refl _⟩ (fun r58 σ58 hp58 => ?_)
          obtain ⟨rfl, rfl⟩ := hp58
          refine v_goto (pc := 61) X 65 dX6_poured_61 (by decide) ?_
          exact t_iret (pc := 65) X hr dX6_poured_65 ⟨_, rfl, Qr.ok (by unfold qPoured; rw [if_pos h5, hci, hbf, hbe, if_pos h20, hbL, h35, hcj]; dsimp only; rw [if_neg h40]) (ez.trans (hDD.2 j hj (sched_all (pl_LOk hsp f l) hD0 (by omega)))) (hCD.mono (by decide) (by decide))⟩
    · refine v_aload_n (pc := 23) X dX6_poured_23 rfl 0 rfl ?_
      refine v_iconst (pc := 24) (v := nI 2) X dX6_poured_24 rfl ?_
      refine t_callI (pc := 25) X m_fails (lw_V q2082 q2084 qs38 q109 q2085) hdX6_fails ⟨Nat.le_of_ble_eq_true rfl, Nat.le_of_ble_eq_true rfl⟩ rfl rfl (Nat.le_of_ble_eq_true rfl) dX6_poured_25 ⟨Nat.le_refl _, Nat.le_refl _⟩ (fun r25 σ25 hp25 => ?_)
      obtain ⟨rfl, rfl⟩ := hp25
      exact t_iret (pc := 28) X hr dX6_poured_28 ⟨_, rfl, Qr.fail (by unfold qPoured; rw [if_pos h5, hci, hbf, hbe, if_neg h20]) (by decide) (Ch.rf _ _ _)⟩
  · refine v_aload_n (pc := 8) X dX6_poured_8 rfl 0 rfl ?_
    refine v_iconst (pc := 9) (v := nI 1) X dX6_poured_9 rfl ?_
    refine t_callI (pc := 10) X m_fails (lw_V q2082 q2084 qs38 q109 q2085) hdX6_fails ⟨Nat.le_of_ble_eq_true rfl, Nat.le_of_ble_eq_true rfl⟩ rfl rfl (Nat.le_of_ble_eq_true rfl) dX6_poured_10 ⟨Nat.le_refl _, Nat.le_refl _⟩ (fun r10 σ10 hp10 => ?_)
    obtain ⟨rfl, rfl⟩ := hp10
    exact t_iret (pc := 13) X hr dX6_poured_13 ⟨_, rfl, Qr.fail (by unfold qPoured; rw [if_neg h5]) (by decide) (Ch.rf _ _ _)⟩
theorem hdX6_pours : yX6_pours.cls = RX6 ∧ yX6_pours.cls ≠ "java/lang/invoke/MethodHandle" ∧ yX6_pours.cls ≠ "java/lang/invoke/VarHandle" ∧ (parseMethodDescriptor yX6_pours.desc).map (fun d => d.parameters.length) = some 2 := by decide +kernel
set_option maxHeartbeats 4000000 in
theorem m_pours {l_ : Launch} {D : va_G} {dd : Nat → ClassId} {x : Nat} {ad : Nat → Nat} {σ : Tw} {n np C : Nat} {sd st : Nat → Nat} {a c : Int32} (hn : σ 0 0 = nI n) (h9 : n ≤ 9) (hsd : SdOf (σ 0) sd) (h50 : ∀ i, sd i ≤ 50) (hs1 : ∀ j, j < n → 1 ≤ sd j) (hp : σ 0 15 = nI np) (hp4 : np ≤ 4) (hPs : PlansOk (σ 0) np) (hS : StOf (σ 0) st C) : TM l_ D dd x ad yX6_pours cX6_pours 5 (some .int) 7 173 [.ref x, .int a, .int c] σ (TI (fun r σ' => Qr σ (qPours (σ 0) n np C sd st a c) r σ')) := by
  refine MW.intro (by decide) (Nat.le_of_ble_eq_true rfl) (fun p_ e_ s_ m_ as_ bl_ me_ c_ A_ X hr hnm => ?_)
  have X : VX p_ s_ m_ as_ me_ c_ cX6_pours 5 RX6 D dd A_ := X
  refine v_eq (loc' := [(0, .ref x), (1, .int a), (2, .int c)]) rfl rfl rfl ?_
  refine v_aload_n (pc := 0) X dX6_pours_0 rfl 0 rfl ?_
  refine v_iload_n (pc := 1) X dX6_pours_1 rfl 1 rfl ?_
  refine t_callI (pc := 2) X (m_isPlan hp) (lw_V q2235 q2237 qs61 q109 q2238) hdX6_isPlan ⟨Nat.le_of_ble_eq_true rfl, Nat.le_of_ble_eq_true rfl⟩ rfl rfl (Nat.le_of_ble_eq_true rfl) dX6_pours_2 ⟨Nat.le_refl _, Nat.le_refl _⟩ (fun r2 σ2 hp2 => ?_)
  obtain ⟨rfl, rfl⟩ := hp2
  refine v_if_eqB (pc := 5) X 16 dX6_pours_5 (by decide) (fun h5 => ?_) (fun h5 => ?_)
  · refine v_aload_n (pc := 16) X dX6_pours_16 rfl 0 rfl ?_
    refine v_iconst (pc := 17) (v := nI 1) X dX6_pours_17 rfl ?_
    refine t_callI (pc := 18) X m_fails (lw_V q2082 q2084 qs38 q109 q2085) hdX6_fails ⟨Nat.le_of_ble_eq_true rfl, Nat.le_of_ble_eq_true rfl⟩ rfl rfl (Nat.le_of_ble_eq_true rfl) dX6_pours_18 ⟨Nat.le_refl _, Nat.le_refl _⟩ (fun r18 σ18 hp18 => ?_)
    obtain ⟨rfl, rfl⟩ := hp18
    exact t_iret (pc := 21) X hr dX6_pours_21 ⟨_, rfl, Qr.fail (by unfold qPours; rw [if_neg (fun z => h5 z.1)]) (by decide) (Ch.rf _ _ _)⟩
  · refine v_aload_n (pc := 8) X dX6_pours_8 rfl 0 rfl ?_
    refine v_iload_n (pc := 9) X dX6_pours_9 rfl 2 rfl ?_
    refine t_callI (pc := 10) X (m_isCooper hS.1) (lw_V q2143 q2145 qs48 q109 q2146) hdX6_isCooper ⟨Nat.le_of_ble_eq_true rfl, Nat.le_of_ble_eq_true rfl⟩ rfl rfl (Nat.le_of_ble_eq_true rfl) dX6_pours_10 ⟨Nat.le_refl _, Nat.le_refl _⟩ (fun r10 σ10 hp10 => ?_)
    obtain ⟨rfl, rfl⟩ := hp10
    refine v_if_neB (pc := 13) X 22 dX6_pours_13 (by decide) (fun h13 => ?_) (fun h13 => ?_)
    · obtain ⟨cc, hcc, rfl⟩ := inN_of (by have := hS.2.1; omega) h13
      have hccl : (nI cc).toNatClampNeg = cc := nI_clamp (by have := hS.2.1; omega)
      have hC4 := hS.2.1
      obtain ⟨i, hii, rfl⟩ := inN_of (by omega) h5
      have hci : (nI i).toNatClampNeg = i := nI_clamp (by omega)
      have hi : i < 4 := by omega
      obtain ⟨f, l, sp, hPl⟩ := hPs i hii
      obtain ⟨hbf, hbe, hbL⟩ := hPl.eqs
      have hfl := hPl.1
      have hl8 := hPl.2.1
      have hsp := hPl.2.2.1
      have hpf := hPl.2.2.2.1
      have hpl := hPl.2.2.2.2.1
      have hpe := hPl.2.2.2.2.2
      have hLn := pl_length hsp f l
      refine v_aload_n (pc := 22) X dX6_pours_22 rfl 0 rfl ?_
      refine v_iload_n (pc := 23) X dX6_pours_23 rfl 1 rfl ?_
      refine v_iconst (pc := 24) (v := nI 2) X dX6_pours_24 rfl ?_
      refine t_callI (pc := 25) X (m_poursAll hn h9 hsd h50 hi hPl hS hs1) (lw_V q2279 q2281 qs69 q109 q2282) hdX6_poursAll ⟨Nat.le_of_ble_eq_true rfl, Nat.le_of_ble_eq_true rfl⟩ rfl rfl (Nat.le_of_ble_eq_true rfl) dX6_pours_25 ⟨Nat.le_refl _, Nat.le_refl _⟩ (fun r25 σ25 hp25 => ?_)
      obtain ⟨rfl, hpr25, hpo25⟩ := hp25
      refine v_if_neB (pc := 28) X 33 dX6_pours_28 (by decide) (fun h28 => ?_) (fun h28 => ?_)
      · obtain ⟨hCD, hDD, hD0, hDT, hD7⟩ := hpo25 h28
        have hg25 : σ25 0 = σ 0 := hCD.1 0 (by decide) (by decide)
        have hcob : ∀ k, k < l - f → (sched sd (pl sp f l) st C).2.2.1 k < 1000 := sched_co hS (pl_length hsp f l)
        refine v_iconst (pc := 33) (v := nI 0) X dX6_pours_33 rfl ?_
        refine v_istore_n (pc := 34) (loc' := [(3, .int (nI 0)), (0, .ref x), (1, .int (nI i)), (2, .int (nI cc))]) X dX6_pours_34 rfl (by decide) rfl ?_
        refine v_iconst (pc := 35) (v := nI 0) X dX6_pours_35 rfl ?_
        refine v_istore (pc := 36) (loc' := [(4, .int (nI 0)), (3, .int (nI 0)), (0, .ref x), (1, .int (nI i)), (2, .int (nI cc))]) X dX6_pours_36 (by decide) rfl ?_
        refine v_sub [2, 3, 4, 1, 0] rfl ?_
        refine v_loop1 (S := Nat) (fun k => tw x ad dd σ25) (fun k => [(0, .ref x), (1, .int (nI i)), (2, .int (nI cc)), (3, .int (nI (cntB (fun j => decide ((sched sd (pl sp f l) st C).2.2.1 j = cc)) k))), (4, .int (nI k))]) (fun k => k ≤ l - f) (fun k => l - f - k) (fun k hI38 ih38 => ?_) 0 (Nat.zero_le _)
        have hclb := cntB_le (fun j => decide ((sched sd (pl sp f l) st C).2.2.1 j = cc)) k
        refine v_iload (pc := 38) X dX6_pours_38 4 rfl ?_
        refine v_aload_n (pc := 40) X dX6_pours_40 rfl 0 rfl ?_
        refine v_iload_n (pc := 41) X dX6_pours_41 rfl 1 rfl ?_
        refine t_callI (pc := 42) X (m_pourings hi (by rw [hg25]; exact hpf) (by rw [hg25]; exact hpl) hfl) (lw_V q2247 q2249 qs63 q109 q2250) hdX6_pourings ⟨Nat.le_of_ble_eq_true rfl, Nat.le_of_ble_eq_true rfl⟩ rfl rfl (Nat.le_of_ble_eq_true rfl) dX6_pours_42 ⟨Nat.le_refl _, Nat.le_refl _⟩ (fun r42 σ42 hp42 => ?_)
        obtain ⟨rfl, rfl⟩ := hp42
        refine v_ic_geN (pc := 45) X (by omega) (by omega) 73 dX6_pours_45 (by decide) (fun h45 => ?_) (fun h45 => ?_)
        · refine v_aload_n (pc := 73) X dX6_pours_73 rfl 0 rfl ?_
          refine v_iload_n (pc := 74) X dX6_pours_74 rfl 3 rfl ?_
          refine t_callI (pc := 75) X m_done (lw_V q2094 q2096 qs41 q109 q2097) hdX6_done ⟨Nat.le_of_ble_eq_true rfl, Nat.le_of_ble_eq_true rfl⟩ rfl rfl (Nat.le_of_ble_eq_true rfl) dX6_pours_75 ⟨Nat.le_refl _, Nat.le_refl _⟩ (fun r75 σ75 hp75 => ?_)
          obtain ⟨rfl, rfl⟩ := hp75
          exact t_iret (pc := 78) X hr dX6_pours_78 ⟨_, rfl, Qr.ok (by unfold qPours; rw [if_pos ⟨h5, h13⟩, hci, hbf, hbe, hbL, h28, hccl]) (by rw [show k = l - f by omega]) (hCD.mono (by decide) (by decide))⟩
        · have hcok := hcob k (by omega)
          refine v_iload_n (pc := 48) X dX6_pours_48 rfl 3 rfl ?_
          refine v_aload_n (pc := 49) X dX6_pours_49 rfl 0 rfl ?_
          refine t_get (pc := 50) X 23 (by decide) q1979 rfl rfl dX6_pours_50 ?_
          refine v_iload (pc := 53) X dX6_pours_53 4 rfl ?_
          refine v_iald (pc := 55) X 14 ta_23 rfl (by omega) (by decide) dX6_pours_55 ?_
          refine v_top (y := (nI ((sched sd (pl sp f l) st C).2.2.1 k))) (hDD.2 k (by omega) (sched_all (pl_LOk hsp f l) hD0 (by omega))) ?_
          refine v_iload_n (pc := 56) X dX6_pours_56 rfl 2 rfl ?_
          refine v_ic_neN (pc := 57) X (by omega) (by omega) 64 dX6_pours_57 (by decide) (fun h57 => ?_) (fun h57 => ?_)
          · refine v_iconst (pc := 64) (v := nI 0) X dX6_pours_64 rfl ?_
            refine v_iaddN (pc := 65) X dX6_pours_65 ?_
            refine v_top (y := (nI (cntB (fun j => decide ((sched sd (pl sp f l) st C).2.2.1 j = cc)) (k + 1)))) (by show _ = nI (_ + if _ then 1 else 0); rw [if_neg (by simpa using h57)]) ?_
            refine v_istore_n (pc := 66) (loc' := [(3, .int (nI (cntB (fun j => decide ((sched sd (pl sp f l) st C).2.2.1 j = cc)) (k + 1)))), (0, .ref x), (1, .int (nI i)), (2, .int (nI cc)), (4, .int (nI k))]) X dX6_pours_66 rfl (by decide) rfl ?_
            refine v_iinc (pc := 67) (v := (nI (k + 1))) (loc' := [(4, .int (nI (k + 1))), (3, .int (nI (cntB (fun j => decide ((sched sd (pl sp f l) st C).2.2.1 j = cc)) (k + 1)))), (0, .ref x), (1, .int (nI i)), (2, .int (nI cc))]) X dX6_pours_67 4 rfl (nI_add _ 1) (by decide) rfl ?_
            refine v_goto (pc := 70) X 38 dX6_pours_70 (by decide) ?_
            refine v_sub [2, 3, 4, 1, 0] rfl ?_
            exact ih38 (k + 1) (by omega) (by omega)
          · refine v_iconst (pc := 60) (v := nI 1) X dX6_pours_60 rfl ?_
            refine v_goto (pc := 61) X 65 dX6_pours_61 (by decide) ?_
            refine v_iaddN (pc := 65) X dX6_pours_65 ?_
            refine v_top (y := (nI (cntB (fun j => decide ((sched sd (pl sp f l) st C).2.2.1 j = cc)) (k + 1)))) (by show _ = nI (_ + if _ then 1 else 0); rw [if_pos (by simpa using h57)]) ?_
            refine v_istore_n (pc := 66) (loc' := [(3, .int (nI (cntB (fun j => decide ((sched sd (pl sp f l) st C).2.2.1 j = cc)) (k + 1)))), (0, .ref x), (1, .int (nI i)), (2, .int (nI cc)), (4, .int (nI k))]) X dX6_pours_66 rfl (by decide) rfl ?_
            refine v_iinc (pc := 67) (v := (nI (k + 1))) (loc' := [(4, .int (nI (k + 1))), (3, .int (nI (cntB (fun j => decide ((sched sd (pl sp f l) st C).2.2.1 j = cc)) (k + 1)))), (0, .ref x), (1, .int (nI i)), (2, .int (nI cc))]) X dX6_pours_67 4 rfl (nI_add _ 1) (by decide) rfl ?_
            refine v_goto (pc := 70) X 38 dX6_pours_70 (by decide) ?_
            refine v_sub [2, 3, 4, 1, 0] rfl ?_
            exact ih38 (k + 1) (by omega) (by omega)
      · obtain ⟨⟨ra, rd⟩, hrr⟩ := Option.ne_none_iff_exists'.mp h28
        have hsr := hpr25 ra rd hrr
        subst hsr
        refine v_iconst (pc := 31) (v := nI 0) X dX6_pours_31 rfl ?_
        exact t_iret (pc := 32) X hr dX6_pours_32 ⟨_, rfl, Qr.ref (by unfold qPours; rw [if_pos ⟨h5, h13⟩, hci, hbf, hbe, hbL, hrr]) (by decide) (Ch.rf _ _ _)⟩
    · refine v_aload_n (pc := 16) X dX6_pours_16 rfl 0 rfl ?_
      refine v_iconst (pc := 17) (v := nI 1) X dX6_pours_17 rfl ?_
      refine t_callI (pc := 18) X m_fails (lw_V q2082 q2084 qs38 q109 q2085) hdX6_fails ⟨Nat.le_of_ble_eq_true rfl, Nat.le_of_ble_eq_true rfl⟩ rfl rfl (Nat.le_of_ble_eq_true rfl) dX6_pours_18 ⟨Nat.le_refl _, Nat.le_refl _⟩ (fun r18 σ18 hp18 => ?_)
      obtain ⟨rfl, rfl⟩ := hp18
      exact t_iret (pc := 21) X hr dX6_pours_21 ⟨_, rfl, Qr.fail (by unfold qPours; rw [if_neg (fun z => h13 z.2)]) (by decide) (Ch.rf _ _ _)⟩
theorem hdX6_isAhead : yX6_isAhead.cls = RX6 ∧ yX6_isAhead.cls ≠ "java/lang/invoke/MethodHandle" ∧ yX6_isAhead.cls ≠ "java/lang/invoke/VarHandle" ∧ (parseMethodDescriptor yX6_isAhead.desc).map (fun d => d.parameters.length) = some 2 := by decide +kernel
set_option maxHeartbeats 4000000 in
theorem m_isAhead {l_ : Launch} {D : va_G} {dd : Nat → ClassId} {x : Nat} {ad : Nat → Nat} {σ : Tw} {n o q : Nat} {sd : Nat → Nat} {f l f2 l2 : Nat} {sp sp2 : Nat → Nat → Nat} (hn : σ 0 0 = nI n) (h9 : n ≤ 9) (hsd : SdOf (σ 0) sd) (h50 : ∀ i, sd i ≤ 50) (ho : o < 4) (hq : q < 4) (hPl : PlanAt (σ 0) o f l sp) (hPl2 : PlanAt (σ 0) q f2 l2 sp2) : TM l_ D dd x ad yX6_isAhead cX6_isAhead 5 (some .boolean) 4 90 [.ref x, .int (nI o), .int (nI q)] σ (TI (fun r σ' => bI (ahdP (plCost n l sd (pl sp f l)) (plCost n l2 sd (pl sp2 f2 l2)) o q) = r ∧ σ = σ')) := by
  refine MW.intro (by decide) (Nat.le_of_ble_eq_true rfl) (fun p_ e_ s_ m_ as_ bl_ me_ c_ A_ X hr hnm => ?_)
  have X : VX p_ s_ m_ as_ me_ c_ cX6_isAhead 5 RX6 D dd A_ := X
  refine v_eq (loc' := [(0, .ref x), (1, .int (nI o)), (2, .int (nI q))]) rfl rfl rfl ?_
  refine v_aload_n (pc := 0) X dX6_isAhead_0 rfl 0 rfl ?_
  refine v_iload_n (pc := 1) X dX6_isAhead_1 rfl 1 rfl ?_
  refine t_callI (pc := 2) X (m_planCost hn h9 hsd h50 ho hPl) (lw_V q2251 q2253 qs64 q109 q2254) hdX6_planCost ⟨Nat.le_of_ble_eq_true rfl, Nat.le_of_ble_eq_true rfl⟩ rfl rfl (Nat.le_of_ble_eq_true rfl) dX6_isAhead_2 ⟨Nat.le_refl _, Nat.le_refl _⟩ (fun r2 σ2 hp2 => ?_)
  obtain ⟨rfl, rfl⟩ := hp2
  refine v_nm (fun y1 ey1 => ?_)
  rw [← ey1]
  refine v_istore_n (pc := 5) (loc' := [(3, .int y1), (0, .ref x), (1, .int (nI o)), (2, .int (nI q))]) X dX6_isAhead_5 rfl (by decide) rfl ?_
  refine v_aload_n (pc := 6) X dX6_isAhead_6 rfl 1 rfl ?_
  refine v_iload_n (pc := 7) X dX6_isAhead_7 rfl 3 rfl ?_
  refine t_callI (pc := 8) X (m_planCost hn h9 hsd h50 hq hPl2) (lw_V q2251 q2253 qs64 q109 q2254) hdX6_planCost ⟨Nat.le_of_ble_eq_true rfl, Nat.le_of_ble_eq_true rfl⟩ rfl rfl (Nat.le_of_ble_eq_true rfl) dX6_isAhead_8 ⟨Nat.le_refl _, Nat.le_refl _⟩ (fun r8 σ8 hp8 => ?_)
  obtain ⟨rfl, rfl⟩ := hp8
  refine v_nm (fun y2 ey2 => ?_)
  rw [← ey2]
  refine v_istore (pc := 11) (loc' := [(4, .int y2), (3, .int y1), (0, .ref x), (1, .int (nI o)), (2, .int (nI q))]) X dX6_isAhead_11 (by decide) rfl ?_
  refine v_iload_n (pc := 13) X dX6_isAhead_13 rfl 1 rfl ?_
  refine v_iconst (pc := 14) (v := -1) X dX6_isAhead_14 rfl ?_
  refine v_ic_eq (pc := 15) X 24 dX6_isAhead_15 (by decide) (fun h15 => ?_) (fun h15 => ?_)
  · refine v_iload_n (pc := 24) X dX6_isAhead_24 rfl 1 rfl ?_
    refine v_iconst (pc := 25) (v := -1) X dX6_isAhead_25 rfl ?_
    refine v_ic_ne (pc := 26) X 40 dX6_isAhead_26 (by decide) (fun h26 => ?_) (fun h26 => ?_)
    · refine v_iconst (pc := 40) (v := nI 1) X dX6_isAhead_40 rfl ?_
      refine v_goto (pc := 41) X 45 dX6_isAhead_41 (by decide) ?_
      exact t_zret (pc := 45) X hr rfl dX6_isAhead_45 ⟨_, rfl, bI_t (by clear ey1 ey2; unfold ahdP; by_cases q1 : y1 = -1 <;> by_cases q2 : y2 = -1 <;> simp_all), rfl⟩
    · refine v_iload (pc := 29) X dX6_isAhead_29 0 rfl ?_
      refine v_iconst (pc := 31) (v := -1) X dX6_isAhead_31 rfl ?_
      refine v_ic_ne (pc := 32) X 44 dX6_isAhead_32 (by decide) (fun h32 => ?_) (fun h32 => ?_)
      · refine v_iconst (pc := 44) (v := nI 0) X dX6_isAhead_44 rfl ?_
        exact t_zret (pc := 45) X hr rfl dX6_isAhead_45 ⟨_, rfl, bI_f (by clear ey1 ey2; unfold ahdP; by_cases q1 : y1 = -1 <;> by_cases q2 : y2 = -1 <;> simp_all), rfl⟩
      · refine v_iload_n (pc := 35) X dX6_isAhead_35 rfl 3 rfl ?_
        refine v_iload_n (pc := 36) X dX6_isAhead_36 rfl 4 rfl ?_
        refine v_ic_geN (pc := 37) X (by omega) (by omega) 44 dX6_isAhead_37 (by decide) (fun h37 => ?_) (fun h37 => ?_)
        · refine v_iconst (pc := 44) (v := nI 0) X dX6_isAhead_44 rfl ?_
          exact t_zret (pc := 45) X hr rfl dX6_isAhead_45 ⟨_, rfl, bI_f (by clear ey1 ey2; unfold ahdP; by_cases q1 : y1 = -1 <;> by_cases q2 : y2 = -1 <;> simp_all), rfl⟩
        · refine v_iconst (pc := 40) (v := nI 1) X dX6_isAhead_40 rfl ?_
          refine v_goto (pc := 41) X 45 dX6_isAhead_41 (by decide) ?_
          exact t_zret (pc := 45) X hr rfl dX6_isAhead_45 ⟨_, rfl, bI_t (by clear ey1 ey2; unfold ahdP; by_cases q1 : y1 = -1 <;> by_cases q2 : y2 = -1 <;> simp_all), rfl⟩
  · refine v_iload (pc := 18) X dX6_isAhead_18 0 rfl ?_
    refine v_iconst (pc := 20) (v := -1) X dX6_isAhead_20 rfl ?_
    refine v_ic_ne (pc := 21) X 46 dX6_isAhead_21 (by decide) (fun h21 => ?_) (fun h21 => ?_)
    · refine v_iload_n (pc := 46) X dX6_isAhead_46 rfl 1 rfl ?_
      refine v_iload (pc := 47) X dX6_isAhead_47 0 rfl ?_
      refine v_ic_lt (pc := 49) X 63 dX6_isAhead_49 (by decide) (fun h49 => ?_) (fun h49 => ?_)
      · refine v_iconst (pc := 63) (v := nI 1) X dX6_isAhead_63 rfl ?_
        refine v_goto (pc := 64) X 68 dX6_isAhead_64 (by decide) ?_
        exact t_zret (pc := 68) X hr rfl dX6_isAhead_68 ⟨_, rfl, bI_t (by clear ey1 ey2; unfold ahdP; by_cases q1 : y1 = -1 <;> by_cases q2 : y2 = -1 <;> simp_all), rfl⟩
      · refine v_iload_n (pc := 52) X dX6_isAhead_52 rfl 1 rfl ?_
        refine v_iload (pc := 53) X dX6_isAhead_53 0 rfl ?_
        refine v_ic_ne (pc := 55) X 67 dX6_isAhead_55 (by decide) (fun h55 => ?_) (fun h55 => ?_)
        · refine v_iconst (pc := 67) (v := nI 0) X dX6_isAhead_67 rfl ?_
          exact t_zret (pc := 68) X hr rfl dX6_isAhead_68 ⟨_, rfl, bI_f (by clear ey1 ey2; unfold ahdP; by_cases q1 : y1 = -1 <;> by_cases q2 : y2 = -1 <;> simp_all), rfl⟩
        · refine v_iload_n (pc := 58) X dX6_isAhead_58 rfl 3 rfl ?_
          refine v_iload_n (pc := 59) X dX6_isAhead_59 rfl 4 rfl ?_
          refine v_ic_geN (pc := 60) X (by omega) (by omega) 67 dX6_isAhead_60 (by decide) (fun h60 => ?_) (fun h60 => ?_)
          · refine v_iconst (pc := 67) (v := nI 0) X dX6_isAhead_67 rfl ?_
            exact t_zret (pc := 68) X hr rfl dX6_isAhead_68 ⟨_, rfl, bI_f (by clear ey1 ey2; unfold ahdP; by_cases q1 : y1 = -1 <;> by_cases q2 : y2 = -1 <;> simp_all), rfl⟩
          · refine v_iconst (pc := 63) (v := nI 1) X dX6_isAhead_63 rfl ?_
            refine v_goto (pc := 64) X 68 dX6_isAhead_64 (by decide) ?_
            exact t_zret (pc := 68) X hr rfl dX6_isAhead_68 ⟨_, rfl, bI_t (by clear ey1 ey2; unfold ahdP; by_cases q1 : y1 = -1 <;> by_cases q2 : y2 = -1 <;> simp_all), rfl⟩
    · refine v_iload_n (pc := 24) X dX6_isAhead_24 rfl 1 rfl ?_
      refine v_iconst (pc := 25) (v := -1) X dX6_isAhead_25 rfl ?_
      refine v_ic_ne (pc := 26) X 40 dX6_isAhead_26 (by decide) (fun h26 => ?_) (fun h26 => ?_)
      · refine v_iconst (pc := 40) (v := nI 1) X dX6_isAhead_40 rfl ?_
        refine v_goto (pc := 41) X 45 dX6_isAhead_41 (by decide) ?_
        exact t_zret (pc := 45) X hr rfl dX6_isAhead_45 ⟨_, rfl, bI_t (by clear ey1 ey2; unfold ahdP; by_cases q1 : y1 = -1 <;> by_cases q2 : y2 = -1 <;> simp_all), rfl⟩
      · refine v_iload (pc := 29) X dX6_isAhead_29 0 rfl ?_
        refine v_iconst (pc := 31) (v := -1) X dX6_isAhead_31 rfl ?_
        refine v_ic_ne (pc := 32) X 44 dX6_isAhead_32 (by decide) (fun h32 => ?_) (fun h32 => ?_)
        · refine v_iconst (pc := 44) (v := nI 0) X dX6_isAhead_44 rfl ?_
          exact t_zret (pc := 45) X hr rfl dX6_isAhead_45 ⟨_, rfl, bI_f (by clear ey1 ey2; unfold ahdP; by_cases q1 : y1 = -1 <;> by_cases q2 : y2 = -1 <;> simp_all), rfl⟩
        · refine v_iload_n (pc := 35) X dX6_isAhead_35 rfl 3 rfl ?_
          refine v_iload_n (pc := 36) X dX6_isAhead_36 rfl 4 rfl ?_
          refine v_ic_geN (pc := 37) X (by omega) (by omega) 44 dX6_isAhead_37 (by decide) (fun h37 => ?_) (fun h37 => ?_)
          · refine v_iconst (pc := 44) (v := nI 0) X dX6_isAhead_44 rfl ?_
            exact t_zret (pc := 45) X hr rfl dX6_isAhead_45 ⟨_, rfl, bI_f (by clear ey1 ey2; unfold ahdP; by_cases q1 : y1 = -1 <;> by_cases q2 : y2 = -1 <;> simp_all), rfl⟩
          · refine v_iconst (pc := 40) (v := nI 1) X dX6_isAhead_40 rfl ?_
            refine v_goto (pc := 41) X 45 dX6_isAhead_41 (by decide) ?_
            exact t_zret (pc := 45) X hr rfl dX6_isAhead_45 ⟨_, rfl, bI_t (by clear ey1 ey2; unfold ahdP; by_cases q1 : y1 = -1 <;> by_cases q2 : y2 = -1 <;> simp_all), rfl⟩
theorem hdX6_ranked : yX6_ranked.cls = RX6 ∧ yX6_ranked.cls ≠ "java/lang/invoke/MethodHandle" ∧ yX6_ranked.cls ≠ "java/lang/invoke/VarHandle" ∧ (parseMethodDescriptor yX6_ranked.desc).map (fun d => d.parameters.length) = some 1 := by decide +kernel
set_option maxHeartbeats 4000000 in
theorem m_ranked {l_ : Launch} {D : va_G} {dd : Nat → ClassId} {x : Nat} {ad : Nat → Nat} {σ : Tw} {n np : Nat} {q : Int32} {sd : Nat → Nat} (hn : σ 0 0 = nI n) (h9 : n ≤ 9) (hsd : SdOf (σ 0) sd) (h50 : ∀ i, sd i ≤ 50) (hp : σ 0 15 = nI np) (hp4 : np ≤ 4) (hPs : PlansOk (σ 0) np) : TM l_ D dd x ad yX6_ranked cX6_ranked 5 (some .int) 5 114 [.ref x, .int q] σ (TI (fun r σ' => Qy σ (qRanked (σ 0) n np sd q) r σ')) := by
  refine MW.intro (by decide) (Nat.le_of_ble_eq_true rfl) (fun p_ e_ s_ m_ as_ bl_ me_ c_ A_ X hr hnm => ?_)
  have X : VX p_ s_ m_ as_ me_ c_ cX6_ranked 5 RX6 D dd A_ := X
  refine v_eq (loc' := [(0, .ref x), (1, .int q)]) rfl rfl rfl ?_
  refine v_iconst (pc := 0) (v := nI 0) X dX6_ranked_0 rfl ?_
  refine v_istore_n (pc := 1) (loc' := [(2, .int (nI 0)), (0, .ref x), (1, .int q)]) X dX6_ranked_1 rfl (by decide) rfl ?_
  refine v_sub [1, 2, 0] rfl ?_
  refine v_loop1 (S := Nat) (fun k => tw x ad dd σ) (fun k => [(0, .ref x), (1, .int q), (2, .int (nI k))]) (fun k => k ≤ np ∧ fsH (fun k => decide (nI (rkP (σ 0) n np sd k) = q)) np 0 = fsH (fun k => decide (nI (rkP (σ 0) n np sd k) = q)) (np - k) k) (fun k => np - k) (fun k hI2 ih2 => ?_) 0 ⟨Nat.zero_le _, rfl⟩
  obtain ⟨hk1, hk2⟩ := hI2
  refine v_iload_n (pc := 2) X dX6_ranked_2 rfl 2 rfl ?_
  refine v_aload_n (pc := 3) X dX6_ranked_3 rfl 0 rfl ?_
  refine t_get (pc := 4) X 0 (by decide) q1956 rfl rfl dX6_ranked_4 ?_
  refine v_bipush (pc := 7) (v := nI 15) X dX6_ranked_7 rfl ?_
  refine v_iald (pc := 9) X 1 ta_0 rfl (by omega) (by decide) dX6_ranked_9 ?_
  refine v_top (y := (nI np)) hp ?_
  refine v_ic_geN (pc := 10) X (by omega) (by omega) 77 dX6_ranked_10 (by decide) (fun h10 => ?_) (fun h10 => ?_)
  · refine v_aload_n (pc := 77) X dX6_ranked_77 rfl 0 rfl ?_
    refine v_iconst (pc := 78) (v := nI 1) X dX6_ranked_78 rfl ?_
    refine t_callI (pc := 79) X m_fails (lw_V q2082 q2084 qs38 q109 q2085) hdX6_fails ⟨Nat.le_of_ble_eq_true rfl, Nat.le_of_ble_eq_true rfl⟩ rfl rfl (Nat.le_of_ble_eq_true rfl) dX6_ranked_79 ⟨Nat.le_refl _, Nat.le_refl _⟩ (fun r79 σ79 hp79 => ?_)
    obtain ⟨rfl, rfl⟩ := hp79
    exact t_iret (pc := 82) X hr dX6_ranked_82 ⟨_, rfl, Qy.fail (by unfold qRanked; rw [hk2, show np - k = 0 by omega]; rfl) (by decide) (Ch.rf _ _ _)⟩
  · refine v_iconst (pc := 13) (v := nI 0) X dX6_ranked_13 rfl ?_
    refine v_istore_n (pc := 14) (loc' := [(3, .int (nI 0)), (0, .ref x), (1, .int q), (2, .int (nI k))]) X dX6_ranked_14 rfl (by decide) rfl ?_
    refine v_iconst (pc := 15) (v := nI 0) X dX6_ranked_15 rfl ?_
    refine v_istore (pc := 16) (loc' := [(4, .int (nI 0)), (3, .int (nI 0)), (0, .ref x), (1, .int q), (2, .int (nI k))]) X dX6_ranked_16 (by decide) rfl ?_
    refine v_sub [2, 3, 4, 1, 0] rfl ?_
    refine v_loop1 (S := Nat) (fun o => tw x ad dd σ) (fun o => [(0, .ref x), (1, .int q), (2, .int (nI k)), (3, .int (nI (cntB (ahB (σ 0) n sd k) o))), (4, .int (nI o))]) (fun o => o ≤ np) (fun o => np - o) (fun o hI18 ih18 => ?_) 0 (Nat.zero_le _)
    have hclb := cntB_le (ahB (σ 0) n sd k) o
    refine v_iload (pc := 18) X dX6_ranked_18 4 rfl ?_
    refine v_aload_n (pc := 20) X dX6_ranked_20 rfl 0 rfl ?_
    refine t_get (pc := 21) X 0 (by decide) q1956 rfl rfl dX6_ranked_21 ?_
    refine v_bipush (pc := 24) (v := nI 15) X dX6_ranked_24 rfl ?_
    refine v_iald (pc := 26) X 1 ta_0 rfl (by omega) (by decide) dX6_ranked_26 ?_
    refine v_top (y := (nI np)) hp ?_
    refine v_ic_geN (pc := 27) X (by omega) (by omega) 60 dX6_ranked_27 (by decide) (fun h27 => ?_) (fun h27 => ?_)
    · refine v_iload_n (pc := 60) X dX6_ranked_60 rfl 3 rfl ?_
      refine v_iload_n (pc := 61) X dX6_ranked_61 rfl 1 rfl ?_
      have hok : o = np := by omega
      subst hok
      refine v_ic_ne (pc := 62) X 71 dX6_ranked_62 (by decide) (fun h62 => ?_) (fun h62 => ?_)
      · refine v_iinc (pc := 71) (v := (nI (k + 1))) (loc' := [(2, .int (nI (k + 1))), (0, .ref x), (1, .int q), (3, .int (nI (cntB (ahB (σ 0) n sd k) o))), (4, .int (nI o))]) X dX6_ranked_71 2 rfl (nI_add _ 1) (by decide) rfl ?_
        refine v_goto (pc := 74) X 2 dX6_ranked_74 (by decide) ?_
        refine v_sub [1, 2, 0] rfl ?_
        exact ih2 (k + 1) ⟨by omega, by rw [hk2, fsH_n (by simp only [decide_eq_true_eq]; exact h62) (by omega)]; congr 1⟩ (by omega)
      · refine v_aload_n (pc := 65) X dX6_ranked_65 rfl 0 rfl ?_
        refine v_iload_n (pc := 66) X dX6_ranked_66 rfl 2 rfl ?_
        refine t_callI (pc := 67) X m_done (lw_V q2094 q2096 qs41 q109 q2097) hdX6_done ⟨Nat.le_of_ble_eq_true rfl, Nat.le_of_ble_eq_true rfl⟩ rfl rfl (Nat.le_of_ble_eq_true rfl) dX6_ranked_67 ⟨Nat.le_refl _, Nat.le_refl _⟩ (fun r67 σ67 hp67 => ?_)
        obtain ⟨rfl, rfl⟩ := hp67
        exact t_iret (pc := 70) X hr dX6_ranked_70 ⟨_, rfl, Qy.ok (by unfold qRanked; rw [hk2, fsH_s (by simp only [decide_eq_true_eq]; exact h62) (by omega)]) rfl (Ch.rf _ _ _)⟩
    · refine v_iload_n (pc := 30) X dX6_ranked_30 rfl 3 rfl ?_
      refine v_iload (pc := 31) X dX6_ranked_31 4 rfl ?_
      refine v_iload_n (pc := 33) X dX6_ranked_33 rfl 2 rfl ?_
      refine v_ic_eqN (pc := 34) X (by omega) (by omega) 51 dX6_ranked_34 (by decide) (fun h34 => ?_) (fun h34 => ?_)
      · refine v_iconst (pc := 51) (v := nI 0) X dX6_ranked_51 rfl ?_
        refine v_iaddN (pc := 52) X dX6_ranked_52 ?_
        refine v_top (y := (nI (cntB (ahB (σ 0) n sd k) (o + 1)))) (ahB_f (fun z => z.1 h34)) ?_
        refine v_istore_n (pc := 53) (loc' := [(3, .int (nI (cntB (ahB (σ 0) n sd k) (o + 1)))), (0, .ref x), (1, .int q), (2, .int (nI k)), (4, .int (nI o))]) X dX6_ranked_53 rfl (by decide) rfl ?_
        refine v_iinc (pc := 54) (v := (nI (o + 1))) (loc' := [(4, .int (nI (o + 1))), (3, .int (nI (cntB (ahB (σ 0) n sd k) (o + 1)))), (0, .ref x), (1, .int q), (2, .int (nI k))]) X dX6_ranked_54 4 rfl (nI_add _ 1) (by decide) rfl ?_
        refine v_goto (pc := 57) X 18 dX6_ranked_57 (by decide) ?_
        refine v_sub [2, 3, 4, 1, 0] rfl ?_
        exact ih18 (o + 1) (by omega) (by omega)
      · obtain ⟨f, l, sp, hPl⟩ := hPs o (by omega)
        obtain ⟨f2, l2, sp2, hPl2⟩ := hPs k (by omega)
        obtain ⟨hbf, hbe, hbL⟩ := hPl.eqs
        obtain ⟨hbf2, hbe2, hbL2⟩ := hPl2.eqs
        refine v_aload_n (pc := 37) X dX6_ranked_37 rfl 0 rfl ?_
        refine v_iload (pc := 38) X dX6_ranked_38 4 rfl ?_
        refine v_iload_n (pc := 40) X dX6_ranked_40 rfl 2 rfl ?_
        refine t_callI (pc := 41) X (m_isAhead hn h9 hsd h50 (by omega) (by omega) hPl hPl2) (lw_V q2319 q2321 qs76 q109 q2322) hdX6_isAhead ⟨Nat.le_of_ble_eq_true rfl, Nat.le_of_ble_eq_true rfl⟩ rfl rfl (Nat.le_of_ble_eq_true rfl) dX6_ranked_41 ⟨Nat.le_refl _, Nat.le_refl _⟩ (fun r41 σ41 hp41 => ?_)
        obtain ⟨rfl, rfl⟩ := hp41
        refine v_if_eqB (pc := 44) X 51 dX6_ranked_44 (by decide) (fun h44 => ?_) (fun h44 => ?_)
        · refine v_iconst (pc := 51) (v := nI 0) X dX6_ranked_51 rfl ?_
          refine v_iaddN (pc := 52) X dX6_ranked_52 ?_
          refine v_top (y := (nI (cntB (ahB (σ 0) n sd k) (o + 1)))) (ahB_f (fun z => h44 (by have z2 := z.2; rw [hbe, hbe2, hbL, hbL2] at z2; exact z2))) ?_
          refine v_istore_n (pc := 53) (loc' := [(3, .int (nI (cntB (ahB (σ 0) n sd k) (o + 1)))), (0, .ref x), (1, .int q), (2, .int (nI k)), (4, .int (nI o))]) X dX6_ranked_53 rfl (by decide) rfl ?_
          refine v_iinc (pc := 54) (v := (nI (o + 1))) (loc' := [(4, .int (nI (o + 1))), (3, .int (nI (cntB (ahB (σ 0) n sd k) (o + 1)))), (0, .ref x), (1, .int q), (2, .int (nI k))]) X dX6_ranked_54 4 rfl (nI_add _ 1) (by decide) rfl ?_
          refine v_goto (pc := 57) X 18 dX6_ranked_57 (by decide) ?_
          refine v_sub [2, 3, 4, 1, 0] rfl ?_
          exact ih18 (o + 1) (by omega) (by omega)
        · refine v_iconst (pc := 47) (v := nI 1) X dX6_ranked_47 rfl ?_
          refine v_goto (pc := 48) X 52 dX6_ranked_48 (by decide) ?_
          refine v_iaddN (pc := 52) X dX6_ranked_52 ?_
          refine v_top (y := (nI (cntB (ahB (σ 0) n sd k) (o + 1)))) (ahB_t ⟨h34, by rw [hbe, hbe2, hbL, hbL2]; exact h44⟩) ?_
          refine v_istore_n (pc := 53) (loc' := [(3, .int (nI (cntB (ahB (σ 0) n sd k) (o + 1)))), (0, .ref x), (1, .int q), (2, .int (nI k)), (4, .int (nI o))]) X dX6_ranked_53 rfl (by decide) rfl ?_
          refine v_iinc (pc := 54) (v := (nI (o + 1))) (loc' := [(4, .int (nI (o + 1))), (3, .int (nI (cntB (ahB (σ 0) n sd k) (o + 1)))), (0, .ref x), (1, .int q), (2, .int (nI k))]) X dX6_ranked_54 4 rfl (nI_add _ 1) (by decide) rfl ?_
          refine v_goto (pc := 57) X 18 dX6_ranked_57 (by decide) ?_
          refine v_sub [2, 3, 4, 1, 0] rfl ?_
          exact ih18 (o + 1) (by omega) (by omega)

theorem strM_le2 {cf : Nat → Int32} {st : Nat → Nat} {C : Nat} (hS : ∀ k, k < 4 → cf k = nI (st k) ∧ st k ≤ 99999) (hC : C ≤ 4) : strM st C ≤ 99999 := by
  unfold strM
  by_cases hc : C = 0
  · rw [if_pos hc]; exact Nat.zero_le _
  · rw [if_neg hc]
    obtain ⟨c0, ho0, hc0, -⟩ := ordC_ex (st := st) (C := C) (place := 0) (by omega)
    rw [ho0]
    exact (hS c0 (by omega)).2
theorem refD_k {n : Nat} {sd st : Nat → Nat} {C f l k : Nat} {L : List T3} (h : l < n - 1) (h2 : hvy sd L (strM st C) = some k) : refD n sd st C f l L = some (nI 6, nI k) := by
  unfold refD; rw [if_pos h, h2]
theorem hdX2_checkDays : yX2_checkDays.cls = RX2 ∧ yX2_checkDays.cls ≠ "java/lang/invoke/MethodHandle" ∧ yX2_checkDays.cls ≠ "java/lang/invoke/VarHandle" ∧ (parseMethodDescriptor yX2_checkDays.desc).map (fun d => d.parameters.length) = some 1 := by decide +kernel
set_option maxHeartbeats 4000000 in
theorem c_X2_checkDays {l_ : Launch} {D : va_G} {dd : Nat → ClassId} {x sa ca pa n C np : Nat} {ws : va_W} {i p : Nat} {pf : Nat → Option Nat} {T : Tr} {md : Int32} {f cf : Nat → Int32} {sd st : Nat → Nat} (hst : l_.stackTraces = false) (hn : n ≤ 9) (hC : C ≤ 4) (hx : (x, .inr (1, [.ref sa, .int (nI n), .ref ca, .int (nI C), .ref pa, .int (nI np)])) ∈ ws) (hsa : (sa, .inl (dd 0, 9, .inl f)) ∈ ws) (hf : ∀ i, i < 9 → f i = nI (sd i)) (h50 : ∀ i, sd i ≤ 50) (hca : (ca, .inl (dd 0, 4, .inl cf)) ∈ ws) (hS : ∀ k, k < 4 → cf k = nI (st k) ∧ st k ≤ 99999) (hpa : (pa, .inl (dd 4, 4, .inr (.inr (.inr (.inr pf))))) ∈ ws) (hi : i < 4) (hpf : pf i = some p) (hpl : PlanIs dd ws p T md) (hok : TrOk T) : XW l_ D dd yX2_checkDays (ws_ yX2_checkDays cX2_checkDays 4 none) 14 1 8 380 [.ref x, .int (nI i)] (ws) (fun v w => v = none ∧ w = ws ∧ refD n sd st C (fsT T) (lsT T) (plT T) = none) (fun q E w => E = "VatBrackets$Refused" ∧ ∃ fs r d, refD n sd st C (fsT T) (lsT T) (plT T) = some (r, d) ∧ w = (q, .inr (6, fs)) :: ws ∧ RfIs fs r d) := by
  obtain ⟨ad, σ, hm, hT, h1, h7, hL, hK⟩ := hpl
  obtain ⟨hrow, hdp, hlv⟩ := id hok
  have hll := hok.len
  have hp0 : (p, .inr (10, [.ref (ad 0), .int (σ 99 1), .ref (ad 2), .ref (ad 3), .ref (ad 4), .ref (ad 5), .ref (ad 6), .int (σ 99 7)])) ∈ ws := hm _ (List.mem_of_getElem? (i := 0) rfl)
  have hv1000 : ∀ v ∈ lvs T, v < 1000 := fun v h => Nat.lt_trans (hlv v h) (by decide)
  have hp2 : (ad 2, .inl (dd 0, 8, .inl (σ 2))) ∈ ws := hm _ (List.mem_of_getElem? (i := 1) rfl)
  have hp3 : (ad 3, .inl (dd 0, 8, .inl (σ 3))) ∈ ws := hm _ (List.mem_of_getElem? (i := 2) rfl)
  have hp4 : (ad 4, .inl (dd 0, 8, .inl (σ 4))) ∈ ws := hm _ (List.mem_of_getElem? (i := 3) rfl)
  have hp5 : (ad 5, .inl (dd 0, 8, .inl (σ 5))) ∈ ws := hm _ (List.mem_of_getElem? (i := 4) rfl)
  have hp6 : (ad 6, .inl (dd 0, 8, .inl (σ 6))) ∈ ws := hm _ (List.mem_of_getElem? (i := 5) rfl)
  have hst2 := strM_le2 hS hC
  refine XW.intro (by decide) (Nat.le_of_ble_eq_true rfl) (fun p_ e_ s_ m_ as_ bl_ me_ c_ A_ X hr ht => ?_)
  have X : VX p_ s_ m_ as_ me_ c_ cX2_checkDays 4 RX2 D dd A_ := X
  refine v_eq (loc' := [(0, .ref x), (1, .int (nI i))]) rfl rfl rfl ?_
  refine v_aload_n (pc := 0) X dX2_checkDays_0 rfl 0 rfl ?_
  refine v_getM (pc := 1) X in_X2 hx rfl 4 (by decide) q159 (fun y h => h) rfl dX2_checkDays_1 ?_
  refine v_iload_n (pc := 4) X dX2_checkDays_4 rfl 1 rfl ?_
  refine v_aaldS (pc := 5) X 4 rfl hpa rfl (by omega) (by decide) hpf dX2_checkDays_5 ?_
  refine v_astore_n (pc := 6) (loc' := [(2, .ref p), (0, .ref x), (1, .int (nI i))]) X dX2_checkDays_6 rfl (by decide) rfl ?_
  refine v_aload_n (pc := 7) X dX2_checkDays_7 rfl 1 rfl ?_
  refine v_iload_n (pc := 8) X dX2_checkDays_8 rfl 2 rfl ?_
  refine v_read (pc := 9) X ⟨[], perm_nil _⟩ (r_V X (c_X2_canPour (i := i) (by omega) hx hpa hi hpf ⟨ad, σ, hm, hT, h1, h7, hL, hK⟩ hok) hx rfl rfl (lw_V q934 q900 q901 q92 q902) hdX2_canPour ⟨Nat.le_of_ble_eq_true rfl, Nat.le_of_ble_eq_true rfl⟩ rfl rfl (Nat.le_of_ble_eq_true rfl) dX2_checkDays_9 ⟨Nat.le_of_ble_eq_true rfl, Nat.le_of_ble_eq_true rfl⟩) (fun r9 h9 => ?_)
  subst h9
  refine v_if_neB (pc := 12) X 19 dX2_checkDays_12 (by decide) (fun h12 => ?_) (fun h12 => ?_)
  · refine v_iconst (pc := 19) (v := nI 0) X dX2_checkDays_19 rfl ?_
    refine v_iconst (pc := 20) (v := nI 5) X dX2_checkDays_20 rfl ?_
    refine v_aload_n (pc := 21) X dX2_checkDays_21 rfl 0 rfl ?_
    refine v_getN (pc := 22) X in_X12 hp0 rfl 0 (by decide) q1415 (fun y h => h) rfl dX2_checkDays_22 ?_
    refine v_pfirst (pc := 25) X T ((ad 0)) hT (c_pfirst T ((ad 0)) hT) ⟨[], (by rw [List.append_nil])⟩ q1504 ⟨by dsimp only; omega, by dsimp only; omega⟩ (Nat.le_of_ble_eq_true rfl) dX2_checkDays_25 ⟨Nat.le_of_ble_eq_true rfl, Nat.le_of_ble_eq_true rfl⟩ (fun r25 h25 => ?_)
    subst h25
    refine v_aload_n (pc := 30) X dX2_checkDays_30 rfl 1 rfl ?_
    refine v_read (pc := 31) X ⟨[], perm_nil _⟩ (r_V X (c_X2_vats (x := x) (n := n) (by omega) hx) hx rfl rfl (lw_V q921 q922 q923 q92 q924) hdX2_vats ⟨Nat.le_of_ble_eq_true rfl, Nat.le_of_ble_eq_true rfl⟩ rfl rfl (Nat.le_of_ble_eq_true rfl) dX2_checkDays_31 ⟨Nat.le_of_ble_eq_true rfl, Nat.le_of_ble_eq_true rfl⟩) (fun r31 h31 => ?_)
    subst h31
    refine v_maxN (pc := 34) X q925 (by omega) (by omega) ⟨Nat.le_of_ble_eq_true rfl, Nat.le_of_ble_eq_true rfl⟩ (Nat.le_of_ble_eq_true rfl) ⟨Nat.le_of_ble_eq_true rfl, Nat.le_of_ble_eq_true rfl⟩ dX2_checkDays_34 ?_
    refine v_frame (pc := 37) X (wr := fl [ws]) (List.Perm.refl _) (r_SN X c_refuse0 q1025 q91 q1023 q1024 hdX1_refuse ⟨Nat.le_of_ble_eq_true rfl, Nat.le_of_ble_eq_true rfl⟩ rfl rfl (Nat.le_of_ble_eq_true rfl) dX2_checkDays_37 ⟨Nat.le_of_ble_eq_true rfl, Nat.le_of_ble_eq_true rfl⟩) (fun v37 w37 h37 => ?_)
    obtain ⟨rfl, rfl⟩ := h37
    refine v_eq (ws' := fl [ws]) rfl rfl rfl ?_
    refine v_iconst (pc := 40) (v := nI 0) X dX2_checkDays_40 rfl ?_
    refine v_istore_n (pc := 41) (loc' := [(3, .int (nI 0)), (2, .ref p), (0, .ref x), (1, .int (nI i))]) X dX2_checkDays_41 rfl (by decide) rfl ?_
    refine v_sub [2, 3, 1, 0] rfl ?_
    refine v_loop1 (S := Nat) (fun k => fl [ws]) (fun k => [(0, .ref x), (1, .int (nI i)), (2, .ref p), (3, .int (nI k))]) (fun k => k ≤ (plT T).length ∧ hvy sd (plT T) (strM st C) = fsH (fun k => decide (strM st C < costK sd (plT T) k)) ((plT T).length - k) k) (fun k => (plT T).length - k) (fun k hI42 ih42 => ?_) 0 ⟨Nat.zero_le _, rfl⟩
    obtain ⟨hk1, hk2⟩ := hI42
    refine v_iload_n (pc := 42) X dX2_checkDays_42 rfl 3 rfl ?_
    refine v_aload_n (pc := 43) X dX2_checkDays_43 rfl 2 rfl ?_
    refine v_getN (pc := 44) X in_X12 hp0 rfl 7 (by decide) q1431 (fun y h => h) rfl dX2_checkDays_44 ?_
    refine v_top (y := (nI ((plT T).length))) h7 ?_
    refine v_ic_geN (pc := 47) X (by omega) (by omega) 83 dX2_checkDays_47 (by decide) (fun h47 => ?_) (fun h47 => ?_)
    · refine v_widen (k := 1) (n := 8) (Nat.le_of_ble_eq_true rfl) (Nat.le_of_ble_eq_true rfl) ?_
      exact v_xr (v_vret (pc := 83) X hr dX2_checkDays_83 ⟨rfl, rfl, refD_n h12 (by rw [hk2, show (plT T).length - k = 0 by omega]; rfl)⟩)
    · obtain ⟨e, hke⟩ := get_lt (L := plT T) (k := k) (by omega)
      have hee := plT_bd T hlv e (List.mem_of_getElem? hke)
      have hcb := cst_b h50 (plT T) k
      refine v_aload_n (pc := 50) X dX2_checkDays_50 rfl 2 rfl ?_
      refine v_aload_n (pc := 51) X dX2_checkDays_51 rfl 0 rfl ?_
      refine v_getM (pc := 52) X in_X2 hx rfl 0 (by decide) q147 (fun y h => h) rfl dX2_checkDays_52 ?_
      refine v_iload_n (pc := 55) X dX2_checkDays_55 rfl 3 rfl ?_
      refine v_read (pc := 56) X ⟨[], perm_nil _⟩ (r_V X (c_X12_cost hf hsa hp0 hp2 hp3 hp4 (by omega) (hL k e hke).1 (hL k e hke).2.1 (hL k e hke).2.2 (by omega) hee.2.1 hee.2.2) hp0 rfl rfl (lw_V q1505 q1484 q1485 q126 q1486) hdX12_cost ⟨Nat.le_of_ble_eq_true rfl, Nat.le_of_ble_eq_true rfl⟩ rfl rfl (Nat.le_of_ble_eq_true rfl) dX2_checkDays_56 ⟨Nat.le_of_ble_eq_true rfl, Nat.le_of_ble_eq_true rfl⟩) (fun r56 h56 => ?_)
      subst h56
      refine v_top (y := (nI (costK sd (plT T) k))) (by unfold costK; rw [getD_of hke]) ?_
      refine v_aload_n (pc := 59) X dX2_checkDays_59 rfl 0 rfl ?_
      refine v_read (pc := 60) X ⟨[], perm_nil _⟩ (r_V X (c_X2_strongest hx hca hS hC) hx rfl rfl (lw_V q1506 q1508 qs26 q92 q1509) hdX2_strongest ⟨Nat.le_of_ble_eq_true rfl, Nat.le_of_ble_eq_true rfl⟩ rfl rfl (Nat.le_of_ble_eq_true rfl) dX2_checkDays_60 ⟨Nat.le_of_ble_eq_true rfl, Nat.le_of_ble_eq_true rfl⟩) (fun r60 h60 => ?_)
      subst h60
      refine v_ic_leN (pc := 63) X (by omega) (by omega) 70 dX2_checkDays_63 (by decide) (fun h63 => ?_) (fun h63 => ?_)
      · refine v_iconst (pc := 70) (v := nI 0) X dX2_checkDays_70 rfl ?_
        refine v_bipush (pc := 71) (v := nI 6) X dX2_checkDays_71 rfl ?_
        refine v_iload_n (pc := 73) X dX2_checkDays_73 rfl 3 rfl ?_
        refine v_frame (pc := 74) X (wr := fl [ws]) (List.Perm.refl _) (r_SN X c_refuse0 q1025 q91 q1023 q1024 hdX1_refuse ⟨Nat.le_of_ble_eq_true rfl, Nat.le_of_ble_eq_true rfl⟩ rfl rfl (Nat.le_of_ble_eq_true rfl) dX2_checkDays_74 ⟨Nat.le_of_ble_eq_true rfl, Nat.le_of_ble_eq_true rfl⟩) (fun v74 w74 h74 => ?_)
        obtain ⟨rfl, rfl⟩ := h74
        refine v_eq (ws' := fl [ws]) rfl rfl rfl ?_
        refine v_iinc (pc := 77) (v := (nI (k + 1))) (loc' := [(3, .int (nI (k + 1))), (0, .ref x), (1, .int (nI i)), (2, .ref p)]) X dX2_checkDays_77 3 rfl (nI_add _ 1) (by decide) rfl ?_
        refine v_goto (pc := 80) X 42 dX2_checkDays_80 (by decide) ?_
        refine v_sub [1, 2, 3, 0] rfl ?_
        exact ih42 (k + 1) ⟨by omega, by rw [hk2, fsH_n (by simp only [decide_eq_true_eq]; omega) (by omega)]; congr 1⟩ (by omega)
      · refine v_iconst (pc := 66) (v := nI 1) X dX2_checkDays_66 rfl ?_
        refine v_goto (pc := 67) X 71 dX2_checkDays_67 (by decide) ?_
        refine v_bipush (pc := 71) (v := nI 6) X dX2_checkDays_71 rfl ?_
        refine v_iload_n (pc := 73) X dX2_checkDays_73 rfl 3 rfl ?_
        refine v_frameX (pc := 74) X (wr := fl [ws]) (List.Perm.refl _) (x_SN X (c_refuse1 hst) q1025 q91 q1023 q1024 hdX1_refuse ⟨Nat.le_of_ble_eq_true rfl, Nat.le_of_ble_eq_true rfl⟩ rfl rfl (Nat.le_of_ble_eq_true rfl) dX2_checkDays_74 ⟨Nat.le_of_ble_eq_true rfl, Nat.le_of_ble_eq_true rfl⟩) (fun q74 E74 w74 x74 => ?_) (fun v74 w74 h74 => h74.elim)
        obtain ⟨rfl, fs74, rfl, hf74⟩ := x74
        exact vt_out X (fun z hz => (ht z hz).elim) ((Nat.le_of_ble_eq_true rfl)) ((Nat.le_of_ble_eq_true rfl)) ⟨rfl, fs74, _, _, refD_k h12 (by rw [hk2, fsH_s (decide_eq_true h63) (by omega)]), rfl, hf74⟩
  · refine v_iconst (pc := 15) (v := nI 1) X dX2_checkDays_15 rfl ?_
    refine v_goto (pc := 16) X 20 dX2_checkDays_16 (by decide) ?_
    refine v_iconst (pc := 20) (v := nI 5) X dX2_checkDays_20 rfl ?_
    refine v_aload_n (pc := 21) X dX2_checkDays_21 rfl 0 rfl ?_
    refine v_getN (pc := 22) X in_X12 hp0 rfl 0 (by decide) q1415 (fun y h => h) rfl dX2_checkDays_22 ?_
    refine v_pfirst (pc := 25) X T ((ad 0)) hT (c_pfirst T ((ad 0)) hT) ⟨[], (by rw [List.append_nil])⟩ q1504 ⟨by dsimp only; omega, by dsimp only; omega⟩ (Nat.le_of_ble_eq_true rfl) dX2_checkDays_25 ⟨Nat.le_of_ble_eq_true rfl, Nat.le_of_ble_eq_true rfl⟩ (fun r25 h25 => ?_)
    subst h25
    refine v_aload_n (pc := 30) X dX2_checkDays_30 rfl 1 rfl ?_
    refine v_read (pc := 31) X ⟨[], perm_nil _⟩ (r_V X (c_X2_vats (x := x) (n := n) (by omega) hx) hx rfl rfl (lw_V q921 q922 q923 q92 q924) hdX2_vats ⟨Nat.le_of_ble_eq_true rfl, Nat.le_of_ble_eq_true rfl⟩ rfl rfl (Nat.le_of_ble_eq_true rfl) dX2_checkDays_31 ⟨Nat.le_of_ble_eq_true rfl, Nat.le_of_ble_eq_true rfl⟩) (fun r31 h31 => ?_)
    subst h31
    refine v_maxN (pc := 34) X q925 (by omega) (by omega) ⟨Nat.le_of_ble_eq_true rfl, Nat.le_of_ble_eq_true rfl⟩ (Nat.le_of_ble_eq_true rfl) ⟨Nat.le_of_ble_eq_true rfl, Nat.le_of_ble_eq_true rfl⟩ dX2_checkDays_34 ?_
    refine v_frameX (pc := 37) X (wr := fl [ws]) (List.Perm.refl _) (x_SN X (c_refuse1 hst) q1025 q91 q1023 q1024 hdX1_refuse ⟨Nat.le_of_ble_eq_true rfl, Nat.le_of_ble_eq_true rfl⟩ rfl rfl (Nat.le_of_ble_eq_true rfl) dX2_checkDays_37 ⟨Nat.le_of_ble_eq_true rfl, Nat.le_of_ble_eq_true rfl⟩) (fun q37 E37 w37 x37 => ?_) (fun v37 w37 h37 => h37.elim)
    obtain ⟨rfl, fs37, rfl, hf37⟩ := x37
    exact vt_out X (fun z hz => (ht z hz).elim) ((Nat.le_of_ble_eq_true rfl)) ((Nat.le_of_ble_eq_true rfl)) ⟨rfl, fs37, _, _, refD_v h12, rfl, hf37⟩
theorem hdX2_isAhead : yX2_isAhead.cls = RX2 ∧ yX2_isAhead.cls ≠ "java/lang/invoke/MethodHandle" ∧ yX2_isAhead.cls ≠ "java/lang/invoke/VarHandle" ∧ (parseMethodDescriptor yX2_isAhead.desc).map (fun d => d.parameters.length) = some 2 := by decide +kernel
set_option maxHeartbeats 4000000 in
theorem c_X2_isAhead {l_ : Launch} {D : va_G} {dd : Nat → ClassId} {x sa ca pa n C np : Nat} {ws : va_W} {i j p p2 : Nat} {pf : Nat → Option Nat} {T T2 : Tr} {md md2 : Int32} {f : Nat → Int32} {sd : Nat → Nat} (hn : n ≤ 9) (hx : (x, .inr (1, [.ref sa, .int (nI n), .ref ca, .int (nI C), .ref pa, .int (nI np)])) ∈ ws) (hsa : (sa, .inl (dd 0, 9, .inl f)) ∈ ws) (hf : ∀ i, i < 9 → f i = nI (sd i)) (hpa : (pa, .inl (dd 4, 4, .inr (.inr (.inr (.inr pf))))) ∈ ws) (hi : i < 4) (hpf : pf i = some p) (hpl : PlanIs dd ws p T md) (hok : TrOk T) (hj : j < 4) (hpf2 : pf j = some p2) (hpl2 : PlanIs dd ws p2 T2 md2) (hok2 : TrOk T2) : MW l_ D dd yX2_isAhead cX2_isAhead 5 (some .boolean) 14 0 0 340 [.ref x, .int (nI i), .int (nI j)] (ws) (RI (fun r => bI (ahdP (plCost n (lsT T) sd (plT T)) (plCost n (lsT T2) sd (plT T2)) i j) = r) ws) := by
  refine MW.intro (by decide) (Nat.le_of_ble_eq_true rfl) (fun p_ e_ s_ m_ as_ bl_ me_ c_ A_ X hr hnm => ?_)
  have X : VX p_ s_ m_ as_ me_ c_ cX2_isAhead 5 RX2 D dd A_ := X
  refine v_eq (loc' := [(0, .ref x), (1, .int (nI i)), (2, .int (nI j))]) rfl rfl rfl ?_
  refine v_aload_n (pc := 0) X dX2_isAhead_0 rfl 0 rfl ?_
  refine v_iload_n (pc := 1) X dX2_isAhead_1 rfl 1 rfl ?_
  refine v_read (pc := 2) X ⟨[], perm_nil _⟩ (r_V X (c_X2_cost (i := i) hn hx hsa hf hpa hi hpf hpl hok) hx rfl rfl (lw_V q1563 q931 q932 q92 q933) hdX2_cost ⟨Nat.le_of_ble_eq_true rfl, Nat.le_of_ble_eq_true rfl⟩ rfl rfl (Nat.le_of_ble_eq_true rfl) dX2_isAhead_2 ⟨Nat.le_of_ble_eq_true rfl, Nat.le_of_ble_eq_true rfl⟩) (fun r2 h2 => ?_)
  subst h2
  refine v_nm (fun y1 ey1 => ?_)
  rw [← ey1]
  refine v_istore_n (pc := 5) (loc' := [(3, .int y1), (0, .ref x), (1, .int (nI i)), (2, .int (nI j))]) X dX2_isAhead_5 rfl (by decide) rfl ?_
  refine v_aload_n (pc := 6) X dX2_isAhead_6 rfl 1 rfl ?_
  refine v_iload_n (pc := 7) X dX2_isAhead_7 rfl 3 rfl ?_
  refine v_read (pc := 8) X ⟨[], perm_nil _⟩ (r_V X (c_X2_cost (i := j) hn hx hsa hf hpa hj hpf2 hpl2 hok2) hx rfl rfl (lw_V q1563 q931 q932 q92 q933) hdX2_cost ⟨Nat.le_of_ble_eq_true rfl, Nat.le_of_ble_eq_true rfl⟩ rfl rfl (Nat.le_of_ble_eq_true rfl) dX2_isAhead_8 ⟨Nat.le_of_ble_eq_true rfl, Nat.le_of_ble_eq_true rfl⟩) (fun r8 h8 => ?_)
  subst h8
  refine v_nm (fun y2 ey2 => ?_)
  rw [← ey2]
  refine v_istore (pc := 11) (loc' := [(4, .int y2), (3, .int y1), (0, .ref x), (1, .int (nI i)), (2, .int (nI j))]) X dX2_isAhead_11 (by decide) rfl ?_
  refine v_iload_n (pc := 13) X dX2_isAhead_13 rfl 1 rfl ?_
  refine v_iconst (pc := 14) (v := -1) X dX2_isAhead_14 rfl ?_
  refine v_ic_ne (pc := 15) X 22 dX2_isAhead_15 (by decide) (fun h15 => ?_) (fun h15 => ?_)
  · refine v_iconst (pc := 22) (v := nI 0) X dX2_isAhead_22 rfl ?_
    refine v_iload (pc := 23) X dX2_isAhead_23 0 rfl ?_
    refine v_iconst (pc := 25) (v := -1) X dX2_isAhead_25 rfl ?_
    refine v_ic_ne (pc := 26) X 33 dX2_isAhead_26 (by decide) (fun h26 => ?_) (fun h26 => ?_)
    · refine v_iconst (pc := 33) (v := nI 0) X dX2_isAhead_33 rfl ?_
      refine v_ic_eqN (pc := 34) X (by omega) (by omega) 49 dX2_isAhead_34 (by decide) (fun h34 => ?_) (fun h34 => ?_)
      · refine v_iload_n (pc := 49) X dX2_isAhead_49 rfl 1 rfl ?_
        refine v_iload (pc := 50) X dX2_isAhead_50 0 rfl ?_
        refine v_ic_lt (pc := 52) X 66 dX2_isAhead_52 (by decide) (fun h52 => ?_) (fun h52 => ?_)
        · refine v_iconst (pc := 66) (v := nI 1) X dX2_isAhead_66 rfl ?_
          refine v_goto (pc := 67) X 71 dX2_isAhead_67 (by decide) ?_
          exact v_zret (pc := 71) X hr rfl dX2_isAhead_71 ⟨⟨_, rfl, (by show bI (ahdP y1 y2 i j) = _; exact bI_t (by clear ey1 ey2; unfold ahdP; by_cases q1 : y1 = -1 <;> by_cases q2 : y2 = -1 <;> simp_all))⟩, rfl⟩
        · refine v_iload_n (pc := 55) X dX2_isAhead_55 rfl 1 rfl ?_
          refine v_iload (pc := 56) X dX2_isAhead_56 0 rfl ?_
          refine v_ic_ne (pc := 58) X 70 dX2_isAhead_58 (by decide) (fun h58 => ?_) (fun h58 => ?_)
          · refine v_iconst (pc := 70) (v := nI 0) X dX2_isAhead_70 rfl ?_
            exact v_zret (pc := 71) X hr rfl dX2_isAhead_71 ⟨⟨_, rfl, (by show bI (ahdP y1 y2 i j) = _; exact bI_f (by clear ey1 ey2; unfold ahdP; by_cases q1 : y1 = -1 <;> by_cases q2 : y2 = -1 <;> simp_all))⟩, rfl⟩
          · refine v_iload_n (pc := 61) X dX2_isAhead_61 rfl 3 rfl ?_
            refine v_iload_n (pc := 62) X dX2_isAhead_62 rfl 4 rfl ?_
            refine v_ic_geN (pc := 63) X (by omega) (by omega) 70 dX2_isAhead_63 (by decide) (fun h63 => ?_) (fun h63 => ?_)
            · refine v_iconst (pc := 70) (v := nI 0) X dX2_isAhead_70 rfl ?_
              exact v_zret (pc := 71) X hr rfl dX2_isAhead_71 ⟨⟨_, rfl, (by show bI (ahdP y1 y2 i j) = _; exact bI_f (by clear ey1 ey2; unfold ahdP; by_cases q1 : y1 = -1 <;> by_cases q2 : y2 = -1 <;> simp_all))⟩, rfl⟩
            · refine v_iconst (pc := 66) (v := nI 1) X dX2_isAhead_66 rfl ?_
              refine v_goto (pc := 67) X 71 dX2_isAhead_67 (by decide) ?_
              exact v_zret (pc := 71) X hr rfl dX2_isAhead_71 ⟨⟨_, rfl, (by show bI (ahdP y1 y2 i j) = _; exact bI_t (by clear ey1 ey2; unfold ahdP; by_cases q1 : y1 = -1 <;> by_cases q2 : y2 = -1 <;> simp_all))⟩, rfl⟩
      · refine v_iload (pc := 37) X dX2_isAhead_37 0 rfl ?_
        refine v_iconst (pc := 39) (v := -1) X dX2_isAhead_39 rfl ?_
        refine v_ic_ne (pc := 40) X 47 dX2_isAhead_40 (by decide) (fun h40 => ?_) (fun h40 => ?_)
        · refine v_iconst (pc := 47) (v := nI 0) X dX2_isAhead_47 rfl ?_
          exact v_zret (pc := 48) X hr rfl dX2_isAhead_48 ⟨⟨_, rfl, (by show bI (ahdP y1 y2 i j) = _; exact bI_f (by clear ey1 ey2; unfold ahdP; by_cases q1 : y1 = -1 <;> by_cases q2 : y2 = -1 <;> simp_all))⟩, rfl⟩
        · refine v_iconst (pc := 43) (v := nI 1) X dX2_isAhead_43 rfl ?_
          refine v_goto (pc := 44) X 48 dX2_isAhead_44 (by decide) ?_
          exact v_zret (pc := 48) X hr rfl dX2_isAhead_48 ⟨⟨_, rfl, (by show bI (ahdP y1 y2 i j) = _; exact bI_t (by clear ey1 ey2; unfold ahdP; by_cases q1 : y1 = -1 <;> by_cases q2 : y2 = -1 <;> simp_all))⟩, rfl⟩
    · refine v_iconst (pc := 29) (v := nI 1) X dX2_isAhead_29 rfl ?_
      refine v_goto (pc := 30) X 34 dX2_isAhead_30 (by decide) ?_
      refine v_ic_eqN (pc := 34) X (by omega) (by omega) 49 dX2_isAhead_34 (by decide) (fun h34 => ?_) (fun h34 => ?_)
      · refine v_iload_n (pc := 49) X dX2_isAhead_49 rfl 1 rfl ?_
        refine v_iload (pc := 50) X dX2_isAhead_50 0 rfl ?_
        refine v_ic_lt (pc := 52) X 66 dX2_isAhead_52 (by decide) (fun h52 => ?_) (fun h52 => ?_)
        · refine v_iconst (pc := 66) (v := nI 1) X dX2_isAhead_66 rfl ?_
          refine v_goto (pc := 67) X 71 dX2_isAhead_67 (by decide) ?_
          exact v_zret (pc := 71) X hr rfl dX2_isAhead_71 ⟨⟨_, rfl, (by show bI (ahdP y1 y2 i j) = _; exact bI_t (by clear ey1 ey2; unfold ahdP; by_cases q1 : y1 = -1 <;> by_cases q2 : y2 = -1 <;> simp_all))⟩, rfl⟩
        · refine v_iload_n (pc := 55) X dX2_isAhead_55 rfl 1 rfl ?_
          refine v_iload (pc := 56) X dX2_isAhead_56 0 rfl ?_
          refine v_ic_ne (pc := 58) X 70 dX2_isAhead_58 (by decide) (fun h58 => ?_) (fun h58 => ?_)
          · refine v_iconst (pc := 70) (v := nI 0) X dX2_isAhead_70 rfl ?_
            exact v_zret (pc := 71) X hr rfl dX2_isAhead_71 ⟨⟨_, rfl, (by show bI (ahdP y1 y2 i j) = _; exact bI_f (by clear ey1 ey2; unfold ahdP; by_cases q1 : y1 = -1 <;> by_cases q2 : y2 = -1 <;> simp_all))⟩, rfl⟩
          · refine v_iload_n (pc := 61) X dX2_isAhead_61 rfl 3 rfl ?_
            refine v_iload_n (pc := 62) X dX2_isAhead_62 rfl 4 rfl ?_
            refine v_ic_geN (pc := 63) X (by omega) (by omega) 70 dX2_isAhead_63 (by decide) (fun h63 => ?_) (fun h63 => ?_)
            · refine v_iconst (pc := 70) (v := nI 0) X dX2_isAhead_70 rfl ?_
              exact v_zret (pc := 71) X hr rfl dX2_isAhead_71 ⟨⟨_, rfl, (by show bI (ahdP y1 y2 i j) = _; exact bI_f (by clear ey1 ey2; unfold ahdP; by_cases q1 : y1 = -1 <;> by_cases q2 : y2 = -1 <;> simp_all))⟩, rfl⟩
            · refine v_iconst (pc := 66) (v := nI 1) X dX2_isAhead_66 rfl ?_
              refine v_goto (pc := 67) X 71 dX2_isAhead_67 (by decide) ?_
              exact v_zret (pc := 71) X hr rfl dX2_isAhead_71 ⟨⟨_, rfl, (by show bI (ahdP y1 y2 i j) = _; exact bI_t (by clear ey1 ey2; unfold ahdP; by_cases q1 : y1 = -1 <;> by_cases q2 : y2 = -1 <;> simp_all))⟩, rfl⟩
      · refine v_iload (pc := 37) X dX2_isAhead_37 0 rfl ?_
        refine v_iconst (pc := 39) (v := -1) X dX2_isAhead_39 rfl ?_
        refine v_ic_ne (pc := 40) X 47 dX2_isAhead_40 (by decide) (fun h40 => ?_) (fun h40 => ?_)
        · refine v_iconst (pc := 47) (v := nI 0) X dX2_isAhead_47 rfl ?_
          exact v_zret (pc := 48) X hr rfl dX2_isAhead_48 ⟨⟨_, rfl, (by show bI (ahdP y1 y2 i j) = _; exact bI_f (by clear ey1 ey2; unfold ahdP; by_cases q1 : y1 = -1 <;> by_cases q2 : y2 = -1 <;> simp_all))⟩, rfl⟩
        · refine v_iconst (pc := 43) (v := nI 1) X dX2_isAhead_43 rfl ?_
          refine v_goto (pc := 44) X 48 dX2_isAhead_44 (by decide) ?_
          exact v_zret (pc := 48) X hr rfl dX2_isAhead_48 ⟨⟨_, rfl, (by show bI (ahdP y1 y2 i j) = _; exact bI_t (by clear ey1 ey2; unfold ahdP; by_cases q1 : y1 = -1 <;> by_cases q2 : y2 = -1 <;> simp_all))⟩, rfl⟩
  · refine v_iconst (pc := 18) (v := nI 1) X dX2_isAhead_18 rfl ?_
    refine v_goto (pc := 19) X 23 dX2_isAhead_19 (by decide) ?_
    refine v_iload (pc := 23) X dX2_isAhead_23 0 rfl ?_
    refine v_iconst (pc := 25) (v := -1) X dX2_isAhead_25 rfl ?_
    refine v_ic_ne (pc := 26) X 33 dX2_isAhead_26 (by decide) (fun h26 => ?_) (fun h26 => ?_)
    · refine v_iconst (pc := 33) (v := nI 0) X dX2_isAhead_33 rfl ?_
      refine v_ic_eqN (pc := 34) X (by omega) (by omega) 49 dX2_isAhead_34 (by decide) (fun h34 => ?_) (fun h34 => ?_)
      · refine v_iload_n (pc := 49) X dX2_isAhead_49 rfl 1 rfl ?_
        refine v_iload (pc := 50) X dX2_isAhead_50 0 rfl ?_
        refine v_ic_lt (pc := 52) X 66 dX2_isAhead_52 (by decide) (fun h52 => ?_) (fun h52 => ?_)
        · refine v_iconst (pc := 66) (v := nI 1) X dX2_isAhead_66 rfl ?_
          refine v_goto (pc := 67) X 71 dX2_isAhead_67 (by decide) ?_
          exact v_zret (pc := 71) X hr rfl dX2_isAhead_71 ⟨⟨_, rfl, (by show bI (ahdP y1 y2 i j) = _; exact bI_t (by clear ey1 ey2; unfold ahdP; by_cases q1 : y1 = -1 <;> by_cases q2 : y2 = -1 <;> simp_all))⟩, rfl⟩
        · refine v_iload_n (pc := 55) X dX2_isAhead_55 rfl 1 rfl ?_
          refine v_iload (pc := 56) X dX2_isAhead_56 0 rfl ?_
          refine v_ic_ne (pc := 58) X 70 dX2_isAhead_58 (by decide) (fun h58 => ?_) (fun h58 => ?_)
          · refine v_iconst (pc := 70) (v := nI 0) X dX2_isAhead_70 rfl ?_
            exact v_zret (pc := 71) X hr rfl dX2_isAhead_71 ⟨⟨_, rfl, (by show bI (ahdP y1 y2 i j) = _; exact bI_f (by clear ey1 ey2; unfold ahdP; by_cases q1 : y1 = -1 <;> by_cases q2 : y2 = -1 <;> simp_all))⟩, rfl⟩
          · refine v_iload_n (pc := 61) X dX2_isAhead_61 rfl 3 rfl ?_
            refine v_iload_n (pc := 62) X dX2_isAhead_62 rfl 4 rfl ?_
            refine v_ic_geN (pc := 63) X (by omega) (by omega) 70 dX2_isAhead_63 (by decide) (fun h63 => ?_) (fun h63 => ?_)
            · refine v_iconst (pc := 70) (v := nI 0) X dX2_isAhead_70 rfl ?_
              exact v_zret (pc := 71) X hr rfl dX2_isAhead_71 ⟨⟨_, rfl, (by show bI (ahdP y1 y2 i j) = _; exact bI_f (by clear ey1 ey2; unfold ahdP; by_cases q1 : y1 = -1 <;> by_cases q2 : y2 = -1 <;> simp_all))⟩, rfl⟩
            · refine v_iconst (pc := 66) (v := nI 1) X dX2_isAhead_66 rfl ?_
              refine v_goto (pc := 67) X 71 dX2_isAhead_67 (by decide) ?_
              exact v_zret (pc := 71) X hr rfl dX2_isAhead_71 ⟨⟨_, rfl, (by show bI (ahdP y1 y2 i j) = _; exact bI_t (by clear ey1 ey2; unfold ahdP; by_cases q1 : y1 = -1 <;> by_cases q2 : y2 = -1 <;> simp_all))⟩, rfl⟩
      · refine v_iload (pc := 37) X dX2_isAhead_37 0 rfl ?_
        refine v_iconst (pc := 39) (v := -1) X dX2_isAhead_39 rfl ?_
        refine v_ic_ne (pc := 40) X 47 dX2_isAhead_40 (by decide) (fun h40 => ?_) (fun h40 => ?_)
        · refine v_iconst (pc := 47) (v := nI 0) X dX2_isAhead_47 rfl ?_
          exact v_zret (pc := 48) X hr rfl dX2_isAhead_48 ⟨⟨_, rfl, (by show bI (ahdP y1 y2 i j) = _; exact bI_f (by clear ey1 ey2; unfold ahdP; by_cases q1 : y1 = -1 <;> by_cases q2 : y2 = -1 <;> simp_all))⟩, rfl⟩
        · refine v_iconst (pc := 43) (v := nI 1) X dX2_isAhead_43 rfl ?_
          refine v_goto (pc := 44) X 48 dX2_isAhead_44 (by decide) ?_
          exact v_zret (pc := 48) X hr rfl dX2_isAhead_48 ⟨⟨_, rfl, (by show bI (ahdP y1 y2 i j) = _; exact bI_t (by clear ey1 ey2; unfold ahdP; by_cases q1 : y1 = -1 <;> by_cases q2 : y2 = -1 <;> simp_all))⟩, rfl⟩
    · refine v_iconst (pc := 29) (v := nI 1) X dX2_isAhead_29 rfl ?_
      refine v_goto (pc := 30) X 34 dX2_isAhead_30 (by decide) ?_
      refine v_ic_eqN (pc := 34) X (by omega) (by omega) 49 dX2_isAhead_34 (by decide) (fun h34 => ?_) (fun h34 => ?_)
      · refine v_iload_n (pc := 49) X dX2_isAhead_49 rfl 1 rfl ?_
        refine v_iload (pc := 50) X dX2_isAhead_50 0 rfl ?_
        refine v_ic_lt (pc := 52) X 66 dX2_isAhead_52 (by decide) (fun h52 => ?_) (fun h52 => ?_)
        · refine v_iconst (pc := 66) (v := nI 1) X dX2_isAhead_66 rfl ?_
          refine v_goto (pc := 67) X 71 dX2_isAhead_67 (by decide) ?_
          exact v_zret (pc := 71) X hr rfl dX2_isAhead_71 ⟨⟨_, rfl, (by show bI (ahdP y1 y2 i j) = _; exact bI_t (by clear ey1 ey2; unfold ahdP; by_cases q1 : y1 = -1 <;> by_cases q2 : y2 = -1 <;> simp_all))⟩, rfl⟩
        · refine v_iload_n (pc := 55) X dX2_isAhead_55 rfl 1 rfl ?_
          refine v_iload (pc := 56) X dX2_isAhead_56 0 rfl ?_
          refine v_ic_ne (pc := 58) X 70 dX2_isAhead_58 (by decide) (fun h58 => ?_) (fun h58 => ?_)
          · refine v_iconst (pc := 70) (v := nI 0) X dX2_isAhead_70 rfl ?_
            exact v_zret (pc := 71) X hr rfl dX2_isAhead_71 ⟨⟨_, rfl, (by show bI (ahdP y1 y2 i j) = _; exact bI_f (by clear ey1 ey2; unfold ahdP; by_cases q1 : y1 = -1 <;> by_cases q2 : y2 = -1 <;> simp_all))⟩, rfl⟩
          · refine v_iload_n (pc := 61) X dX2_isAhead_61 rfl 3 rfl ?_
            refine v_iload_n (pc := 62) X dX2_isAhead_62 rfl 4 rfl ?_
            refine v_ic_geN (pc := 63) X (by omega) (by omega) 70 dX2_isAhead_63 (by decide) (fun h63 => ?_) (fun h63 => ?_)
            · refine v_iconst (pc := 70) (v := nI 0) X dX2_isAhead_70 rfl ?_
              exact v_zret (pc := 71) X hr rfl dX2_isAhead_71 ⟨⟨_, rfl, (by show bI (ahdP y1 y2 i j) = _; exact bI_f (by clear ey1 ey2; unfold ahdP; by_cases q1 : y1 = -1 <;> by_cases q2 : y2 = -1 <;> simp_all))⟩, rfl⟩
            · refine v_iconst (pc := 66) (v := nI 1) X dX2_isAhead_66 rfl ?_
              refine v_goto (pc := 67) X 71 dX2_isAhead_67 (by decide) ?_
              exact v_zret (pc := 71) X hr rfl dX2_isAhead_71 ⟨⟨_, rfl, (by show bI (ahdP y1 y2 i j) = _; exact bI_t (by clear ey1 ey2; unfold ahdP; by_cases q1 : y1 = -1 <;> by_cases q2 : y2 = -1 <;> simp_all))⟩, rfl⟩
      · refine v_iload (pc := 37) X dX2_isAhead_37 0 rfl ?_
        refine v_iconst (pc := 39) (v := -1) X dX2_isAhead_39 rfl ?_
        refine v_ic_ne (pc := 40) X 47 dX2_isAhead_40 (by decide) (fun h40 => ?_) (fun h40 => ?_)
        · refine v_iconst (pc := 47) (v := nI 0) X dX2_isAhead_47 rfl ?_
          exact v_zret (pc := 48) X hr rfl dX2_isAhead_48 ⟨⟨_, rfl, (by show bI (ahdP y1 y2 i j) = _; exact bI_f (by clear ey1 ey2; unfold ahdP; by_cases q1 : y1 = -1 <;> by_cases q2 : y2 = -1 <;> simp_all))⟩, rfl⟩
        · refine v_iconst (pc := 43) (v := nI 1) X dX2_isAhead_43 rfl ?_
          refine v_goto (pc := 44) X 48 dX2_isAhead_44 (by decide) ?_
          exact v_zret (pc := 48) X hr rfl dX2_isAhead_48 ⟨⟨_, rfl, (by show bI (ahdP y1 y2 i j) = _; exact bI_t (by clear ey1 ey2; unfold ahdP; by_cases q1 : y1 = -1 <;> by_cases q2 : y2 = -1 <;> simp_all))⟩, rfl⟩

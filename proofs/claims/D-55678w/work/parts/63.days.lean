theorem hdX4_init : yX4_init.name = "<init>" ∧ yX4_init.cls ≠ "java/lang/invoke/MethodHandle" ∧ yX4_init.cls ≠ "java/lang/invoke/VarHandle" ∧ (parseMethodDescriptor yX4_init.desc).map (fun d => d.parameters.length) = some 0 := by decide +kernel
set_option maxHeartbeats 4000000 in
theorem c_X4_init {l_ : Launch} {D : va_G} {dd : Nat → ClassId} {q : Nat}  : MW l_ D dd yX4_init cX4_init 1 none 1 2 16 20 [.ref q] ([(q, .inr (3, [.null, .null, .int 0]))]) (fun r w => r = none ∧ ∃ a b, w = [(q, .inr (3, [.ref a, .ref b, .int 0])), (a, .inl (dd 0, 8, .inl (fun _ => 0))), (b, .inl (dd 0, 8, .inl (fun _ => 0)))]) := by
  refine MW.intro (by decide) (Nat.le_of_ble_eq_true rfl) (fun p_ e_ s_ m_ as_ bl_ me_ c_ A_ X hr hnm => ?_)
  have X : VX p_ s_ m_ as_ me_ c_ cX4_init 1 RX4 D dd A_ := X
  refine v_eq (loc' := [(0, .ref q)]) rfl rfl rfl ?_
  refine v_aload_n (pc := 0) X dX4_init_0 rfl 0 rfl ?_
  refine v_objInit (pc := 1) X q246 q137 q138 ⟨Nat.le_of_ble_eq_true rfl, Nat.le_of_ble_eq_true rfl⟩ (Nat.le_of_ble_eq_true rfl) dX4_init_1 ?_
  refine v_aload_n (pc := 4) X dX4_init_4 rfl 0 rfl ?_
  refine v_bipush (pc := 5) (v := nI 8) X dX4_init_5 rfl ?_
  refine v_newa (pc := 7) (atype := .int) (ty := .int) (N := 8) X 0 rfl (fun _ _ h => h) q176 rfl (8, .inl (fun _ => 0)) (fun _ => rfl) rfl (by decide) (by decide) ⟨Nat.le_of_ble_eq_true rfl, Nat.le_of_ble_eq_true rfl⟩ dX4_init_7 (fun q1 => ?_)
  refine v_perm (ws' := [(q1, .inl (dd 0, 8, .inl (fun _ => 0)))] ++ [(q, .inr (3, [.null, .null, .int 0]))]) List.perm_append_comm ?_
  refine v_eq (ws' := [(q1, .inl (dd 0, 8, .inl (fun _ => 0))), (q, .inr (3, [.null, .null, .int 0]))]) rfl rfl rfl ?_
  refine v_putF (pc := 9) X in_X4 tyX4 tyX4_ok nmX4 1 rfl rfl 0 (by decide) q247 (fun y h => h) rfl hnm rfl rfl rfl (Nat.le_of_ble_eq_true rfl) dX4_init_9 (ws' := [(q1, .inl (dd 0, 8, .inl (fun _ => 0))), (q, .inr (3, [.ref q1, .null, .int 0]))]) rfl ?_
  refine v_aload_n (pc := 12) X dX4_init_12 rfl 0 rfl ?_
  refine v_bipush (pc := 13) (v := nI 8) X dX4_init_13 rfl ?_
  refine v_newa (pc := 15) (atype := .int) (ty := .int) (N := 8) X 0 rfl (fun _ _ h => h) q176 rfl (8, .inl (fun _ => 0)) (fun _ => rfl) rfl (by decide) (by decide) ⟨Nat.le_of_ble_eq_true rfl, Nat.le_of_ble_eq_true rfl⟩ dX4_init_15 (fun q2 => ?_)
  refine v_perm (ws' := [(q2, .inl (dd 0, 8, .inl (fun _ => 0)))] ++ [(q1, .inl (dd 0, 8, .inl (fun _ => 0))), (q, .inr (3, [.ref q1, .null, .int 0]))]) List.perm_append_comm ?_
  refine v_eq (ws' := [(q2, .inl (dd 0, 8, .inl (fun _ => 0))), (q1, .inl (dd 0, 8, .inl (fun _ => 0))), (q, .inr (3, [.ref q1, .null, .int 0]))]) rfl rfl rfl ?_
  refine v_putF (pc := 17) X in_X4 tyX4 tyX4_ok nmX4 2 rfl rfl 1 (by decide) q249 (fun y h => h) rfl hnm rfl rfl rfl (Nat.le_of_ble_eq_true rfl) dX4_init_17 (ws' := [(q2, .inl (dd 0, 8, .inl (fun _ => 0))), (q1, .inl (dd 0, 8, .inl (fun _ => 0))), (q, .inr (3, [.ref q1, .ref q2, .int 0]))]) rfl ?_
  refine v_perm (ws' := [(q, .inr (3, [.ref q1, .ref q2, .int 0])), (q1, .inl (dd 0, 8, .inl (fun _ => 0))), (q2, .inl (dd 0, 8, .inl (fun _ => 0)))]) (((mv_perm 0 _).trans (mv_perm 1 _)).trans (mv_perm 2 _)) ?_
  refine v_widen (k := 2) (n := 16) (Nat.le_of_ble_eq_true rfl) (Nat.le_of_ble_eq_true rfl) ?_
  exact v_vret (pc := 20) X hr dX4_init_20 ⟨rfl, _, _, rfl⟩
theorem hdX4_isReady : yX4_isReady.cls = RX4 ∧ yX4_isReady.cls ≠ "java/lang/invoke/MethodHandle" ∧ yX4_isReady.cls ≠ "java/lang/invoke/VarHandle" ∧ (parseMethodDescriptor yX4_isReady.desc).map (fun d => d.parameters.length) = some 2 := by decide +kernel
set_option maxHeartbeats 4000000 in
theorem c_X4_isReady {l_ : Launch} {D : va_G} {dd : Nat → ClassId} {x da db m day : Nat} {la : Int32} {df : Nat → Int32} {dy : Nat → Nat} {o : Option Nat} {ws : va_W} (hd : (x, .inr (3, [.ref da, .ref db, .int la])) ∈ ws) (hda : (da, .inl (dd 0, 8, .inl df)) ∈ ws) (hdy : ∀ k, k < m → df k = nI (dy k) ∧ dy k ≤ 900) (hm : m ≤ 7) (hday : 1 ≤ day) (hd9 : day ≤ 900) (ho : ∀ j, o = some j → j < m) : MW l_ D dd yX4_isReady cX4_isReady 3 (some .boolean) 1 0 0 30 [.ref x, .int ((oI o)), .int (nI day)] (ws) (RI (fun r => bI (rdyO dy day o = true) = r) ws) := by
  have hob : ∀ j, o = some j → j < 1000 := fun j h => by have := ho j h; omega
  refine MW.intro (by decide) (Nat.le_of_ble_eq_true rfl) (fun p_ e_ s_ m_ as_ bl_ me_ c_ A_ X hr hnm => ?_)
  have X : VX p_ s_ m_ as_ me_ c_ cX4_isReady 3 RX4 D dd A_ := X
  refine v_eq (loc' := [(0, .ref x), (1, .int ((oI o))), (2, .int (nI day))]) rfl rfl rfl ?_
  refine v_iload_n (pc := 0) X dX4_isReady_0 rfl 1 rfl ?_
  refine v_iconst (pc := 1) (v := -1) X dX4_isReady_1 rfl ?_
  refine v_ic_eq (pc := 2) X 21 dX4_isReady_2 (by decide) (fun h2 => ?_) (fun h2 => ?_)
  · refine v_iconst (pc := 21) (v := nI 1) X dX4_isReady_21 rfl ?_
    refine v_goto (pc := 22) X 26 dX4_isReady_22 (by decide) ?_
    exact v_zret (pc := 26) X hr rfl dX4_isReady_26 ⟨⟨_, rfl, bI_t (by rw [(oI_n _ hob).mp h2]; rfl)⟩, rfl⟩
  · obtain ⟨j, hoj⟩ := oI_ne hob h2
    have hj := ho j hoj
    have hj2 := hdy j hj
    refine v_aload_n (pc := 5) X dX4_isReady_5 rfl 0 rfl ?_
    refine v_getM (pc := 6) X in_X4 hd rfl 0 (by decide) q247 (fun y h => h) rfl dX4_isReady_6 ?_
    refine v_iload_n (pc := 9) X dX4_isReady_9 rfl 1 rfl ?_
    refine v_top (y := (nI j)) (by rw [hoj]; rfl) ?_
    refine v_iaM (pc := 10) X hda rfl (by omega) (by decide) dX4_isReady_10 ?_
    refine v_top (y := (nI (dy j))) (hdy j hj).1 ?_
    refine v_iconst (pc := 11) (v := nI 1) X dX4_isReady_11 rfl ?_
    refine v_iload_n (pc := 12) X dX4_isReady_12 rfl 2 rfl ?_
    refine v_iconst (pc := 13) (v := nI 1) X dX4_isReady_13 rfl ?_
    refine v_isubN (pc := 14) X (by omega) dX4_isReady_14 ?_
    refine v_read (pc := 15) X ⟨_, List.Perm.refl _⟩ (r_SN X c_X1_in q1000 q91 q1528 q999 hdX1_in ⟨Nat.le_of_ble_eq_true rfl, Nat.le_of_ble_eq_true rfl⟩ rfl rfl (Nat.le_of_ble_eq_true rfl) dX4_isReady_15 ⟨Nat.le_of_ble_eq_true rfl, Nat.le_of_ble_eq_true rfl⟩) (fun r15 h15 => ?_)
    subst h15
    refine v_if_eqB (pc := 18) X 25 dX4_isReady_18 (by decide) (fun h18 => ?_) (fun h18 => ?_)
    · refine v_iconst (pc := 25) (v := nI 0) X dX4_isReady_25 rfl ?_
      exact v_zret (pc := 26) X hr rfl dX4_isReady_26 ⟨⟨_, rfl, bI_f (fun z => h18 ((inC (by omega) (by omega) (by omega)).mpr (by rw [hoj] at z; simp [rdyO] at z; omega)))⟩, rfl⟩
    · refine v_iconst (pc := 21) (v := nI 1) X dX4_isReady_21 rfl ?_
      refine v_goto (pc := 22) X 26 dX4_isReady_22 (by decide) ?_
      exact v_zret (pc := 26) X hr rfl dX4_isReady_26 ⟨⟨_, rfl, bI_t (by have := (inC (by omega) (by omega) (by omega)).mp h18; rw [hoj]; simp [rdyO]; omega)⟩, rfl⟩
theorem hdX4_next : yX4_next.cls = RX4 ∧ yX4_next.cls ≠ "java/lang/invoke/MethodHandle" ∧ yX4_next.cls ≠ "java/lang/invoke/VarHandle" ∧ (parseMethodDescriptor yX4_next.desc).map (fun d => d.parameters.length) = some 4 := by decide +kernel
set_option maxHeartbeats 4000000 in
theorem c_X4_next {l_ : Launch} {D : va_G} {dd : Nat → ClassId} {x da db m day s c0 sa ca pa n C np p : Nat} {la md : Int32} {df f : Nat → Int32} {dy sd : Nat → Nat} {T : Tr} {ws : va_W} (hd : (x, .inr (3, [.ref da, .ref db, .int la])) ∈ ws) (hda : (da, .inl (dd 0, 8, .inl df)) ∈ ws) (hdy : ∀ k, k < m → df k = nI (dy k) ∧ dy k ≤ 900) (hm : m ≤ 7) (hday : 1 ≤ day) (hd9 : day ≤ 900) (hc : (c0, .inr (1, [.ref sa, .int (nI n), .ref ca, .int (nI C), .ref pa, .int (nI np)])) ∈ ws) (hsa : (sa, .inl (dd 0, 9, .inl f)) ∈ ws) (hf : ∀ i, i < 9 → f i = nI (sd i)) (h50 : ∀ i, sd i ≤ 50) (hpl : PlanIs dd ws p T md) (hok : TrOk T) (hpw : PwL (plT T)) (hml : m = (plT T).length) (hs : s < 1000000) : MW l_ D dd yX4_next cX4_next 9 (some .int) 2 0 0 80 [.ref x, .ref c0, .ref p, .int (nI s), .int (nI day)] (ws) (RI (fun r => oI (nxt sd (plT T) dy day s (plT T).length) = r) ws) := by
  obtain ⟨ad, σ, hm, hT, h1, h7, hL, hK⟩ := hpl
  obtain ⟨hrow, hdp, hlv⟩ := id hok
  have hll := hok.len
  have hp0 : (p, .inr (10, [.ref (ad 0), .int (σ 99 1), .ref (ad 2), .ref (ad 3), .ref (ad 4), .ref (ad 5), .ref (ad 6), .int (σ 99 7)])) ∈ ws := hm _ (List.mem_of_getElem? (i := 0) rfl)
  have hv1000 : ∀ v ∈ lvs T, v < 1000 := fun v h => Nat.lt_trans (hlv v h) (by decide)
  have hp2 : (ad 2, .inl (dd 0, 8, .inl (σ 2))) ∈ ws := hm _ (List.mem_of_getElem? (i := 1) rfl)
  have hp3 : (ad 3, .inl (dd 0, 8, .inl (σ 3))) ∈ ws := hm _ (List.mem_of_getElem? (i := 2) rfl)
  have hp4 : (ad 4, .inl (dd 0, 8, .inl (σ 4))) ∈ ws := hm _ (List.mem_of_getElem? (i := 3) rfl)
  have hp5 : (ad 5, .inl (dd 0, 8, .inl (σ 5))) ∈ ws := hm _ (List.mem_of_getElem? (i := 4) rfl)
  have hp6 : (ad 6, .inl (dd 0, 8, .inl (σ 6))) ∈ ws := hm _ (List.mem_of_getElem? (i := 5) rfl)
  refine MW.intro (by decide) (Nat.le_of_ble_eq_true rfl) (fun p_ e_ s_ m_ as_ bl_ me_ c_ A_ X hr hnm => ?_)
  have X : VX p_ s_ m_ as_ me_ c_ cX4_next 9 RX4 D dd A_ := X
  refine v_eq (loc' := [(0, .ref x), (1, .ref c0), (2, .ref p), (3, .int (nI s)), (4, .int (nI day))]) rfl rfl rfl ?_
  refine v_iconst (pc := 0) (v := -1) X dX4_next_0 rfl ?_
  refine v_istore (pc := 1) (loc' := [(5, .int ((-1))), (0, .ref x), (1, .ref c0), (2, .ref p), (3, .int (nI s)), (4, .int (nI day))]) X dX4_next_1 (by decide) rfl ?_
  refine v_iconst (pc := 3) (v := nI 0) X dX4_next_3 rfl ?_
  refine v_istore (pc := 4) (loc' := [(6, .int (nI 0)), (5, .int ((-1))), (0, .ref x), (1, .ref c0), (2, .ref p), (3, .int (nI s)), (4, .int (nI day))]) X dX4_next_4 (by decide) rfl ?_
  refine v_sub [2, 3, 4, 5, 6, 1, 0] rfl ?_
  refine v_loop1 (S := Nat) (fun k => fl [ws]) (fun k => [(0, .ref x), (1, .ref c0), (2, .ref p), (3, .int (nI s)), (4, .int (nI day)), (5, .int ((oI (nxt sd (plT T) dy day s k)))), (6, .int (nI k))]) (fun k => k ≤ (plT T).length) (fun k => (plT T).length - k) (fun k hI6 ih6 => ?_) 0 (Nat.zero_le _)
  have hob : ∀ j, nxt sd (plT T) dy day s k = some j → j < 1000 := nxt_b (by omega)
  refine v_iload (pc := 6) X dX4_next_6 6 rfl ?_
  refine v_aload_n (pc := 8) X dX4_next_8 rfl 2 rfl ?_
  refine v_getN (pc := 9) X in_X12 hp0 rfl 7 (by decide) q1430 (fun y h => h) rfl dX4_next_9 ?_
  refine v_top (y := (nI ((plT T).length))) h7 ?_
  refine v_ic_geN (pc := 12) X (by omega) (by omega) 123 dX4_next_12 (by decide) (fun h12 => ?_) (fun h12 => ?_)
  · have hkl : k = (plT T).length := by omega
    subst hkl
    refine v_iload (pc := 123) X dX4_next_123 5 rfl ?_
    exact v_iret (pc := 125) X hr dX4_next_125 ⟨⟨_, rfl, rfl⟩, rfl⟩
  · obtain ⟨e, hke⟩ := get_lt (L := plT T) (k := k) (by omega)
    have hee := plT_bd T hlv e (List.mem_of_getElem? hke)
    have hcb := cst_b h50 (plT T) k
    obtain ⟨o1, o2, hkd, hk1, hk2⟩ := kd_ok (L := plT T) T 0 hrow (fun i e h => by rw [Nat.zero_add]; exact h) k e hke
    have hdk := hdy k (by omega)
    have ho1 : ∀ j, o1 = some j → j < m := fun j h => by subst h; have := hk1.lt; omega
    have ho2 : ∀ j, o2 = some j → j < m := fun j h => by subst h; have := hk2.lt; omega
    refine v_aload_n (pc := 15) X dX4_next_15 rfl 2 rfl ?_
    refine v_aload_n (pc := 16) X dX4_next_16 rfl 1 rfl ?_
    refine v_getN (pc := 17) X in_X2 hc rfl 0 (by decide) q148 (fun y h => h) rfl dX4_next_17 ?_
    refine v_iload (pc := 20) X dX4_next_20 6 rfl ?_
    refine v_read (pc := 22) X ⟨[], perm_nil _⟩ (r_V X (c_X12_cost hf hsa hp0 hp2 hp3 hp4 (by omega) (hL k e hke).1 (hL k e hke).2.1 (hL k e hke).2.2 (by omega) hee.2.1 hee.2.2) hp0 rfl rfl (lw_V q1523 q1484 q1485 q126 q1486) hdX12_cost ⟨Nat.le_of_ble_eq_true rfl, Nat.le_of_ble_eq_true rfl⟩ rfl rfl (Nat.le_of_ble_eq_true rfl) dX4_next_22 ⟨Nat.le_of_ble_eq_true rfl, Nat.le_of_ble_eq_true rfl⟩) (fun r22 h22 => ?_)
    subst h22
    refine v_top (y := (nI (costK sd (plT T) k))) (by unfold costK; rw [getD_of hke]) ?_
    refine v_istore (pc := 25) (loc' := [(7, .int (nI (costK sd (plT T) k))), (0, .ref x), (1, .ref c0), (2, .ref p), (3, .int (nI s)), (4, .int (nI day)), (5, .int ((oI (nxt sd (plT T) dy day s k)))), (6, .int (nI k))]) X dX4_next_25 (by decide) rfl ?_
    refine v_aload_n (pc := 27) X dX4_next_27 rfl 1 rfl ?_
    refine v_getM (pc := 28) X in_X4 hd rfl 0 (by decide) q247 (fun y h => h) rfl dX4_next_28 ?_
    refine v_iload (pc := 31) X dX4_next_31 7 rfl ?_
    refine v_iaM (pc := 33) X hda rfl (by omega) (by decide) dX4_next_33 ?_
    refine v_top (y := (nI (dy k))) hdk.1 ?_
    refine v_if_neN (pc := 34) X (by omega) 79 dX4_next_34 (by decide) (fun h34 => ?_) (fun h34 => ?_)
    · refine v_iconst (pc := 79) (v := nI 0) X dX4_next_79 rfl ?_
      refine v_istore (pc := 80) (loc' := [(8, .int (nI 0)), (7, .int (nI (costK sd (plT T) k))), (0, .ref x), (1, .ref c0), (2, .ref p), (3, .int (nI s)), (4, .int (nI day)), (5, .int ((oI (nxt sd (plT T) dy day s k)))), (6, .int (nI k))]) X dX4_next_80 (by decide) rfl ?_
      refine v_iload (pc := 82) X dX4_next_82 0 rfl ?_
      refine v_if_eqN (pc := 84) X (by omega) 113 dX4_next_84 (by decide) (fun h84 => ?_) (fun h84 => absurd rfl h84)
      refine v_iload (pc := 113) X dX4_next_113 7 rfl ?_
      refine v_top (y := ((oI (nxt sd (plT T) dy day s (k + 1))))) (nxt_n (fun z => h34 ((can_eq hpw hke hk1 hk2).mp z.1).1)) ?_
      refine v_istore (pc := 115) (loc' := [(5, .int ((oI (nxt sd (plT T) dy day s (k + 1))))), (8, .int (nI 0)), (7, .int (nI (costK sd (plT T) k))), (0, .ref x), (1, .ref c0), (2, .ref p), (3, .int (nI s)), (4, .int (nI day)), (6, .int (nI k))]) X dX4_next_115 (by decide) rfl ?_
      refine v_iinc (pc := 117) (v := (nI (k + 1))) (loc' := [(6, .int (nI (k + 1))), (5, .int ((oI (nxt sd (plT T) dy day s (k + 1))))), (8, .int (nI 0)), (7, .int (nI (costK sd (plT T) k))), (0, .ref x), (1, .ref c0), (2, .ref p), (3, .int (nI s)), (4, .int (nI day))]) X dX4_next_117 8 rfl (nI_add _ 1) (by decide) rfl ?_
      refine v_goto (pc := 120) X 6 dX4_next_120 (by decide) ?_
      refine v_sub [4, 5, 6, 7, 8, 1, 0] rfl ?_
      exact ih6 (k + 1) (by omega) (by omega)
    · refine v_aload_n (pc := 37) X dX4_next_37 rfl 1 rfl ?_
      refine v_aload_n (pc := 38) X dX4_next_38 rfl 3 rfl ?_
      refine v_getN (pc := 39) X in_X12 hp0 rfl 5 (by decide) q1426 (fun y h => h) rfl dX4_next_39 ?_
      refine v_iload (pc := 42) X dX4_next_42 7 rfl ?_
      refine v_iaM (pc := 44) X hp5 rfl (by omega) (by decide) dX4_next_44 ?_
      refine v_top (y := ((oI o1))) (hK k _ hkd).1 ?_
      refine v_iload (pc := 45) X dX4_next_45 5 rfl ?_
      refine v_read (pc := 47) X ⟨[], perm_nil _⟩ (r_V X (c_X4_isReady (o := o1) hd hda hdy (by omega) hday hd9 ho1) hd rfl rfl (lw_V q1524 q1526 qs28 q96 q1527) hdX4_isReady ⟨Nat.le_of_ble_eq_true rfl, Nat.le_of_ble_eq_true rfl⟩ rfl rfl (Nat.le_of_ble_eq_true rfl) dX4_next_47 ⟨Nat.le_of_ble_eq_true rfl, Nat.le_of_ble_eq_true rfl⟩) (fun r47 h47 => ?_)
      subst h47
      refine v_if_eqB (pc := 50) X 79 dX4_next_50 (by decide) (fun h50b => ?_) (fun h50b => ?_)
      · refine v_iconst (pc := 79) (v := nI 0) X dX4_next_79 rfl ?_
        refine v_istore (pc := 80) (loc' := [(8, .int (nI 0)), (7, .int (nI (costK sd (plT T) k))), (0, .ref x), (1, .ref c0), (2, .ref p), (3, .int (nI s)), (4, .int (nI day)), (5, .int ((oI (nxt sd (plT T) dy day s k)))), (6, .int (nI k))]) X dX4_next_80 (by decide) rfl ?_
        refine v_iload (pc := 82) X dX4_next_82 0 rfl ?_
        refine v_if_eqN (pc := 84) X (by omega) 113 dX4_next_84 (by decide) (fun h84 => ?_) (fun h84 => absurd rfl h84)
        refine v_iload (pc := 113) X dX4_next_113 7 rfl ?_
        refine v_top (y := ((oI (nxt sd (plT T) dy day s (k + 1))))) (nxt_n (fun z => h50b ((can_eq hpw hke hk1 hk2).mp z.1).2.1)) ?_
        refine v_istore (pc := 115) (loc' := [(5, .int ((oI (nxt sd (plT T) dy day s (k + 1))))), (8, .int (nI 0)), (7, .int (nI (costK sd (plT T) k))), (0, .ref x), (1, .ref c0), (2, .ref p), (3, .int (nI s)), (4, .int (nI day)), (6, .int (nI k))]) X dX4_next_115 (by decide) rfl ?_
        refine v_iinc (pc := 117) (v := (nI (k + 1))) (loc' := [(6, .int (nI (k + 1))), (5, .int ((oI (nxt sd (plT T) dy day s (k + 1))))), (8, .int (nI 0)), (7, .int (nI (costK sd (plT T) k))), (0, .ref x), (1, .ref c0), (2, .ref p), (3, .int (nI s)), (4, .int (nI day))]) X dX4_next_117 8 rfl (nI_add _ 1) (by decide) rfl ?_
        refine v_goto (pc := 120) X 6 dX4_next_120 (by decide) ?_
        refine v_sub [4, 5, 6, 7, 8, 1, 0] rfl ?_
        exact ih6 (k + 1) (by omega) (by omega)
      · refine v_aload_n (pc := 53) X dX4_next_53 rfl 1 rfl ?_
        refine v_aload_n (pc := 54) X dX4_next_54 rfl 3 rfl ?_
        refine v_getN (pc := 55) X in_X12 hp0 rfl 6 (by decide) q1428 (fun y h => h) rfl dX4_next_55 ?_
        refine v_iload (pc := 58) X dX4_next_58 7 rfl ?_
        refine v_iaM (pc := 60) X hp6 rfl (by omega) (by decide) dX4_next_60 ?_
        refine v_top (y := ((oI o2))) (hK k _ hkd).2 ?_
        refine v_iload (pc := 61) X dX4_next_61 5 rfl ?_
        refine v_read (pc := 63) X ⟨[], perm_nil _⟩ (r_V X (c_X4_isReady (o := o2) hd hda hdy (by omega) hday hd9 ho2) hd rfl rfl (lw_V q1524 q1526 qs28 q96 q1527) hdX4_isReady ⟨Nat.le_of_ble_eq_true rfl, Nat.le_of_ble_eq_true rfl⟩ rfl rfl (Nat.le_of_ble_eq_true rfl) dX4_next_63 ⟨Nat.le_of_ble_eq_true rfl, Nat.le_of_ble_eq_true rfl⟩) (fun r63 h63 => ?_)
        subst h63
        refine v_if_eqB (pc := 66) X 79 dX4_next_66 (by decide) (fun h66 => ?_) (fun h66 => ?_)
        · refine v_iconst (pc := 79) (v := nI 0) X dX4_next_79 rfl ?_
          refine v_istore (pc := 80) (loc' := [(8, .int (nI 0)), (7, .int (nI (costK sd (plT T) k))), (0, .ref x), (1, .ref c0), (2, .ref p), (3, .int (nI s)), (4, .int (nI day)), (5, .int ((oI (nxt sd (plT T) dy day s k)))), (6, .int (nI k))]) X dX4_next_80 (by decide) rfl ?_
          refine v_iload (pc := 82) X dX4_next_82 0 rfl ?_
          refine v_if_eqN (pc := 84) X (by omega) 113 dX4_next_84 (by decide) (fun h84 => ?_) (fun h84 => absurd rfl h84)
          refine v_iload (pc := 113) X dX4_next_113 7 rfl ?_
          refine v_top (y := ((oI (nxt sd (plT T) dy day s (k + 1))))) (nxt_n (fun z => h66 ((can_eq hpw hke hk1 hk2).mp z.1).2.2.1)) ?_
          refine v_istore (pc := 115) (loc' := [(5, .int ((oI (nxt sd (plT T) dy day s (k + 1))))), (8, .int (nI 0)), (7, .int (nI (costK sd (plT T) k))), (0, .ref x), (1, .ref c0), (2, .ref p), (3, .int (nI s)), (4, .int (nI day)), (6, .int (nI k))]) X dX4_next_115 (by decide) rfl ?_
          refine v_iinc (pc := 117) (v := (nI (k + 1))) (loc' := [(6, .int (nI (k + 1))), (5, .int ((oI (nxt sd (plT T) dy day s (k + 1))))), (8, .int (nI 0)), (7, .int (nI (costK sd (plT T) k))), (0, .ref x), (1, .ref c0), (2, .ref p), (3, .int (nI s)), (4, .int (nI day))]) X dX4_next_117 8 rfl (nI_add _ 1) (by decide) rfl ?_
          refine v_goto (pc := 120) X 6 dX4_next_120 (by decide) ?_
          refine v_sub [4, 5, 6, 7, 8, 1, 0] rfl ?_
          exact ih6 (k + 1) (by omega) (by omega)
        · refine v_iload (pc := 69) X dX4_next_69 0 rfl ?_
          refine v_iload_n (pc := 71) X dX4_next_71 rfl 4 rfl ?_
          refine v_ic_gtN (pc := 72) X (by omega) (by omega) 79 dX4_next_72 (by decide) (fun h72 => ?_) (fun h72 => ?_)
          · refine v_iconst (pc := 79) (v := nI 0) X dX4_next_79 rfl ?_
            refine v_istore (pc := 80) (loc' := [(8, .int (nI 0)), (7, .int (nI (costK sd (plT T) k))), (0, .ref x), (1, .ref c0), (2, .ref p), (3, .int (nI s)), (4, .int (nI day)), (5, .int ((oI (nxt sd (plT T) dy day s k)))), (6, .int (nI k))]) X dX4_next_80 (by decide) rfl ?_
            refine v_iload (pc := 82) X dX4_next_82 0 rfl ?_
            refine v_if_eqN (pc := 84) X (by omega) 113 dX4_next_84 (by decide) (fun h84 => ?_) (fun h84 => absurd rfl h84)
            refine v_iload (pc := 113) X dX4_next_113 7 rfl ?_
            refine v_top (y := ((oI (nxt sd (plT T) dy day s (k + 1))))) (nxt_n (fun z => absurd ((can_eq hpw hke hk1 hk2).mp z.1).2.2.2 (by omega))) ?_
            refine v_istore (pc := 115) (loc' := [(5, .int ((oI (nxt sd (plT T) dy day s (k + 1))))), (8, .int (nI 0)), (7, .int (nI (costK sd (plT T) k))), (0, .ref x), (1, .ref c0), (2, .ref p), (3, .int (nI s)), (4, .int (nI day)), (6, .int (nI k))]) X dX4_next_115 (by decide) rfl ?_
            refine v_iinc (pc := 117) (v := (nI (k + 1))) (loc' := [(6, .int (nI (k + 1))), (5, .int ((oI (nxt sd (plT T) dy day s (k + 1))))), (8, .int (nI 0)), (7, .int (nI (costK sd (plT T) k))), (0, .ref x), (1, .ref c0), (2, .ref p), (3, .int (nI s)), (4, .int (nI day))]) X dX4_next_117 8 rfl (nI_add _ 1) (by decide) rfl ?_
            refine v_goto (pc := 120) X 6 dX4_next_120 (by decide) ?_
            refine v_sub [4, 5, 6, 7, 8, 1, 0] rfl ?_
            exact ih6 (k + 1) (by omega) (by omega)
          · refine v_iconst (pc := 75) (v := nI 1) X dX4_next_75 rfl ?_
            refine v_goto (pc := 76) X 80 dX4_next_76 (by decide) ?_
            refine v_istore (pc := 80) (loc' := [(8, .int (nI 1)), (7, .int (nI (costK sd (plT T) k))), (0, .ref x), (1, .ref c0), (2, .ref p), (3, .int (nI s)), (4, .int (nI day)), (5, .int ((oI (nxt sd (plT T) dy day s k)))), (6, .int (nI k))]) X dX4_next_80 (by decide) rfl ?_
            refine v_iload (pc := 82) X dX4_next_82 0 rfl ?_
            refine v_if_eqN (pc := 84) X (by omega) 113 dX4_next_84 (by decide) (fun h84 => absurd h84 (by decide)) (fun h84 => ?_)
            refine v_iload (pc := 87) X dX4_next_87 7 rfl ?_
            refine v_iconst (pc := 89) (v := -1) X dX4_next_89 rfl ?_
            refine v_ic_eq (pc := 90) X 108 dX4_next_90 (by decide) (fun h90 => ?_) (fun h90 => ?_)
            · refine v_iload (pc := 108) X dX4_next_108 8 rfl ?_
              refine v_goto (pc := 110) X 115 dX4_next_110 (by decide) ?_
              refine v_top (y := ((oI (nxt sd (plT T) dy day s (k + 1))))) (nxt_s ((can_eq hpw hke hk1 hk2).mpr ⟨h34, h50b, h66, h72⟩) (by rw [(oI_n _ hob).mp h90]; rfl)) ?_
              refine v_istore (pc := 115) (loc' := [(5, .int ((oI (nxt sd (plT T) dy day s (k + 1))))), (8, .int (nI 1)), (7, .int (nI (costK sd (plT T) k))), (0, .ref x), (1, .ref c0), (2, .ref p), (3, .int (nI s)), (4, .int (nI day)), (6, .int (nI k))]) X dX4_next_115 (by decide) rfl ?_
              refine v_iinc (pc := 117) (v := (nI (k + 1))) (loc' := [(6, .int (nI (k + 1))), (5, .int ((oI (nxt sd (plT T) dy day s (k + 1))))), (8, .int (nI 1)), (7, .int (nI (costK sd (plT T) k))), (0, .ref x), (1, .ref c0), (2, .ref p), (3, .int (nI s)), (4, .int (nI day))]) X dX4_next_117 8 rfl (nI_add _ 1) (by decide) rfl ?_
              refine v_goto (pc := 120) X 6 dX4_next_120 (by decide) ?_
              refine v_sub [4, 5, 6, 7, 8, 1, 0] rfl ?_
              exact ih6 (k + 1) (by omega) (by omega)
            · obtain ⟨j, hoj⟩ := oI_ne hob h90
              have hjk := (nxt_lt hoj).1
              obtain ⟨e2, hke2⟩ := get_lt (L := plT T) (k := j) (by omega)
              have hee2 := plT_bd T hlv e2 (List.mem_of_getElem? hke2)
              have hcb2 := cst_b h50 (plT T) j
              refine v_iload (pc := 93) X dX4_next_93 1 rfl ?_
              refine v_aload_n (pc := 95) X dX4_next_95 rfl 4 rfl ?_
              refine v_aload_n (pc := 96) X dX4_next_96 rfl 3 rfl ?_
              refine v_getN (pc := 97) X in_X2 hc rfl 0 (by decide) q148 (fun y h => h) rfl dX4_next_97 ?_
              refine v_iload (pc := 100) X dX4_next_100 7 rfl ?_
              refine v_top (y := (nI j)) (by rw [hoj]; rfl) ?_
              refine v_read (pc := 102) X ⟨[], perm_nil _⟩ (r_V X (c_X12_cost hf hsa hp0 hp2 hp3 hp4 (by omega) (hL j e2 hke2).1 (hL j e2 hke2).2.1 (hL j e2 hke2).2.2 (by omega) hee2.2.1 hee2.2.2) hp0 rfl rfl (lw_V q1523 q1484 q1485 q126 q1486) hdX12_cost ⟨Nat.le_of_ble_eq_true rfl, Nat.le_of_ble_eq_true rfl⟩ rfl rfl (Nat.le_of_ble_eq_true rfl) dX4_next_102 ⟨Nat.le_of_ble_eq_true rfl, Nat.le_of_ble_eq_true rfl⟩) (fun r102 h102 => ?_)
              subst h102
              refine v_top (y := (nI (costK sd (plT T) j))) (by unfold costK; rw [getD_of hke2]) ?_
              refine v_ic_leN (pc := 105) X (by omega) (by omega) 113 dX4_next_105 (by decide) (fun h105 => ?_) (fun h105 => ?_)
              · refine v_iload (pc := 113) X dX4_next_113 7 rfl ?_
                refine v_top (y := ((oI (nxt sd (plT T) dy day s (k + 1))))) (nxt_n (fun z => by have := z.2; rw [hoj] at this; simp [betB] at this; omega)) ?_
                refine v_istore (pc := 115) (loc' := [(5, .int ((oI (nxt sd (plT T) dy day s (k + 1))))), (8, .int (nI 1)), (7, .int (nI (costK sd (plT T) k))), (0, .ref x), (1, .ref c0), (2, .ref p), (3, .int (nI s)), (4, .int (nI day)), (6, .int (nI k))]) X dX4_next_115 (by decide) rfl ?_
                refine v_iinc (pc := 117) (v := (nI (k + 1))) (loc' := [(6, .int (nI (k + 1))), (5, .int ((oI (nxt sd (plT T) dy day s (k + 1))))), (8, .int (nI 1)), (7, .int (nI (costK sd (plT T) k))), (0, .ref x), (1, .ref c0), (2, .ref p), (3, .int (nI s)), (4, .int (nI day))]) X dX4_next_117 8 rfl (nI_add _ 1) (by decide) rfl ?_
                refine v_goto (pc := 120) X 6 dX4_next_120 (by decide) ?_
                refine v_sub [4, 5, 6, 7, 8, 1, 0] rfl ?_
                exact ih6 (k + 1) (by omega) (by omega)
              · refine v_iload (pc := 108) X dX4_next_108 8 rfl ?_
                refine v_goto (pc := 110) X 115 dX4_next_110 (by decide) ?_
                refine v_top (y := ((oI (nxt sd (plT T) dy day s (k + 1))))) (nxt_s ((can_eq hpw hke hk1 hk2).mpr ⟨h34, h50b, h66, h72⟩) (by rw [hoj]; simp [betB]; omega)) ?_
                refine v_istore (pc := 115) (loc' := [(5, .int ((oI (nxt sd (plT T) dy day s (k + 1))))), (8, .int (nI 1)), (7, .int (nI (costK sd (plT T) k))), (0, .ref x), (1, .ref c0), (2, .ref p), (3, .int (nI s)), (4, .int (nI day)), (6, .int (nI k))]) X dX4_next_115 (by decide) rfl ?_
                refine v_iinc (pc := 117) (v := (nI (k + 1))) (loc' := [(6, .int (nI (k + 1))), (5, .int ((oI (nxt sd (plT T) dy day s (k + 1))))), (8, .int (nI 1)), (7, .int (nI (costK sd (plT T) k))), (0, .ref x), (1, .ref c0), (2, .ref p), (3, .int (nI s)), (4, .int (nI day))]) X dX4_next_117 8 rfl (nI_add _ 1) (by decide) rfl ?_
                refine v_goto (pc := 120) X 6 dX4_next_120 (by decide) ?_
                refine v_sub [4, 5, 6, 7, 8, 1, 0] rfl ?_
                exact ih6 (k + 1) (by omega) (by omega)

theorem hdX4_take : yX4_take.cls = RX4 ∧ yX4_take.cls ≠ "java/lang/invoke/MethodHandle" ∧ yX4_take.cls ≠ "java/lang/invoke/VarHandle" ∧ (parseMethodDescriptor yX4_take.desc).map (fun d => d.parameters.length) = some 2 := by decide +kernel
set_option maxHeartbeats 4000000 in
theorem c_X4_take {l_ : Launch} {D : va_G} {dd : Nat → ClassId} {x da db c0 sa ca pa n C np p : Nat} {l0 md : Int32} {f0 g0 f cf : Nat → Int32} {sd st : Nat → Nat} {T : Tr} {ws : va_W} (hc : (c0, .inr (1, [.ref sa, .int (nI n), .ref ca, .int (nI C), .ref pa, .int (nI np)])) ∈ ws) (hca : (ca, .inl (dd 0, 4, .inl cf)) ∈ ws) (hS : ∀ k, k < 4 → cf k = nI (st k) ∧ st k ≤ 99999) (hC : C ≤ 4) (hsa : (sa, .inl (dd 0, 9, .inl f)) ∈ ws) (hf : ∀ i, i < 9 → f i = nI (sd i)) (h50 : ∀ i, sd i ≤ 50) (hpl : PlanIs dd ws p T md) (hok : TrOk T) (hpw : PwL (plT T)) (hLO : LOk (plT T)) (hC0 : 0 < (plT T).length → 0 < C) (hst0 : ∀ k, k < (plT T).length → costK sd (plT T) k ≤ strM st C) : MW l_ D dd yX4_take cX4_take 7 none 3 0 0 112 [.ref x, .ref c0, .ref p] (fl [[(x, .inr (3, [.ref da, .ref db, .int l0]))], [(da, .inl (dd 0, 8, .inl f0))], [(db, .inl (dd 0, 8, .inl g0))], ws]) (fun r w => r = none ∧ ∃ f g, w = fl [[(x, .inr (3, [.ref da, .ref db, .int (nI ((sched sd (plT T) st C).1))]))], [(da, .inl (dd 0, 8, .inl f))], [(db, .inl (dd 0, 8, .inl g))], ws] ∧ DyC f g (sched sd (plT T) st C).2 (plT T).length) := by
  have hpl2 := hpl
  obtain ⟨ad, σ, hm, hT, h1, h7, hL, hK⟩ := hpl
  obtain ⟨hrow, hdp, hlv⟩ := id hok
  have hll := hok.len
  have hp0 : (p, .inr (10, [.ref (ad 0), .int (σ 99 1), .ref (ad 2), .ref (ad 3), .ref (ad 4), .ref (ad 5), .ref (ad 6), .int (σ 99 7)])) ∈ ws := hm _ (List.mem_of_getElem? (i := 0) rfl)
  have hv1000 : ∀ v ∈ lvs T, v < 1000 := fun v h => Nat.lt_trans (hlv v h) (by decide)
  have hp2 : (ad 2, .inl (dd 0, 8, .inl (σ 2))) ∈ ws := hm _ (List.mem_of_getElem? (i := 1) rfl)
  have hp3 : (ad 3, .inl (dd 0, 8, .inl (σ 3))) ∈ ws := hm _ (List.mem_of_getElem? (i := 2) rfl)
  have hp4 : (ad 4, .inl (dd 0, 8, .inl (σ 4))) ∈ ws := hm _ (List.mem_of_getElem? (i := 3) rfl)
  have hp5 : (ad 5, .inl (dd 0, 8, .inl (σ 5))) ∈ ws := hm _ (List.mem_of_getElem? (i := 4) rfl)
  have hp6 : (ad 6, .inl (dd 0, 8, .inl (σ 6))) ∈ ws := hm _ (List.mem_of_getElem? (i := 5) rfl)
  refine MW.intro (by decide) (Nat.le_of_ble_eq_true rfl) (fun p_ e_ s_ m_ as_ bl_ me_ c_ A_ X hr hnm => ?_)
  have X : VX p_ s_ m_ as_ me_ c_ cX4_take 7 RX4 D dd A_ := X
  refine v_eq (loc' := [(0, .ref x), (1, .ref c0), (2, .ref p)]) rfl rfl rfl ?_
  refine v_iconst (pc := 0) (v := nI 0) X dX4_take_0 rfl ?_
  refine v_istore_n (pc := 1) (loc' := [(3, .int (nI 0)), (0, .ref x), (1, .ref c0), (2, .ref p)]) X dX4_take_1 rfl (by decide) rfl ?_
  refine v_sub [1, 2, 3, 0] rfl ?_
  refine v_loop3 (S := Nat) (T := Nat → Int32) (Z := Nat → Int32) (fun k u v => fl [[(x, .inr (3, [.ref da, .ref db, .int l0]))], [(da, .inl (dd 0, 8, .inl u))], [(db, .inl (dd 0, 8, .inl v))], ws]) (fun k u v => [(0, .ref x), (1, .ref c0), (2, .ref p), (3, .int (nI k))]) (fun k u v => k ≤ 8 ∧ ∀ j, j < k → u j = nI 0) (fun k u v => 8 - k) (fun k u v hI2 ih2 => ?_) 0 f0 g0 ⟨Nat.zero_le _, fun j h => by omega⟩
  obtain ⟨hk1, hz⟩ := hI2
  refine v_iload_n (pc := 2) X dX4_take_2 rfl 3 rfl ?_
  refine v_bipush (pc := 3) (v := nI 8) X dX4_take_3 rfl ?_
  refine v_ic_geN (pc := 5) X (by omega) (by omega) 28 dX4_take_5 (by decide) (fun h5 => ?_) (fun h5 => ?_)
  · refine v_aload_n (pc := 28) X dX4_take_28 rfl 0 rfl ?_
    refine v_iconst (pc := 29) (v := nI 0) X dX4_take_29 rfl ?_
    refine v_put (pc := 30) X in_X4 tyX4 tyX4_ok nmX4 0 rfl rfl 2 (by decide) q251 (fun y h => h) rfl rfl rfl (Nat.le_of_ble_eq_true rfl) dX4_take_30 (ws' := fl [[(x, .inr (3, [.ref da, .ref db, .int (nI 0)]))], [(da, .inl (dd 0, 8, .inl u))], [(db, .inl (dd 0, 8, .inl v))], ws]) rfl ?_
    refine v_aload_n (pc := 33) X dX4_take_33 rfl 2 rfl ?_
    refine v_getN (pc := 34) X in_X12 (mem_fl 3 rfl hp0) rfl 7 (by decide) q1430 (fun y h => h) rfl dX4_take_34 ?_
    refine v_top (y := (nI ((plT T).length))) h7 ?_
    refine v_istore_n (pc := 37) (loc' := [(3, .int (nI ((plT T).length))), (0, .ref x), (1, .ref c0), (2, .ref p)]) X dX4_take_37 rfl (by decide) rfl ?_
    refine v_sub [1, 2, 3, 0] rfl ?_
    refine v_loop4 (S := Nat) (T := DS) (Z := Nat → Int32) (Y := Nat → Int32) (fun tt s u v => fl [[(x, .inr (3, [.ref da, .ref db, .int (nI tt)]))], [(da, .inl (dd 0, 8, .inl u))], [(db, .inl (dd 0, 8, .inl v))], ws]) (fun tt s u v => [(0, .ref x), (1, .ref c0), (2, .ref p), (3, .int (nI s.2.2))]) (fun tt s u v => DyC u v s (plT T).length ∧ DsOk (plT T) tt s ∧ tt + s.2.2 ≤ (plT T).length ∧ ∃ fu, s.2.2 ≤ fu ∧ runS sd (plT T) st C fu tt s = sched sd (plT T) st C) (fun tt s u v => s.2.2) (fun tt s u v hI38 ih38 => ?_) 0 (((fun _ => 0), (fun _ => 0), (plT T).length)) _ _ ⟨⟨fun k hk => hz k (by omega), fun k _ h => absurd rfl h⟩, ⟨fun k _ => Nat.le_refl _, by rw [cntB_all (fun k _ => by simp)]⟩, by show 0 + (plT T).length ≤ _; omega, _, Nat.le_refl _, by unfold sched; rfl⟩
    obtain ⟨hD2, hO2, hl2, fu, hfu, hrun⟩ := hI38
    refine v_iload_n (pc := 38) X dX4_take_38 rfl 3 rfl ?_
    refine v_if_leN (pc := 39) X (by omega) 129 dX4_take_39 (by decide) (fun h39 => ?_) (fun h39 => ?_)
    · exact v_vret (pc := 129) X hr dX4_take_129 (have hsc : sched sd (plT T) st C = (tt, s) := hrun.symm.trans (runS_0 (by omega) fu); ⟨rfl, _, _, by rw [hsc], by rw [hsc]; exact hD2⟩)
    · have hO2b : DsOk (plT T) (tt + 1) s := ⟨fun k hk => Nat.le_succ_of_le (hO2.1 k hk), hO2.2⟩
      have hCp : 0 < C := hC0 (by omega)
      obtain ⟨c1, ho1, hc1, -⟩ := ordC_ex (st := st) (C := C) (place := 0) hCp
      have hst1 : ∀ k, k < (plT T).length → costK sd (plT T) k ≤ st c1 := fun k hk => by have := hst0 k hk; unfold strM at this; rw [if_neg (by omega), ho1] at this; exact this
      have hpg := day_prog hLO hO2 hCp ho1 hst1 (by omega)
      refine v_aload_n (pc := 42) X dX4_take_42 rfl 0 rfl ?_
      refine v_dup (pc := 43) X dX4_take_43 rfl ?_
      refine v_getM (pc := 44) X in_X4 (mem_fl 0 rfl List.mem_cons_self) rfl 2 (by decide) q251 (fun y h => h) rfl dX4_take_44 ?_
      refine v_iconst (pc := 47) (v := nI 1) X dX4_take_47 rfl ?_
      refine v_iaddN (pc := 48) X dX4_take_48 ?_
      refine v_put (pc := 49) X in_X4 tyX4 tyX4_ok nmX4 0 rfl rfl 2 (by decide) q251 (fun y h => h) rfl rfl rfl (Nat.le_of_ble_eq_true rfl) dX4_take_49 (ws' := fl [[(x, .inr (3, [.ref da, .ref db, .int (nI (tt + 1))]))], [(da, .inl (dd 0, 8, .inl u))], [(db, .inl (dd 0, 8, .inl v))], ws]) rfl ?_
      refine v_iconst (pc := 52) (v := nI 0) X dX4_take_52 rfl ?_
      refine v_istore (pc := 53) (loc' := [(4, .int (nI 0)), (0, .ref x), (1, .ref c0), (2, .ref p), (3, .int (nI s.2.2))]) X dX4_take_53 (by decide) rfl ?_
      refine v_sub [1, 2, 3, 4, 0] rfl ?_
      refine v_loop3 (S := Nat) (T := Nat → Int32) (Z := Nat → Int32) (fun q u v => fl [[(x, .inr (3, [.ref da, .ref db, .int (nI (tt + 1))]))], [(da, .inl (dd 0, 8, .inl u))], [(db, .inl (dd 0, 8, .inl v))], ws]) (fun q u v => [(0, .ref x), (1, .ref c0), (2, .ref p), (3, .int (nI ((dayS sd (plT T) st C (tt + 1) s q).2.2))), (4, .int (nI q))]) (fun q u v => q ≤ C ∧ DyC u v (dayS sd (plT T) st C (tt + 1) s q) (plT T).length) (fun q u v => C - q) (fun q u v hI55 ih55 => ?_) 0 _ _ ⟨Nat.zero_le _, hD2⟩
      obtain ⟨hq1, hD3⟩ := hI55
      have hO3 := dayS_ok (sd := sd) (st := st) (C := C) (Nat.succ_pos tt) hO2b q
      refine v_iload (pc := 55) X dX4_take_55 4 rfl ?_
      refine v_aload_n (pc := 57) X dX4_take_57 rfl 1 rfl ?_
      refine v_getN (pc := 58) X in_X2 (mem_fl 3 rfl hc) rfl 3 (by decide) q157 (fun y h => h) rfl dX4_take_58 ?_
      refine v_ic_geN (pc := 61) X (by omega) (by omega) 126 dX4_take_61 (by decide) (fun h61 => ?_) (fun h61 => ?_)
      · have hqC : q = C := by omega
        have hpq : (dayS sd (plT T) st C (tt + 1) s q).2.2 < s.2.2 := by rw [hqC]; exact hpg
        refine v_goto (pc := 126) X 38 dX4_take_126 (by decide) ?_
        refine v_sub [0, 1, 2, 3] rfl ?_
        exact ih38 (tt + 1) (dayS sd (plT T) st C (tt + 1) s q) _ _ ⟨hD3, hO3.1, (by omega), fu - 1, (by omega), (by rw [← hrun, hqC]; exact runS_s (by omega) hfu)⟩ hpq
      · obtain ⟨c0_, ho0, hc0, -⟩ := ordC_ex (st := st) (C := C) (place := q) (by omega)
        have hds : dayS sd (plT T) st C (tt + 1) s (q + 1) = plcS sd (plT T) st (tt + 1) (dayS sd (plT T) st C (tt + 1) s q) c0_ := by show plcS _ _ _ _ _ ((ordC st C q).getD 0) = _; rw [ho0]; rfl
        have hb3 := (hS c0_ (by omega)).2
        generalize hse : dayS sd (plT T) st C (tt + 1) s q = s3 at *
        refine v_aload_n (pc := 64) X dX4_take_64 rfl 1 rfl ?_
        refine v_iload (pc := 65) X dX4_take_65 4 rfl ?_
        refine v_read (pc := 67) X ⟨[], perm_nil _⟩ (r_V X (c_X2_byStrength (q := q) (mem_fl 3 rfl hc) (mem_fl 3 rfl hca) hS hC (by omega)) (mem_fl 3 rfl hc) rfl rfl (lw_V q1518 q1511 q1512 q92 q1513) hdX2_byStrength ⟨Nat.le_of_ble_eq_true rfl, Nat.le_of_ble_eq_true rfl⟩ rfl rfl (Nat.le_of_ble_eq_true rfl) dX4_take_67 ⟨Nat.le_of_ble_eq_true rfl, Nat.le_of_ble_eq_true rfl⟩) (fun r67 h67 => ?_)
        subst h67
        refine v_top (y := nI c0_) (by rw [ho0]; rfl) ?_
        refine v_istore (pc := 70) (loc' := [(5, .int (nI c0_)), (0, .ref x), (1, .ref c0), (2, .ref p), (3, .int (nI s3.2.2)), (4, .int (nI q))]) X dX4_take_70 (by decide) rfl ?_
        refine v_aload_n (pc := 72) X dX4_take_72 rfl 1 rfl ?_
        refine v_aload_n (pc := 73) X dX4_take_73 rfl 2 rfl ?_
        refine v_aload_n (pc := 74) X dX4_take_74 rfl 3 rfl ?_
        refine v_aload_n (pc := 75) X dX4_take_75 rfl 2 rfl ?_
        refine v_getN (pc := 76) X in_X2 (mem_fl 3 rfl hc) rfl 2 (by decide) q154 (fun y h => h) rfl dX4_take_76 ?_
        refine v_iload (pc := 79) X dX4_take_79 0 rfl ?_
        refine v_iaM (pc := 81) X (mem_fl 3 rfl hca) rfl (by omega) (by decide) dX4_take_81 ?_
        refine v_top (y := (nI (st c0_))) (hS c0_ (by omega)).1 ?_
        refine v_aload_n (pc := 82) X dX4_take_82 rfl 1 rfl ?_
        refine v_getM (pc := 83) X in_X4 (mem_fl 0 rfl List.mem_cons_self) rfl 2 (by decide) q251 (fun y h => h) rfl dX4_take_83 ?_
        refine v_read (pc := 86) X ⟨[], perm_nil _⟩ (r_V X (c_X4_next (dy := s3.1) (day := tt + 1) (s := st c0_) (mem_fl 0 rfl List.mem_cons_self) (mem_fl 1 rfl List.mem_cons_self) (fun k hk => ⟨hD3.1 k hk, (by have := hO3.1.1 k hk; omega)⟩) hll.1 (by omega) (by omega) (mem_fl 3 rfl hc) (mem_fl 3 rfl hsa) hf h50 (hpl2.mono (fun q hq => mem_fl 3 rfl hq)) hok hpw rfl (by omega)) (mem_fl 0 rfl List.mem_cons_self) rfl rfl (lw_V q1519 q1521 qs27 q96 q1522) hdX4_next ⟨Nat.le_of_ble_eq_true rfl, Nat.le_of_ble_eq_true rfl⟩ rfl rfl (Nat.le_of_ble_eq_true rfl) dX4_take_86 ⟨Nat.le_of_ble_eq_true rfl, Nat.le_of_ble_eq_true rfl⟩) (fun r86 h86 => ?_)
        subst h86
        refine v_istore (pc := 89) (loc' := [(6, .int (oI (nxt sd (plT T) s3.1 (tt + 1) (st c0_) (plT T).length))), (5, .int (nI c0_)), (0, .ref x), (1, .ref c0), (2, .ref p), (3, .int (nI s3.2.2)), (4, .int (nI q))]) X dX4_take_89 (by decide) rfl ?_
        have hob2 : ∀ j, nxt sd (plT T) s3.1 (tt + 1) (st c0_) (plT T).length = some j → j < 1000 := nxt_b (by omega)
        refine v_iload (pc := 91) X dX4_take_91 0 rfl ?_
        refine v_iconst (pc := 93) (v := -1) X dX4_take_93 rfl ?_
        refine v_ic_eq (pc := 94) X 120 dX4_take_94 (by decide) (fun h94 => ?_) (fun h94 => ?_)
        · have hon := (oI_n _ hob2).mp h94
          have hE : s3.2.2 = (dayS sd (plT T) st C (tt + 1) s (q + 1)).2.2 := by rw [hds, plcS_n hon]
          have hD4 : DyC u v (plcS sd (plT T) st (tt + 1) s3 c0_) (plT T).length := by rw [plcS_n hon]; exact hD3
          refine v_eq (loc' := [(6, .int (oI (nxt sd (plT T) s3.1 (tt + 1) (st c0_) (plT T).length))), (5, .int (nI c0_)), (0, .ref x), (1, .ref c0), (2, .ref p), (3, .int (nI ((dayS sd (plT T) st C (tt + 1) s (q + 1)).2.2))), (4, .int (nI q))]) rfl (by rw [hE]) rfl ?_
          refine v_iinc (pc := 120) (v := (nI (q + 1))) (loc' := [(4, .int (nI (q + 1))), (6, .int (oI (nxt sd (plT T) s3.1 (tt + 1) (st c0_) (plT T).length))), (5, .int (nI c0_)), (0, .ref x), (1, .ref c0), (2, .ref p), (3, .int (nI ((dayS sd (plT T) st C (tt + 1) s (q + 1)).2.2)))]) X dX4_take_120 6 rfl (nI_add _ 1) (by decide) rfl ?_
          refine v_goto (pc := 123) X 55 dX4_take_123 (by decide) ?_
          refine v_sub [3, 4, 5, 6, 0] rfl ?_
          exact ih55 (q + 1) _ _ ⟨by omega, by rw [hds]; exact hD4⟩ (by omega)
        · have hob : ∀ j, nxt sd (plT T) s3.1 (tt + 1) (st c0_) (plT T).length = some j → j < 1000 := nxt_b (by omega)
          obtain ⟨j, hoj⟩ := oI_ne hob h94
          have hjk := (nxt_lt hoj).1
          have h1s : 1 ≤ s3.2.2 := by have := (plcS_ok (sd := sd) (st := st) (c := c0_) (Nat.succ_pos tt) hO3.1).2.2 (by rw [hoj]; simp); omega
          refine v_aload_n (pc := 97) X dX4_take_97 rfl 2 rfl ?_
          refine v_getM (pc := 98) X in_X4 (mem_fl 0 rfl List.mem_cons_self) rfl 0 (by decide) q247 (fun y h => h) rfl dX4_take_98 ?_
          refine v_iload (pc := 101) X dX4_take_101 0 rfl ?_
          refine v_top (y := (nI j)) (by rw [hoj]; rfl) ?_
          refine v_aload_n (pc := 103) X dX4_take_103 rfl 2 rfl ?_
          refine v_getM (pc := 104) X in_X4 (mem_fl 0 rfl List.mem_cons_self) rfl 2 (by decide) q251 (fun y h => h) rfl dX4_take_104 ?_
          refine v_iast (pc := 107) X 1 rfl rfl (by omega) (by decide) dX4_take_107 (ws' := fl [[(x, .inr (3, [.ref da, .ref db, .int (nI (tt + 1))]))], [(da, .inl (dd 0, 8, .inl (upd u j ((nI (tt + 1))))))], [(db, .inl (dd 0, 8, .inl v))], ws]) rfl ?_
          refine v_aload_n (pc := 108) X dX4_take_108 rfl 2 rfl ?_
          refine v_getM (pc := 109) X in_X4 (mem_fl 0 rfl List.mem_cons_self) rfl 1 (by decide) q249 (fun y h => h) rfl dX4_take_109 ?_
          refine v_iload (pc := 112) X dX4_take_112 0 rfl ?_
          refine v_top (y := (nI j)) (by rw [hoj]; rfl) ?_
          refine v_iload (pc := 114) X dX4_take_114 1 rfl ?_
          refine v_iast (pc := 116) X 2 rfl rfl (by omega) (by decide) dX4_take_116 (ws' := fl [[(x, .inr (3, [.ref da, .ref db, .int (nI (tt + 1))]))], [(da, .inl (dd 0, 8, .inl (upd u j ((nI (tt + 1))))))], [(db, .inl (dd 0, 8, .inl (upd v j ((nI c0_)))))], ws]) rfl ?_
          refine v_iinc (pc := 117) (v := (nI (s3.2.2 - 1))) (loc' := [(3, .int (nI (s3.2.2 - 1))), (6, .int (oI (nxt sd (plT T) s3.1 (tt + 1) (st c0_) (plT T).length))), (5, .int (nI c0_)), (0, .ref x), (1, .ref c0), (2, .ref p), (4, .int (nI q))]) X dX4_take_117 5 rfl (nI_dec (by omega)) (by decide) rfl ?_
          have hE : s3.2.2 - 1 = (dayS sd (plT T) st C (tt + 1) s (q + 1)).2.2 := by rw [hds, plcS_s hoj]
          have hD4 : DyC (upd u j (nI (tt + 1))) (upd v j (nI c0_)) (plcS sd (plT T) st (tt + 1) s3 c0_) (plT T).length := by rw [plcS_s hoj]; exact hD3.put
          refine v_eq (loc' := [(3, .int (nI ((dayS sd (plT T) st C (tt + 1) s (q + 1)).2.2))), (6, .int (oI (nxt sd (plT T) s3.1 (tt + 1) (st c0_) (plT T).length))), (5, .int (nI c0_)), (0, .ref x), (1, .ref c0), (2, .ref p), (4, .int (nI q))]) rfl (by rw [hE]) rfl ?_
          refine v_iinc (pc := 120) (v := (nI (q + 1))) (loc' := [(4, .int (nI (q + 1))), (3, .int (nI ((dayS sd (plT T) st C (tt + 1) s (q + 1)).2.2))), (6, .int (oI (nxt sd (plT T) s3.1 (tt + 1) (st c0_) (plT T).length))), (5, .int (nI c0_)), (0, .ref x), (1, .ref c0), (2, .ref p)]) X dX4_take_120 6 rfl (nI_add _ 1) (by decide) rfl ?_
          refine v_goto (pc := 123) X 55 dX4_take_123 (by decide) ?_
          refine v_sub [4, 5, 6, 1, 0] rfl ?_
          exact ih55 (q + 1) _ _ ⟨by omega, by rw [hds]; exact hD4⟩ (by omega)
  · refine v_aload_n (pc := 8) X dX4_take_8 rfl 0 rfl ?_
    refine v_getM (pc := 9) X in_X4 (mem_fl 0 rfl List.mem_cons_self) rfl 0 (by decide) q247 (fun y h => h) rfl dX4_take_9 ?_
    refine v_iload_n (pc := 12) X dX4_take_12 rfl 3 rfl ?_
    refine v_iconst (pc := 13) (v := nI 0) X dX4_take_13 rfl ?_
    refine v_iast (pc := 14) X 1 rfl rfl (by omega) (by decide) dX4_take_14 (ws' := fl [[(x, .inr (3, [.ref da, .ref db, .int l0]))], [(da, .inl (dd 0, 8, .inl (upd u k ((nI 0)))))], [(db, .inl (dd 0, 8, .inl v))], ws]) rfl ?_
    refine v_aload_n (pc := 15) X dX4_take_15 rfl 0 rfl ?_
    refine v_getM (pc := 16) X in_X4 (mem_fl 0 rfl List.mem_cons_self) rfl 1 (by decide) q249 (fun y h => h) rfl dX4_take_16 ?_
    refine v_iload_n (pc := 19) X dX4_take_19 rfl 3 rfl ?_
    refine v_iconst (pc := 20) (v := -1) X dX4_take_20 rfl ?_
    refine v_iast (pc := 21) X 2 rfl rfl (by omega) (by decide) dX4_take_21 (ws' := fl [[(x, .inr (3, [.ref da, .ref db, .int l0]))], [(da, .inl (dd 0, 8, .inl (upd u k ((nI 0)))))], [(db, .inl (dd 0, 8, .inl (upd v k (((-1))))))], ws]) rfl ?_
    refine v_iinc (pc := 22) (v := (nI (k + 1))) (loc' := [(3, .int (nI (k + 1))), (0, .ref x), (1, .ref c0), (2, .ref p)]) X dX4_take_22 3 rfl (nI_add _ 1) (by decide) rfl ?_
    refine v_goto (pc := 25) X 2 dX4_take_25 (by decide) ?_
    refine v_sub [1, 2, 3, 0] rfl ?_
    exact ih2 (k + 1) _ _ ⟨by omega, fun j hj => by (by_cases e : j = k); (subst e; exact upd_s _ _ _); (exact (upd_n e).trans (hz j (by omega)))⟩ (by omega)

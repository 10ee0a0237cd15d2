theorem od_side {b : Blk} {n : Nat} {v : Int32} (hn : nS b = n) (hv : nI 1 ≤ v ∧ v ≤ nI 50) : o_side b v = if n = 9 then (2, some (nI 1, nI 9), 0, b) else (0, none, nI n, upd (upd b (1 + n) v) 0 (nI (n + 1))) := by
  unfold o_side opSide; rw [hn, if_pos hv]
theorem od_set {b : Blk} {n p : Nat} {v : Int32} (hn : nS b = n) (hn9 : n ≤ 9) (hp : p < n) (hv : nI 1 ≤ v ∧ v ≤ nI 50) : o_set b (nI p) v = if b (1 + p) = v then (3, some (nI 3, v), 0, b) else (0, none, b (1 + p), upd b (1 + p) v) := by
  have hr : nI 0 ≤ nI p ∧ nI p ≤ nI n - nI 1 := by
    refine ⟨nI_ge0 (by omega), ?_⟩
    rw [Int32.le_iff_toInt_le, nI_toInt (by omega), subI (by omega)]; omega
  unfold o_set opSet; rw [hn, if_pos hr, if_pos hv, nI_clamp (by omega)]
theorem od_take {b : Blk} {n : Nat} (hn : nS b = n) : o_take b = if n = 0 then (1, some (nI 2, nI 0), 0, b) else (0, none, b n, upd (upd b 0 (nI (n - 1))) n 0) := by
  unfold o_take opTake; rw [hn]
theorem od_coop {b : Blk} {C : Nat} {v : Int32} (hC : nC b = C) (hv : nI 1 ≤ v ∧ v ≤ nI 99999) : o_coop b v = if C = 4 then (2, some (nI 1, nI 4), 0, b) else (0, none, nI C, upd (upd b (11 + C) v) 10 (nI (C + 1))) := by
  unfold o_coop opCoop; rw [hC, if_pos hv]
theorem od_plan {b : Blk} {n np u l : Nat} (hn : nS b = n) (hp : nP b = np) (hr : isRunP n (nI u) (nI l)) (hu : u < 1000) (hl : l < 1000) : o_plan b (nI u) (nI l) = if np = 4 then (2, some (nI 1, nI 4), 0, b) else (0, none, nI np, upd (Gp b (16 + 24 * np) u l (Dv (sdN b) u l).1 (pl (spD (sdN b)) u l) 0) 15 (nI (np + 1))) := by
  unfold o_plan opPlan; rw [hn, hp, if_pos hr, nI_clamp (by omega), nI_clamp (by omega)]
theorem fl_mrg7b (a b c d e f g : va_W) : fl [a, b, c, d, e, f, g] = fl [a, b, c, d, e, f ++ g] := by simp [fl_flat, List.append_assoc]
theorem hdX5_does : yX5_does.cls = RX5 ∧ yX5_does.cls ≠ "java/lang/invoke/MethodHandle" ∧ yX5_does.cls ≠ "java/lang/invoke/VarHandle" ∧ (parseMethodDescriptor yX5_does.desc).map (fun d => d.parameters.length) = some 3 := by decide +kernel
set_option maxHeartbeats 4000000 in
theorem c_X5_does {l_ : Launch} {D : va_G} {dd : Nat → ClassId} {x tb wa na p k i c sa n ca C pa np y : Nat} {s : RS} {wf : Nat → Option Nat} {nf : Nat → Int32} {ws : va_W} {o : Ord3} {b : Blk} {f cf : Nat → Int32} {pf : Nat → Option Nat} {ad : Nat → Nat} {σ : Tw} (hst : l_.stackTraces = false) (hx : (x, .inr (4, [.ref tb, .int (nI p), .int (nI k), .ref wa, .ref na, .int s.1, .int s.2.1, .int (nI s.2.2)])) ∈ ws) (hwa : (wa, .inl (dd 5, 60, .inr (.inr (.inr (.inr wf))))) ∈ ws) (hna : (na, .inl (dd 0, 120, .inl nf)) ∈ ws) (hO : OrdIs ws dd wf nf i o) (hok : OrdOk o) (hK : KT dd ws) (hi : i < 60) (hC0 : CelOk dd ws b n C np f cf pf) (hW : WFB b) (hrg : rgtB n o = true) : XW l_ D dd yX5_does (ws_ yX5_does cX5_does 8 (some .int)) 16 24 400 480 [.ref x, .ref c, .int (nI i), .ref y] (fl [[(c, .inr (1, [.ref sa, .int (nI n), .ref ca, .int (nI C), .ref pa, .int (nI np)]))], [(sa, .inl (dd 0, 9, .inl f))], [(ca, .inl (dd 0, 4, .inl cf))], [(pa, .inl (dd 4, 4, .inr (.inr (.inr (.inr pf)))))], kw y ad dd σ, ws]) (fun r w_ => (∃ v, r = some (.int v)) ∧ (opO b o).1 = 0 ∧ ∃ n2 C2 np2 f2 cf2 pf2 σ2 nw, w_ = fl [[(c, .inr (1, [.ref sa, .int (nI n2), .ref ca, .int (nI C2), .ref pa, .int (nI np2)]))], [(sa, .inl (dd 0, 9, .inl f2))], [(ca, .inl (dd 0, 4, .inl cf2))], [(pa, .inl (dd 4, 4, .inr (.inr (.inr (.inr pf2)))))], kw y ad dd σ2, nw, ws] ∧ CelOk dd (nw ++ ws) (opO b o).2.2.2 n2 C2 np2 f2 cf2 pf2) (fun z E w_ => E = "VatBrackets$Refused" ∧ ∃ fs e d, (opO b o).2.1 = some (e, d) ∧ ¬ (opO b o).1 = 0 ∧ w_ = (z, .inr (6, fs)) :: fl [[(c, .inr (1, [.ref sa, .int (nI n), .ref ca, .int (nI C), .ref pa, .int (nI np)]))], [(sa, .inl (dd 0, 9, .inl f))], [(ca, .inl (dd 0, 4, .inl cf))], [(pa, .inl (dd 4, 4, .inr (.inr (.inr (.inr pf)))))], kw y ad dd σ, ws] ∧ RfIs fs e d) := by
  obtain ⟨ka0, kh0, kz0, kf0, hk0, hkb0, hkT0⟩ := hK (100, [115, 105, 100, 101]) (List.mem_of_getElem? (i := 0) rfl)
  obtain ⟨ka1, kh1, kz1, kf1, hk1, hkb1, hkT1⟩ := hK (101, [115, 101, 116]) (List.mem_of_getElem? (i := 1) rfl)
  obtain ⟨ka2, kh2, kz2, kf2, hk2, hkb2, hkT2⟩ := hK (102, [116, 97, 107, 101]) (List.mem_of_getElem? (i := 2) rfl)
  obtain ⟨ka3, kh3, kz3, kf3, hk3, hkb3, hkT3⟩ := hK (103, [99, 111, 111, 112, 101, 114]) (List.mem_of_getElem? (i := 3) rfl)
  obtain ⟨ka4, kh4, kz4, kf4, hk4, hkb4, hkT4⟩ := hK (104, [112, 108, 97, 110]) (List.mem_of_getElem? (i := 4) rfl)
  obtain ⟨q, vq, g, hs, hz, hwq, hqm, hvm, hgT, hhs, hN1, hN2⟩ := hO
  obtain ⟨hnn, hnC, hnP⟩ := hC0.nums
  have hb9 := hC0.2.1.1
  have hb4 := hC0.2.1.2.1
  have hbp := hC0.2.1.2.2
  refine XW.intro (by decide) (Nat.le_of_ble_eq_true rfl) (fun p_ e_ s_ m_ as_ bl_ me_ c_ A_ X hr ht => ?_)
  have X : VX p_ s_ m_ as_ me_ c_ cX5_does 8 RX5 D dd A_ := X
  refine v_eq (loc' := [(0, .ref x), (1, .ref c), (2, .int (nI i)), (3, .ref y)]) rfl rfl rfl ?_
  refine v_aload_n (pc := 0) X dX5_does_0 rfl 0 rfl ?_
  refine v_iload_n (pc := 1) X dX5_does_1 rfl 2 rfl ?_
  refine v_iconst (pc := 2) (v := nI 0) X dX5_does_2 rfl ?_
  refine v_read (pc := 3) X ⟨[], perm_nil _⟩ (r_V X (c_X5_told (i := i) (w := 0) (mem_fl 5 rfl hx) (mem_fl 5 rfl hwa) (mem_fl 5 rfl hna) hi (by decide)) (mem_fl 5 rfl hx) rfl rfl (lw_V q1845 q1847 qs34 q101 q1848) hdX5_told ⟨by dsimp only; omega, by dsimp only; omega⟩ rfl rfl (Nat.le_of_ble_eq_true rfl) dX5_does_3 ⟨by dsimp only; omega, by dsimp only; omega⟩) (fun r3 h3 => ?_)
  subst h3
  refine v_istore (pc := 6) (loc' := [(4, .int (nf (2 * i + 0))), (0, .ref x), (1, .ref c), (2, .int (nI i)), (3, .ref y)]) X dX5_does_6 (by decide) rfl ?_
  refine v_aload_n (pc := 8) X dX5_does_8 rfl 1 rfl ?_
  refine v_iload_n (pc := 9) X dX5_does_9 rfl 3 rfl ?_
  refine v_iconst (pc := 10) (v := nI 1) X dX5_does_10 rfl ?_
  refine v_read (pc := 11) X ⟨[], perm_nil _⟩ (r_V X (c_X5_told (i := i) (w := 1) (mem_fl 5 rfl hx) (mem_fl 5 rfl hwa) (mem_fl 5 rfl hna) hi (by decide)) (mem_fl 5 rfl hx) rfl rfl (lw_V q1845 q1847 qs34 q101 q1848) hdX5_told ⟨by dsimp only; omega, by dsimp only; omega⟩ rfl rfl (Nat.le_of_ble_eq_true rfl) dX5_does_11 ⟨by dsimp only; omega, by dsimp only; omega⟩) (fun r11 h11 => ?_)
  subst h11
  refine v_istore (pc := 14) (loc' := [(5, .int (nf (2 * i + 1))), (4, .int (nf (2 * i + 0))), (0, .ref x), (1, .ref c), (2, .int (nI i)), (3, .ref y)]) X dX5_does_14 (by decide) rfl ?_
  refine v_aload_n (pc := 16) X dX5_does_16 rfl 2 rfl ?_
  refine v_getM (pc := 17) X in_X5 (mem_fl 5 rfl hx) rfl 3 (by decide) q305 (fun y h => h) rfl dX5_does_17 ?_
  refine v_iload_n (pc := 20) X dX5_does_20 rfl 4 rfl ?_
  refine v_aaldS (pc := 21) X 5 rfl (mem_fl 5 rfl hwa) rfl (by omega) (by decide) hwq dX5_does_21 ?_
  refine v_astore (pc := 22) (loc' := [(6, .ref q), (5, .int (nf (2 * i + 1))), (4, .int (nf (2 * i + 0))), (0, .ref x), (1, .ref c), (2, .int (nI i)), (3, .ref y)]) X dX5_does_22 (by decide) rfl ?_
  refine v_iconst (pc := 24) (v := -1) X dX5_does_24 rfl ?_
  refine v_istore (pc := 25) (loc' := [(7, .int ((-1))), (6, .ref q), (5, .int (nf (2 * i + 1))), (4, .int (nf (2 * i + 0))), (0, .ref x), (1, .ref c), (2, .int (nI i)), (3, .ref y)]) X dX5_does_25 (by decide) rfl ?_
  refine v_aload (pc := 27) X dX5_does_27 1 rfl ?_
  refine v_read (pc := 29) X ⟨[], perm_nil _⟩ (r_V X (c_J4_hashCode_1 (mem_fl 5 rfl hqm) (by rw [hhs]; exact hsh_nz hok)) (mem_fl 5 rfl hqm) rfl rfl (lw_V q1768 q1769 q1770 q99 q1771) hdJ4_hashCode ⟨by dsimp only; omega, by dsimp only; omega⟩ rfl rfl (Nat.le_of_ble_eq_true rfl) dX5_does_29 ⟨by dsimp only; omega, by dsimp only; omega⟩) (fun r29 h29 => ?_)
  subst h29
  rcases hok with ec | ec | ec | ec | ec
  · have ew : wcd o.1 = [99, 111, 111, 112, 101, 114] := by rw [ec]; rfl
    refine v_look (pc := 32) (off := 92) X 124 dX5_does_32 (by decide) (by rw [hhs, ew]; decide +kernel) (by decide) ?_
    refine v_aload (pc := 124) X dX5_does_124 1 rfl ?_
    refine v_ldcS (pc := 126) X (List.mem_of_getElem? (l := zT) (i := 3) rfl) dX5_does_126 ?_
    refine v_read (pc := 128) X ⟨[], perm_nil _⟩ (r_V X (c_J4_equals (u := [99, 111, 111, 112, 101, 114]) (mem_fl 5 rfl hqm) (mem_fl 5 rfl hvm) hgT (by rw [ew]; decide) (mem_fl 5 rfl hk3) (mem_fl 5 rfl hkb3) hkT3 (by decide)) (mem_fl 5 rfl hqm) rfl rfl (lw_V q1829 q1830 q1831 q99 q1832) hdJ4_equals ⟨by dsimp only; omega, by dsimp only; omega⟩ rfl rfl (Nat.le_of_ble_eq_true rfl) dX5_does_128 ⟨by dsimp only; omega, by dsimp only; omega⟩) (fun r128 h128 => ?_)
    subst h128
    refine v_if_eqB (pc := 131) X 137 dX5_does_131 (by decide) (fun h131 => absurd ew h131) (fun h131 => ?_)
    refine v_iconst (pc := 134) (v := nI 3) X dX5_does_134 rfl ?_
    refine v_istore (pc := 135) (loc' := [(7, .int (nI 3)), (6, .ref q), (5, .int (nf (2 * i + 1))), (4, .int (nf (2 * i + 0))), (0, .ref x), (1, .ref c), (2, .int (nI i)), (3, .ref y)]) X dX5_does_135 (by decide) rfl ?_
    refine v_iload (pc := 137) X dX5_does_137 0 rfl ?_
    refine v_tabIn (pc := 139) X 189 dX5_does_139 (by decide) (by decide) rfl (by decide) ?_
    have e1 : nf (2 * i + 0) = nI o.2.1 := hN1 (by rw [ec]; decide)
    have hr1 : nI 1 ≤ nf (2 * i + 0) ∧ nf (2 * i + 0) ≤ nI 99999 := by unfold rgtB at hrg; rw [if_neg (by omega), if_neg (by omega), if_neg (by omega), if_pos ec, ← e1] at hrg; exact of_decide_eq_true hrg
    refine v_aload_n (pc := 189) X dX5_does_189 rfl 5 rfl ?_
    refine v_iload (pc := 190) X dX5_does_190 3 rfl ?_
    refine v_frameX (pc := 192) X (wr := fl [[(sa, .inl (dd 0, 9, .inl f))], [(pa, .inl (dd 4, 4, .inr (.inr (.inr (.inr pf)))))], kw y ad dd σ, ws]) ((fl_perm ((mv_perm 2 _).trans (mv_perm 1 _))).trans (fl_split 2 _)) (x_V X (c_X2_cooper (v := nf (2 * i + 0)) hst hb4) (List.mem_of_getElem? (i := 0) rfl) rfl rfl (lw_V q1859 q1152 q1153 q92 q1154) hdX2_cooper ⟨by dsimp only; omega, by dsimp only; omega⟩ rfl rfl (Nat.le_of_ble_eq_true rfl) dX5_does_192 ⟨by dsimp only; omega, by dsimp only; omega⟩) (fun q192 E192 w192 x192 => ?_) (fun v192 w192 h192 => ?_)
    · obtain ⟨rfl, fs1, rfl, hf1, hx1⟩ := x192
      refine vt_eq (dd := dd) (ws' := fl [[(q192, .inr (6, fs1))], [(c, .inr (1, [.ref sa, .int (nI n), .ref ca, .int (nI C), .ref pa, .int (nI np)]))], [(ca, .inl (dd 0, 4, .inl cf))], [(sa, .inl (dd 0, 9, .inl f))], [(pa, .inl (dd 4, 4, .inr (.inr (.inr (.inr pf)))))], kw y ad dd σ, ws]) (by simp [fl_flat]) ?_
      refine vt_perm (ws' := fl [[(q192, .inr (6, fs1))], [(c, .inr (1, [.ref sa, .int (nI n), .ref ca, .int (nI C), .ref pa, .int (nI np)]))], [(sa, .inl (dd 0, 9, .inl f))], [(ca, .inl (dd 0, 4, .inl cf))], [(pa, .inl (dd 4, 4, .inr (.inr (.inr (.inr pf)))))], kw y ad dd σ, ws]) (fl_perm (((((((mv_perm 6 _).trans (mv_perm 6 _)).trans (mv_perm 6 _)).trans (mv_perm 5 _)).trans (mv_perm 6 _)).trans (mv_perm 6 _)).trans (mv_perm 6 _))) ?_
      exact vt_out X (fun z hz => (ht z hz).elim) (by omega) (by omega) ⟨rfl, fs1, _, _, by rw [opO_99 ec, ← e1, od_coop hnC hr1, if_pos hx1], by rw [opO_99 ec, ← e1, od_coop hnC hr1, if_pos hx1]; exact fun z => absurd z (Nat.succ_ne_zero _), rfl, hf1⟩
    · obtain ⟨rfl, hq1, rfl⟩ := h192
      refine v_flj (a := [[(c, .inr (1, [.ref sa, .int (nI n), .ref ca, .int (nI (C + 1)), .ref pa, .int (nI np)]))], [(ca, .inl (dd 0, 4, .inl (upd cf C (nf (2 * i + 0)))))]]) (b := [[(sa, .inl (dd 0, 9, .inl f))], [(pa, .inl (dd 4, 4, .inr (.inr (.inr (.inr pf)))))], kw y ad dd σ, ws]) ?_
      refine v_eq (ws' := fl [[(c, .inr (1, [.ref sa, .int (nI n), .ref ca, .int (nI (C + 1)), .ref pa, .int (nI np)]))], [(ca, .inl (dd 0, 4, .inl (upd cf C (nf (2 * i + 0)))))], [(sa, .inl (dd 0, 9, .inl f))], [(pa, .inl (dd 4, 4, .inr (.inr (.inr (.inr pf)))))], kw y ad dd σ, ws]) rfl rfl rfl ?_
      refine v_perm (ws' := fl [[(c, .inr (1, [.ref sa, .int (nI n), .ref ca, .int (nI (C + 1)), .ref pa, .int (nI np)]))], [(sa, .inl (dd 0, 9, .inl f))], [(ca, .inl (dd 0, 4, .inl (upd cf C (nf (2 * i + 0)))))], [(pa, .inl (dd 4, 4, .inr (.inr (.inr (.inr pf)))))], kw y ad dd σ, ws]) (fl_perm ((((((mv_perm 5 _).trans (mv_perm 5 _)).trans (mv_perm 5 _)).trans (mv_perm 4 _)).trans (mv_perm 5 _)).trans (mv_perm 5 _))) ?_
      refine v_eq (ws' := fl [[(c, .inr (1, [.ref sa, .int (nI n), .ref ca, .int (nI (C + 1)), .ref pa, .int (nI np)]))], [(sa, .inl (dd 0, 9, .inl f))], [(ca, .inl (dd 0, 4, .inl (upd cf C (nf (2 * i + 0)))))], [(pa, .inl (dd 4, 4, .inr (.inr (.inr (.inr pf)))))], kw y ad dd σ, [], ws]) rfl rfl rfl ?_
      refine v_widen (k := 24) (n := 400) (by omega) (by omega) ?_
      exact v_xr (v_iret (pc := 195) X hr dX5_does_195 (by rw [opO_99 ec, ← e1, od_coop hnC hr1, if_neg hq1]; exact ⟨⟨_, rfl⟩, rfl, _, _, _, _, _, _, _, _, rfl, (hC0.coop hq1 _)⟩))
  · have ew : wcd o.1 = [115, 101, 116] := by rw [ec]; rfl
    refine v_look (pc := 32) (off := 60) X 92 dX5_does_32 (by decide) (by rw [hhs, ew]; decide +kernel) (by decide) ?_
    refine v_aload (pc := 92) X dX5_does_92 1 rfl ?_
    refine v_ldcS (pc := 94) X (List.mem_of_getElem? (l := zT) (i := 1) rfl) dX5_does_94 ?_
    refine v_read (pc := 96) X ⟨[], perm_nil _⟩ (r_V X (c_J4_equals (u := [115, 101, 116]) (mem_fl 5 rfl hqm) (mem_fl 5 rfl hvm) hgT (by rw [ew]; decide) (mem_fl 5 rfl hk1) (mem_fl 5 rfl hkb1) hkT1 (by decide)) (mem_fl 5 rfl hqm) rfl rfl (lw_V q1829 q1830 q1831 q99 q1832) hdJ4_equals ⟨by dsimp only; omega, by dsimp only; omega⟩ rfl rfl (Nat.le_of_ble_eq_true rfl) dX5_does_96 ⟨by dsimp only; omega, by dsimp only; omega⟩) (fun r96 h96 => ?_)
    subst h96
    refine v_if_eqB (pc := 99) X 137 dX5_does_99 (by decide) (fun h99 => absurd ew h99) (fun h99 => ?_)
    refine v_iconst (pc := 102) (v := nI 1) X dX5_does_102 rfl ?_
    refine v_istore (pc := 103) (loc' := [(7, .int (nI 1)), (6, .ref q), (5, .int (nf (2 * i + 1))), (4, .int (nf (2 * i + 0))), (0, .ref x), (1, .ref c), (2, .int (nI i)), (3, .ref y)]) X dX5_does_103 (by decide) rfl ?_
    refine v_goto (pc := 105) X 137 dX5_does_105 (by decide) ?_
    refine v_iload (pc := 137) X dX5_does_137 0 rfl ?_
    refine v_tabIn (pc := 139) X 175 dX5_does_139 (by decide) (by decide) rfl (by decide) ?_
    have e1 : nf (2 * i + 0) = nI o.2.1 := hN1 (by rw [ec]; decide)
    have e2 : nf (2 * i + 1) = nI o.2.2 := hN2 (by rw [ec]; decide)
    have hr0 : (nI 0 ≤ nf (2 * i + 0) ∧ nf (2 * i + 0) ≤ nI n - nI 1) ∧ (nI 1 ≤ nf (2 * i + 1) ∧ nf (2 * i + 1) ≤ nI 50) := by unfold rgtB at hrg; rw [if_neg (by omega), if_pos ec, ← e1, ← e2] at hrg; exact of_decide_eq_true hrg
    have hr2 := hr0.2
    obtain ⟨i0, hi0, ei0⟩ := inN_of (by omega) hr0.1
    refine v_aload_n (pc := 175) X dX5_does_175 rfl 5 rfl ?_
    refine v_iload (pc := 176) X dX5_does_176 3 rfl ?_
    refine v_top (y := (nI i0)) ei0 ?_
    refine v_iload (pc := 178) X dX5_does_178 2 rfl ?_
    refine v_frameX (pc := 180) X (wr := fl [[(ca, .inl (dd 0, 4, .inl cf))], [(pa, .inl (dd 4, 4, .inr (.inr (.inr (.inr pf)))))], kw y ad dd σ, ws]) (fl_split 2 _) (x_V X (c_X2_set (p := i0) (v := nf (2 * i + 1)) hst (by omega)) (List.mem_of_getElem? (i := 0) rfl) rfl rfl (lw_V q1857 q1119 q1120 q92 q1121) hdX2_set ⟨by dsimp only; omega, by dsimp only; omega⟩ rfl rfl (Nat.le_of_ble_eq_true rfl) dX5_does_180 ⟨by dsimp only; omega, by dsimp only; omega⟩) (fun q180 E180 w180 x180 => ?_) (fun v180 w180 h180 => ?_)
    · obtain ⟨rfl, fs1, rfl, hf1, hx1⟩ := x180
      refine vt_eq (dd := dd) (ws' := fl [[(q180, .inr (6, fs1))], [(c, .inr (1, [.ref sa, .int (nI n), .ref ca, .int (nI C), .ref pa, .int (nI np)]))], [(sa, .inl (dd 0, 9, .inl f))], [(ca, .inl (dd 0, 4, .inl cf))], [(pa, .inl (dd 4, 4, .inr (.inr (.inr (.inr pf)))))], kw y ad dd σ, ws]) (by simp [fl_flat]) ?_
      exact vt_out X (fun z hz => (ht z hz).elim) (by omega) (by omega) ⟨rfl, fs1, _, _, by rw [opO_101 ec, ← e1, ei0, ← e2, od_set hnn hb9 hi0 hr2, if_pos (by rw [← hC0.2.2.1 i0 (by omega)]; exact hx1)], by rw [opO_101 ec, ← e1, ei0, ← e2, od_set hnn hb9 hi0 hr2, if_pos (by rw [← hC0.2.2.1 i0 (by omega)]; exact hx1)]; exact fun z => absurd z (Nat.succ_ne_zero _), rfl, hf1⟩
    · obtain ⟨rfl, hq1, rfl⟩ := h180
      refine v_flj (a := [[(c, .inr (1, [.ref sa, .int (nI n), .ref ca, .int (nI C), .ref pa, .int (nI np)]))], [(sa, .inl (dd 0, 9, .inl (upd f i0 (nf (2 * i + 1)))))]]) (b := [[(ca, .inl (dd 0, 4, .inl cf))], [(pa, .inl (dd 4, 4, .inr (.inr (.inr (.inr pf)))))], kw y ad dd σ, ws]) ?_
      refine v_eq (ws' := fl [[(c, .inr (1, [.ref sa, .int (nI n), .ref ca, .int (nI C), .ref pa, .int (nI np)]))], [(sa, .inl (dd 0, 9, .inl (upd f i0 (nf (2 * i + 1)))))], [(ca, .inl (dd 0, 4, .inl cf))], [(pa, .inl (dd 4, 4, .inr (.inr (.inr (.inr pf)))))], kw y ad dd σ, ws]) rfl rfl rfl ?_
      refine v_eq (ws' := fl [[(c, .inr (1, [.ref sa, .int (nI n), .ref ca, .int (nI C), .ref pa, .int (nI np)]))], [(sa, .inl (dd 0, 9, .inl (upd f i0 (nf (2 * i + 1)))))], [(ca, .inl (dd 0, 4, .inl cf))], [(pa, .inl (dd 4, 4, .inr (.inr (.inr (.inr pf)))))], kw y ad dd σ, [], ws]) rfl rfl rfl ?_
      refine v_widen (k := 24) (n := 400) (by omega) (by omega) ?_
      exact v_xr (v_iret (pc := 183) X hr dX5_does_183 (by rw [opO_101 ec, ← e1, ei0, ← e2, od_set hnn hb9 hi0 hr2, if_neg (fun z => hq1 ((hC0.2.2.1 i0 (by omega)).trans z))]; exact ⟨⟨_, rfl⟩, rfl, _, _, _, _, _, _, _, _, rfl, (hC0.set (by omega) _)⟩))
  · have ew : wcd o.1 = [112, 108, 97, 110] := by rw [ec]; rfl
    refine v_look (pc := 32) (off := 105) X 137 dX5_does_32 (by decide) (by rw [hhs, ew]; decide +kernel) (by decide) ?_
    refine v_iload (pc := 137) X dX5_does_137 0 rfl ?_
    refine v_tabOut (pc := 139) X 196 dX5_does_139 (Or.inl (by decide)) (by decide) ?_
    have e1 : nf (2 * i + 0) = nI o.2.1 := hN1 (by rw [ec]; decide)
    have e2 : nf (2 * i + 1) = nI o.2.2 := hN2 (by rw [ec]; decide)
    have hr0 : isRunP n (nf (2 * i + 0)) (nf (2 * i + 1)) := by unfold rgtB at hrg; rw [if_neg (by omega), if_neg (by omega), if_neg (by omega), if_neg (by omega), ← e1, ← e2] at hrg; exact of_decide_eq_true hrg
    obtain ⟨u, l, hul, hln, eu, el⟩ := isRun_of hb9 hr0
    have hrun : isRunP n (nI u) (nI l) := by rw [← eu, ← el]; exact hr0
    refine v_aload_n (pc := 196) X dX5_does_196 rfl 5 rfl ?_
    refine v_iload (pc := 197) X dX5_does_197 3 rfl ?_
    refine v_top (y := (nI u)) eu ?_
    refine v_iload (pc := 199) X dX5_does_199 2 rfl ?_
    refine v_top (y := (nI l)) el ?_
    refine v_aload_n (pc := 201) X dX5_does_201 rfl 7 rfl ?_
    refine v_frameX (pc := 202) X (wr := fl [[(ca, .inl (dd 0, 4, .inl cf))], ws]) ((fl_perm ((((mv_perm 4 _).trans (mv_perm 4 _)).trans (mv_perm 3 _)).trans (mv_perm 3 _))).trans (fl_split 4 _)) (x_V X (c_X2_plan (f := u) (l := l) hst hb9 hbp (hC0.sd hW) hW.2.2.2.1 hul hln) (List.mem_of_getElem? (i := 0) rfl) rfl rfl (lw_V q1860 q1376 q1377 q92 q1378) hdX2_plan ⟨by dsimp only; omega, by dsimp only; omega⟩ rfl rfl (Nat.le_of_ble_eq_true rfl) dX5_does_202 ⟨by dsimp only; omega, by dsimp only; omega⟩) (fun q202 E202 w202 x202 => ?_) (fun v202 w202 h202 => ?_)
    · obtain ⟨rfl, fs1, rfl, hf1, hx1⟩ := x202
      refine vt_eq (dd := dd) (xw_fl _ [[(c, .inr (1, [.ref sa, .int (nI n), .ref ca, .int (nI C), .ref pa, .int (nI np)]))], [(sa, .inl (dd 0, 9, .inl f))], [(pa, .inl (dd 4, 4, .inr (.inr (.inr (.inr pf)))))], kw y ad dd σ] [[(ca, .inl (dd 0, 4, .inl cf))], ws]) ?_
      refine vt_perm (ws' := fl [[(q202, .inr (6, fs1))], [(c, .inr (1, [.ref sa, .int (nI n), .ref ca, .int (nI C), .ref pa, .int (nI np)]))], [(sa, .inl (dd 0, 9, .inl f))], [(ca, .inl (dd 0, 4, .inl cf))], [(pa, .inl (dd 4, 4, .inr (.inr (.inr (.inr pf)))))], kw y ad dd σ, ws]) (fl_perm (((((((mv_perm 6 _).trans (mv_perm 5 _)).trans (mv_perm 5 _)).trans (mv_perm 6 _)).trans (mv_perm 6 _)).trans (mv_perm 6 _)).trans (mv_perm 6 _))) ?_
      exact vt_out X (fun z hz => (ht z hz).elim) (by omega) (by omega) ⟨rfl, fs1, _, _, by rw [opO_112 ec, ← e1, ← e2, eu, el, od_plan hnn hnP hrun (by omega) (by omega), if_pos hx1], by rw [opO_112 ec, ← e1, ← e2, eu, el, od_plan hnn hnP hrun (by omega) (by omega), if_pos hx1]; exact fun z => absurd z (Nat.succ_ne_zero _), rfl, hf1⟩
    · obtain ⟨rfl, hq1, p1, nw, σ1, rfl, hP1⟩ := h202
      refine v_flj (a := [[(c, .inr (1, [.ref sa, .int (nI n), .ref ca, .int (nI C), .ref pa, .int (nI (np + 1))]))], [(sa, .inl (dd 0, 9, .inl f))], [(pa, .inl (dd 4, 4, .inr (.inr (.inr (.inr (va_up pf np (some p1)))))))], kw y ad dd σ1, nw]) (b := [[(ca, .inl (dd 0, 4, .inl cf))], ws]) ?_
      refine v_eq (ws' := fl [[(c, .inr (1, [.ref sa, .int (nI n), .ref ca, .int (nI C), .ref pa, .int (nI (np + 1))]))], [(sa, .inl (dd 0, 9, .inl f))], [(pa, .inl (dd 4, 4, .inr (.inr (.inr (.inr (va_up pf np (some p1)))))))], kw y ad dd σ1, nw, [(ca, .inl (dd 0, 4, .inl cf))], ws]) rfl rfl rfl ?_
      refine v_perm (ws' := fl [[(c, .inr (1, [.ref sa, .int (nI n), .ref ca, .int (nI C), .ref pa, .int (nI (np + 1))]))], [(sa, .inl (dd 0, 9, .inl f))], [(ca, .inl (dd 0, 4, .inl cf))], [(pa, .inl (dd 4, 4, .inr (.inr (.inr (.inr (va_up pf np (some p1)))))))], kw y ad dd σ1, nw, ws]) (fl_perm (((((((mv_perm 6 _).trans (mv_perm 5 _)).trans (mv_perm 5 _)).trans (mv_perm 5 _)).trans (mv_perm 6 _)).trans (mv_perm 6 _)).trans (mv_perm 6 _))) ?_
      refine v_widen (k := 24) (n := 400) (by omega) (by omega) ?_
      exact v_xr (v_iret (pc := 205) X hr dX5_does_205 (by rw [opO_112 ec, ← e1, ← e2, eu, el, od_plan hnn hnP hrun (by omega) (by omega), if_neg hq1]; exact ⟨⟨_, rfl⟩, rfl, _, _, _, _, _, _, _, _, rfl, (hC0.plan hq1 hul (by omega) hP1 (fun z hz => List.mem_append_right _ hz) (fun z hz => List.mem_append_left _ hz))⟩))
  · have ew : wcd o.1 = [115, 105, 100, 101] := by rw [ec]; rfl
    refine v_look (pc := 32) (off := 44) X 76 dX5_does_32 (by decide) (by rw [hhs, ew]; decide +kernel) (by decide) ?_
    refine v_aload (pc := 76) X dX5_does_76 1 rfl ?_
    refine v_ldcS (pc := 78) X (List.mem_of_getElem? (l := zT) (i := 0) rfl) dX5_does_78 ?_
    refine v_read (pc := 80) X ⟨[], perm_nil _⟩ (r_V X (c_J4_equals (u := [115, 105, 100, 101]) (mem_fl 5 rfl hqm) (mem_fl 5 rfl hvm) hgT (by rw [ew]; decide) (mem_fl 5 rfl hk0) (mem_fl 5 rfl hkb0) hkT0 (by decide)) (mem_fl 5 rfl hqm) rfl rfl (lw_V q1829 q1830 q1831 q99 q1832) hdJ4_equals ⟨by dsimp only; omega, by dsimp only; omega⟩ rfl rfl (Nat.le_of_ble_eq_true rfl) dX5_does_80 ⟨by dsimp only; omega, by dsimp only; omega⟩) (fun r80 h80 => ?_)
    subst h80
    refine v_if_eqB (pc := 83) X 137 dX5_does_83 (by decide) (fun h83 => absurd ew h83) (fun h83 => ?_)
    refine v_iconst (pc := 86) (v := nI 0) X dX5_does_86 rfl ?_
    refine v_istore (pc := 87) (loc' := [(7, .int (nI 0)), (6, .ref q), (5, .int (nf (2 * i + 1))), (4, .int (nf (2 * i + 0))), (0, .ref x), (1, .ref c), (2, .int (nI i)), (3, .ref y)]) X dX5_does_87 (by decide) rfl ?_
    refine v_goto (pc := 89) X 137 dX5_does_89 (by decide) ?_
    refine v_iload (pc := 137) X dX5_does_137 0 rfl ?_
    refine v_tabIn (pc := 139) X 168 dX5_does_139 (by decide) (by decide) rfl (by decide) ?_
    have e1 : nf (2 * i + 0) = nI o.2.1 := hN1 (by rw [ec]; decide)
    have hr1 : nI 1 ≤ nf (2 * i + 0) ∧ nf (2 * i + 0) ≤ nI 50 := by unfold rgtB at hrg; rw [if_pos ec, ← e1] at hrg; exact of_decide_eq_true hrg
    refine v_aload_n (pc := 168) X dX5_does_168 rfl 5 rfl ?_
    refine v_iload (pc := 169) X dX5_does_169 3 rfl ?_
    refine v_frameX (pc := 171) X (wr := fl [[(ca, .inl (dd 0, 4, .inl cf))], [(pa, .inl (dd 4, 4, .inr (.inr (.inr (.inr pf)))))], kw y ad dd σ, ws]) (fl_split 2 _) (x_V X (c_X2_side (v := nf (2 * i + 0)) hst hb9) (List.mem_of_getElem? (i := 0) rfl) rfl rfl (lw_V q1856 q1020 q1021 q92 q1022) hdX2_side ⟨by dsimp only; omega, by dsimp only; omega⟩ rfl rfl (Nat.le_of_ble_eq_true rfl) dX5_does_171 ⟨by dsimp only; omega, by dsimp only; omega⟩) (fun q171 E171 w171 x171 => ?_) (fun v171 w171 h171 => ?_)
    · obtain ⟨rfl, fs1, rfl, hf1, hx1⟩ := x171
      refine vt_eq (dd := dd) (ws' := fl [[(q171, .inr (6, fs1))], [(c, .inr (1, [.ref sa, .int (nI n), .ref ca, .int (nI C), .ref pa, .int (nI np)]))], [(sa, .inl (dd 0, 9, .inl f))], [(ca, .inl (dd 0, 4, .inl cf))], [(pa, .inl (dd 4, 4, .inr (.inr (.inr (.inr pf)))))], kw y ad dd σ, ws]) (by simp [fl_flat]) ?_
      exact vt_out X (fun z hz => (ht z hz).elim) (by omega) (by omega) ⟨rfl, fs1, _, _, by rw [opO_115 ec, ← e1, od_side hnn hr1, if_pos hx1], by rw [opO_115 ec, ← e1, od_side hnn hr1, if_pos hx1]; exact fun z => absurd z (Nat.succ_ne_zero _), rfl, hf1⟩
    · obtain ⟨rfl, hq1, rfl⟩ := h171
      refine v_flj (a := [[(c, .inr (1, [.ref sa, .int (nI (n + 1)), .ref ca, .int (nI C), .ref pa, .int (nI np)]))], [(sa, .inl (dd 0, 9, .inl (upd f n (nf (2 * i + 0)))))]]) (b := [[(ca, .inl (dd 0, 4, .inl cf))], [(pa, .inl (dd 4, 4, .inr (.inr (.inr (.inr pf)))))], kw y ad dd σ, ws]) ?_
      refine v_eq (ws' := fl [[(c, .inr (1, [.ref sa, .int (nI (n + 1)), .ref ca, .int (nI C), .ref pa, .int (nI np)]))], [(sa, .inl (dd 0, 9, .inl (upd f n (nf (2 * i + 0)))))], [(ca, .inl (dd 0, 4, .inl cf))], [(pa, .inl (dd 4, 4, .inr (.inr (.inr (.inr pf)))))], kw y ad dd σ, ws]) rfl rfl rfl ?_
      refine v_eq (ws' := fl [[(c, .inr (1, [.ref sa, .int (nI (n + 1)), .ref ca, .int (nI C), .ref pa, .int (nI np)]))], [(sa, .inl (dd 0, 9, .inl (upd f n (nf (2 * i + 0)))))], [(ca, .inl (dd 0, 4, .inl cf))], [(pa, .inl (dd 4, 4, .inr (.inr (.inr (.inr pf)))))], kw y ad dd σ, [], ws]) rfl rfl rfl ?_
      refine v_widen (k := 24) (n := 400) (by omega) (by omega) ?_
      exact v_xr (v_iret (pc := 174) X hr dX5_does_174 (by rw [opO_115 ec, ← e1, od_side hnn hr1, if_neg hq1]; exact ⟨⟨_, rfl⟩, rfl, _, _, _, _, _, _, _, _, rfl, (hC0.side hq1 _)⟩))
  · have ew : wcd o.1 = [116, 97, 107, 101] := by rw [ec]; rfl
    refine v_look (pc := 32) (off := 76) X 108 dX5_does_32 (by decide) (by rw [hhs, ew]; decide +kernel) (by decide) ?_
    refine v_aload (pc := 108) X dX5_does_108 1 rfl ?_
    refine v_ldcS (pc := 110) X (List.mem_of_getElem? (l := zT) (i := 2) rfl) dX5_does_110 ?_
    refine v_read (pc := 112) X ⟨[], perm_nil _⟩ (r_V X (c_J4_equals (u := [116, 97, 107, 101]) (mem_fl 5 rfl hqm) (mem_fl 5 rfl hvm) hgT (by rw [ew]; decide) (mem_fl 5 rfl hk2) (mem_fl 5 rfl hkb2) hkT2 (by decide)) (mem_fl 5 rfl hqm) rfl rfl (lw_V q1829 q1830 q1831 q99 q1832) hdJ4_equals ⟨by dsimp only; omega, by dsimp only; omega⟩ rfl rfl (Nat.le_of_ble_eq_true rfl) dX5_does_112 ⟨by dsimp only; omega, by dsimp only; omega⟩) (fun r112 h112 => ?_)
    subst h112
    refine v_if_eqB (pc := 115) X 137 dX5_does_115 (by decide) (fun h115 => absurd ew h115) (fun h115 => ?_)
    refine v_iconst (pc := 118) (v := nI 2) X dX5_does_118 rfl ?_
    refine v_istore (pc := 119) (loc' := [(7, .int (nI 2)), (6, .ref q), (5, .int (nf (2 * i + 1))), (4, .int (nf (2 * i + 0))), (0, .ref x), (1, .ref c), (2, .int (nI i)), (3, .ref y)]) X dX5_does_119 (by decide) rfl ?_
    refine v_goto (pc := 121) X 137 dX5_does_121 (by decide) ?_
    refine v_iload (pc := 137) X dX5_does_137 0 rfl ?_
    refine v_tabIn (pc := 139) X 184 dX5_does_139 (by decide) (by decide) rfl (by decide) ?_
    refine v_aload_n (pc := 184) X dX5_does_184 rfl 5 rfl ?_
    refine v_frameX (pc := 185) X (wr := fl [[(ca, .inl (dd 0, 4, .inl cf))], [(pa, .inl (dd 4, 4, .inr (.inr (.inr (.inr pf)))))], kw y ad dd σ, ws]) (fl_split 2 _) (x_V X (c_X2_take_2 hst hb9) (List.mem_of_getElem? (i := 0) rfl) rfl rfl (lw_V q1858 q1130 q1131 q92 q1132) hdX2_take_2 ⟨by dsimp only; omega, by dsimp only; omega⟩ rfl rfl (Nat.le_of_ble_eq_true rfl) dX5_does_185 ⟨by dsimp only; omega, by dsimp only; omega⟩) (fun q185 E185 w185 x185 => ?_) (fun v185 w185 h185 => ?_)
    · obtain ⟨rfl, fs1, rfl, hf1, hx1⟩ := x185
      refine vt_eq (dd := dd) (ws' := fl [[(q185, .inr (6, fs1))], [(c, .inr (1, [.ref sa, .int (nI n), .ref ca, .int (nI C), .ref pa, .int (nI np)]))], [(sa, .inl (dd 0, 9, .inl f))], [(ca, .inl (dd 0, 4, .inl cf))], [(pa, .inl (dd 4, 4, .inr (.inr (.inr (.inr pf)))))], kw y ad dd σ, ws]) (by simp [fl_flat]) ?_
      exact vt_out X (fun z hz => (ht z hz).elim) (by omega) (by omega) ⟨rfl, fs1, _, _, by rw [opO_116 ec, od_take hnn, if_pos hx1], by rw [opO_116 ec, od_take hnn, if_pos hx1]; exact fun z => absurd z (Nat.succ_ne_zero _), rfl, hf1⟩
    · obtain ⟨rfl, hq1, rfl⟩ := h185
      refine v_flj (a := [[(c, .inr (1, [.ref sa, .int (nI (n - 1)), .ref ca, .int (nI C), .ref pa, .int (nI np)]))], [(sa, .inl (dd 0, 9, .inl (upd f (n - 1) (nI 0))))]]) (b := [[(ca, .inl (dd 0, 4, .inl cf))], [(pa, .inl (dd 4, 4, .inr (.inr (.inr (.inr pf)))))], kw y ad dd σ, ws]) ?_
      refine v_eq (ws' := fl [[(c, .inr (1, [.ref sa, .int (nI (n - 1)), .ref ca, .int (nI C), .ref pa, .int (nI np)]))], [(sa, .inl (dd 0, 9, .inl (upd f (n - 1) (nI 0))))], [(ca, .inl (dd 0, 4, .inl cf))], [(pa, .inl (dd 4, 4, .inr (.inr (.inr (.inr pf)))))], kw y ad dd σ, ws]) rfl rfl rfl ?_
      refine v_eq (ws' := fl [[(c, .inr (1, [.ref sa, .int (nI (n - 1)), .ref ca, .int (nI C), .ref pa, .int (nI np)]))], [(sa, .inl (dd 0, 9, .inl (upd f (n - 1) (nI 0))))], [(ca, .inl (dd 0, 4, .inl cf))], [(pa, .inl (dd 4, 4, .inr (.inr (.inr (.inr pf)))))], kw y ad dd σ, [], ws]) rfl rfl rfl ?_
      refine v_widen (k := 24) (n := 400) (by omega) (by omega) ?_
      exact v_xr (v_iret (pc := 188) X hr dX5_does_188 (by rw [opO_116 ec, od_take hnn, if_neg hq1]; exact ⟨⟨_, rfl⟩, rfl, _, _, _, _, _, _, _, _, rfl, (hC0.take hq1)⟩))

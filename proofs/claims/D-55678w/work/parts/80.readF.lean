theorem fl_p3 (a b c : va_W) (q : Nat × va_E) : ((q :: fl [a, c]) ++ fl [b]).Perm (q :: fl [a, b, c]) := by
  show ((q :: (a ++ c)) ++ b).Perm (q :: (a ++ (b ++ c)))
  rw [List.cons_append, List.append_assoc]
  exact List.Perm.cons _ (List.Perm.append_left _ List.perm_append_comm)
theorem nF_1 {t : List Nat} {m p : Nat} (h : ¬ t[p]? = some 32) : numF t m (p, false) = ((p, true), 0) := by simp [numF, needF, h]
theorem nF_2 {t : List Nat} {m p : Nat} (h : t[p]? = some 32) (h2 : ¬ digF t (p + 1) = true) : numF t m (p, false) = ((p + 1, true), 0) := by simp [numF, needF, h, h2]
theorem nF_3 {t : List Nat} {m p : Nat} (h : t[p]? = some 32) (h2 : digF t (p + 1) = true) : numF t m (p, false) = (((numL t m (p + 1) 0).1, false), (numL t m (p + 1) 0).2) := by simp [numF, needF, h, h2]
theorem nL_0 {t : List Nat} {p v : Nat} : numL t 0 p v = (p, v) := rfl
theorem nL_s {t : List Nat} {m p v c : Nat} (h : digF t p = true) (hc : t[p]? = some c) : numL t (m + 1) p v = numL t m (p + 1) (10 * v + c - 48) := by
  rw [numL, if_pos h, getD_g hc]
  congr 1
  unfold digF at h
  rw [hc] at h
  simp at h
  omega
theorem nL_n {t : List Nat} {m p v : Nat} (h : ¬ digF t p = true) : numL t (m + 1) p v = (p, v) := by rw [numL, if_neg h]
theorem hdX5_number : yX5_number.cls = RX5 ∧ yX5_number.cls ≠ "java/lang/invoke/MethodHandle" ∧ yX5_number.cls ≠ "java/lang/invoke/VarHandle" ∧ (parseMethodDescriptor yX5_number.desc).map (fun d => d.parameters.length) = some 2 := by decide +kernel
set_option maxHeartbeats 4000000 in
theorem c_X5_number {l_ : Launch} {D : va_G} {dd : Nat → ClassId} {x tb wa na va n co p k wh dg : Nat} {ml : Int32} {s : RS} {f nf : Nat → Int32} {t : List Nat} {ws : va_W} (hst : l_.stackTraces = false) (htb : (tb, .inr (12, [.ref va, .int (nI co), .int ml, .int (nI t.length)])) ∈ ws) (hva : (va, .inl (dd 2, n, .inl f)) ∈ ws) (hS : SbI co n f t) (h60 : t.length ≤ 60) (hp : p ≤ t.length) (hk : k < 60) (hw : wh ≤ 1) (hd1 : 1 ≤ dg) (hd5 : dg ≤ 5) : XW l_ D dd yX5_number (ws_ yX5_number cX5_number 5 none) 9 2 20 270 [.ref x, .int (nI wh), .int (nI dg)] (fl [[(x, .inr (4, [.ref tb, .int (nI p), .int (nI k), .ref wa, .ref na, .int s.1, .int s.2.1, .int (nI s.2.2)]))], [(na, .inl (dd 0, 120, .inl nf))], ws]) (fun r w => r = none ∧ (numF t dg (p, false)).1.2 = false ∧ w = fl [[(x, .inr (4, [.ref tb, .int (nI ((numF t dg (p, false)).1.1)), .int (nI k), .ref wa, .ref na, .int s.1, .int s.2.1, .int (nI s.2.2)]))], [(na, .inl (dd 0, 120, .inl ((upd nf (2 * k + wh) (nI (numF t dg (p, false)).2)))))], ws]) (fun z E w => E = "VatBrackets$Fault" ∧ ∃ fs, (numF t dg (p, false)).1.2 = true ∧ w = (z, .inr (7, fs)) :: fl [[(x, .inr (4, [.ref tb, .int (nI ((numF t dg (p, false)).1.1)), .int (nI k), .ref wa, .ref na, .int s.1, .int s.2.1, .int (nI s.2.2)]))], [(na, .inl (dd 0, 120, .inl nf))], ws] ∧ FaIs fs (nI (numF t dg (p, false)).1.1)) := by
  have ht6 : ∀ c ∈ t, c < 65536 := fun c hc => by obtain ⟨i, hi⟩ := List.getElem?_of_mem hc; exact hS.1.lt hi
  refine XW.intro (by decide) (Nat.le_of_ble_eq_true rfl) (fun p_ e_ s_ m_ as_ bl_ me_ c_ A_ X hr ht => ?_)
  have X : VX p_ s_ m_ as_ me_ c_ cX5_number 5 RX5 D dd A_ := X
  refine v_eq (loc' := [(0, .ref x), (1, .int (nI wh)), (2, .int (nI dg))]) rfl rfl rfl ?_
  refine v_aload_n (pc := 0) X dX5_number_0 rfl 0 rfl ?_
  refine v_bipush (pc := 1) (v := nI 32) X dX5_number_1 rfl ?_
  refine v_frameX (pc := 3) X (wr := fl [[(na, .inl (dd 0, 120, .inl nf))]]) ((fl_perm ((mv_perm 2 _).trans (mv_perm 1 _))).trans (fl_split 2 _)) (x_V X (c_X5_must (s := s) (c := 32) (mn := nI k) hst htb hva hS h60 hp (by decide)) (List.mem_of_getElem? (i := 0) rfl) rfl rfl (lw_V q1289 q1291 qs20 q101 q1292) hdX5_must ⟨Nat.le_of_ble_eq_true rfl, Nat.le_of_ble_eq_true rfl⟩ rfl rfl (Nat.le_of_ble_eq_true rfl) dX5_number_3 ⟨Nat.le_of_ble_eq_true rfl, Nat.le_of_ble_eq_true rfl⟩) (fun q3 E3 w3 x3 => ?_) (fun v3 w3 h3 => ?_)
  · obtain ⟨rfl, fs1, rfl, hf1, hn1⟩ := x3
    have eN := nF_1 (m := dg) hn1
    refine vt_perm (ws' := (q3, .inr (7, fs1)) :: fl [[(x, .inr (4, [.ref tb, .int (nI p), .int (nI k), .ref wa, .ref na, .int s.1, .int s.2.1, .int (nI s.2.2)]))], [(na, .inl (dd 0, 120, .inl nf))], ws]) (fl_p3 _ _ _ _) ?_
    exact vt_out X (fun z hz => (ht z hz).elim) (Nat.le_of_ble_eq_true rfl) (Nat.le_of_ble_eq_true rfl) (by rw [eN]; exact ⟨rfl, fs1, rfl, rfl, hf1⟩)
  · obtain ⟨rfl, h32, rfl⟩ := h3
    refine v_flj (a := [[(x, .inr (4, [.ref tb, .int (nI ((p + 1))), .int (nI k), .ref wa, .ref na, .int s.1, .int s.2.1, .int (nI s.2.2)]))], ws]) (b := [[(na, .inl (dd 0, 120, .inl nf))]]) ?_
    refine v_eq (ws' := fl [[(x, .inr (4, [.ref tb, .int (nI ((p + 1))), .int (nI k), .ref wa, .ref na, .int s.1, .int s.2.1, .int (nI s.2.2)]))], ws, [(na, .inl (dd 0, 120, .inl nf))]]) rfl rfl rfl ?_
    have hpl := (List.getElem?_eq_some_iff.mp h32).1
    refine v_iconst (pc := 6) (v := nI 0) X dX5_number_6 rfl ?_
    refine v_istore_n (pc := 7) (loc' := [(3, .int (nI 0)), (0, .ref x), (1, .int (nI wh)), (2, .int (nI dg))]) X dX5_number_7 rfl (by decide) rfl ?_
    refine v_iconst (pc := 8) (v := nI 0) X dX5_number_8 rfl ?_
    refine v_istore (pc := 9) (loc' := [(4, .int (nI 0)), (3, .int (nI 0)), (0, .ref x), (1, .int (nI wh)), (2, .int (nI dg))]) X dX5_number_9 (by decide) rfl ?_
    refine v_sub [2, 3, 4, 1, 0] rfl ?_
    refine v_perm (ws' := fl [[(x, .inr (4, [.ref tb, .int (nI ((p + 1))), .int (nI k), .ref wa, .ref na, .int s.1, .int s.2.1, .int (nI s.2.2)]))], [(na, .inl (dd 0, 120, .inl nf))], ws]) (fl_perm (((mv_perm 1 _).trans (mv_perm 2 _)).trans (mv_perm 2 _))) ?_
    refine v_loop2 (S := Nat) (T := Nat) (fun i v => fl [[(x, .inr (4, [.ref tb, .int (nI ((p + 1 + i))), .int (nI k), .ref wa, .ref na, .int s.1, .int s.2.1, .int (nI s.2.2)]))], [(na, .inl (dd 0, 120, .inl nf))], ws]) (fun i v => [(0, .ref x), (1, .int (nI wh)), (2, .int (nI dg)), (3, .int (nI v)), (4, .int (nI i))]) (fun i v => i ≤ dg ∧ p + 1 + i ≤ t.length ∧ v < 10 ^ i ∧ (0 < i → digF t (p + 1) = true) ∧ numL t (dg - i) (p + 1 + i) v = numL t dg (p + 1) 0) (fun i v => dg - i) (fun i v hI11 ih11 => ?_) 0 0 ⟨Nat.zero_le _, by omega, by decide, fun z => absurd z (by decide), rfl⟩
    obtain ⟨hi1, hi2, hv, hdi, hN⟩ := hI11
    have h10 : 10 ^ i ≤ 10 ^ 5 := Nat.pow_le_pow_right (by decide) (by omega)
    have h10s : 10 ^ (i + 1) = 10 ^ i * 10 := Nat.pow_succ 10 i
    have h105 : 10 ^ 5 = 100000 := by decide
    refine v_iload (pc := 11) X dX5_number_11 4 rfl ?_
    refine v_iload_n (pc := 13) X dX5_number_13 rfl 2 rfl ?_
    refine v_ic_geN (pc := 14) X (by omega) (by omega) 67 dX5_number_14 (by decide) (fun h14 => ?_) (fun h14 => ?_)
    · refine v_iload (pc := 67) X dX5_number_67 4 rfl ?_
      refine v_if_neN (pc := 69) X (by omega) 84 dX5_number_69 (by decide) (fun h69 => ?_) (fun h69 => absurd h69 (by omega))
      refine v_aload_n (pc := 84) X dX5_number_84 rfl 0 rfl ?_
      refine v_getM (pc := 85) X in_X5 (mem_fl 0 rfl List.mem_cons_self) rfl 4 (by decide) q306 (fun y h => h) rfl dX5_number_85 ?_
      refine v_iconst (pc := 88) (v := nI 2) X dX5_number_88 rfl ?_
      refine v_aload_n (pc := 89) X dX5_number_89 rfl 0 rfl ?_
      refine v_getM (pc := 90) X in_X5 (mem_fl 0 rfl List.mem_cons_self) rfl 2 (by decide) q303 (fun y h => h) rfl dX5_number_90 ?_
      refine v_imulN (pc := 93) X dX5_number_93 ?_
      refine v_iload_n (pc := 94) X dX5_number_94 rfl 1 rfl ?_
      refine v_iaddN (pc := 95) X dX5_number_95 ?_
      refine v_iload_n (pc := 96) X dX5_number_96 rfl 3 rfl ?_
      refine v_iast (pc := 97) X 1 rfl rfl (by omega) (by decide) dX5_number_97 (ws' := fl [[(x, .inr (4, [.ref tb, .int (nI ((p + 1 + i))), .int (nI k), .ref wa, .ref na, .int s.1, .int s.2.1, .int (nI s.2.2)]))], [(na, .inl (dd 0, 120, .inl (upd nf ((2 * k) + wh) ((nI v)))))], ws]) rfl ?_
      refine v_widen (k := 2) (n := 20) (Nat.le_of_ble_eq_true rfl) (Nat.le_of_ble_eq_true rfl) ?_
      exact v_xr (v_vret (pc := 98) X hr dX5_number_98 (by have e := hN; rw [show dg - i = 0 by omega, nL_0] at e; rw [nF_3 h32 (hdi (by omega)), ← e]; exact ⟨rfl, rfl, rfl⟩))
    · refine v_aload_n (pc := 17) X dX5_number_17 rfl 0 rfl ?_
      refine v_read (pc := 18) X ⟨[], perm_nil _⟩ (r_V X (c_X5_here (s := s) (mem_fl 0 rfl List.mem_cons_self) (mem_fl 2 rfl htb) (mem_fl 2 rfl hva) hS h60 (by omega)) (mem_fl 0 rfl List.mem_cons_self) rfl rfl (lw_V q1274 q1276 qs19 q101 q1277) hdX5_here ⟨Nat.le_of_ble_eq_true rfl, Nat.le_of_ble_eq_true rfl⟩ rfl rfl (Nat.le_of_ble_eq_true rfl) dX5_number_18 ⟨Nat.le_of_ble_eq_true rfl, Nat.le_of_ble_eq_true rfl⟩) (fun r18 h18 => ?_)
      subst h18
      refine v_bipush (pc := 21) (v := nI 48) X dX5_number_21 rfl ?_
      refine v_bipush (pc := 23) (v := nI 57) X dX5_number_23 rfl ?_
      refine v_read (pc := 25) X ⟨_, List.Perm.refl ([] ++ _)⟩ (r_SN X c_X1_in q1000 q91 q1330 q999 hdX1_in ⟨Nat.le_of_ble_eq_true rfl, Nat.le_of_ble_eq_true rfl⟩ rfl rfl (Nat.le_of_ble_eq_true rfl) dX5_number_25 ⟨Nat.le_of_ble_eq_true rfl, Nat.le_of_ble_eq_true rfl⟩) (fun r25 h25 => ?_)
      subst h25
      refine v_if_eqB (pc := 28) X 67 dX5_number_28 (by decide) (fun h28 => ?_) (fun h28 => ?_)
      · refine v_iload (pc := 67) X dX5_number_67 4 rfl ?_
        refine v_if_neN (pc := 69) X (by omega) 84 dX5_number_69 (by decide) (fun h69 => ?_) (fun h69 => ?_)
        · refine v_aload_n (pc := 84) X dX5_number_84 rfl 0 rfl ?_
          refine v_getM (pc := 85) X in_X5 (mem_fl 0 rfl List.mem_cons_self) rfl 4 (by decide) q306 (fun y h => h) rfl dX5_number_85 ?_
          refine v_iconst (pc := 88) (v := nI 2) X dX5_number_88 rfl ?_
          refine v_aload_n (pc := 89) X dX5_number_89 rfl 0 rfl ?_
          refine v_getM (pc := 90) X in_X5 (mem_fl 0 rfl List.mem_cons_self) rfl 2 (by decide) q303 (fun y h => h) rfl dX5_number_90 ?_
          refine v_imulN (pc := 93) X dX5_number_93 ?_
          refine v_iload_n (pc := 94) X dX5_number_94 rfl 1 rfl ?_
          refine v_iaddN (pc := 95) X dX5_number_95 ?_
          refine v_iload_n (pc := 96) X dX5_number_96 rfl 3 rfl ?_
          refine v_iast (pc := 97) X 1 rfl rfl (by omega) (by decide) dX5_number_97 (ws' := fl [[(x, .inr (4, [.ref tb, .int (nI ((p + 1 + i))), .int (nI k), .ref wa, .ref na, .int s.1, .int s.2.1, .int (nI s.2.2)]))], [(na, .inl (dd 0, 120, .inl (upd nf ((2 * k) + wh) ((nI v)))))], ws]) rfl ?_
          refine v_widen (k := 2) (n := 20) (Nat.le_of_ble_eq_true rfl) (Nat.le_of_ble_eq_true rfl) ?_
          exact v_xr (v_vret (pc := 98) X hr dX5_number_98 (by have e := hN; rw [show dg - i = (dg - i - 1) + 1 by omega, nL_n (fun z => h28 ((hr_dig ht6).mpr z))] at e; rw [nF_3 h32 (hdi (by omega)), ← e]; exact ⟨rfl, rfl, rfl⟩))
        · have ei : i = 0 := h69
          subst ei
          have eN := nF_2 (m := dg) h32 (fun z => h28 ((hr_dig ht6).mpr z))
          refine v_eq (ws' := fl [[(x, .inr (4, [.ref tb, .int (nI ((p + 1))), .int (nI k), .ref wa, .ref na, .int s.1, .int s.2.1, .int (nI s.2.2)]))], [(na, .inl (dd 0, 120, .inl nf))], ws]) rfl rfl rfl ?_
          refine v_newE (pc := 72) (pi := 80) (ci := 7) (As := [.int (nI ((p + 1)))]) (post := fun fs => FaIs fs ((nI ((p + 1))))) X in_X8 tyX8 tyX8_ok q1293 q1294 q117 rfl (fun j hj => by rcases (show j = 0 ∨ j = 1 ∨ j = 2 ∨ j = 3 ∨ j = 4 ∨ j = 5 ∨ j = 6 by omega) with rfl | rfl | rfl | rfl | rfl | rfl | rfl <;> rfl) dX5_number_72 dX5_number_75 (fun ls H1 locs q hl hP k => lv_aload_n X.hx X.hb dX5_number_76 rfl (lv_at hl 0 rfl) (va_get X.hx X.hb X.hts in_X5 X.hown X.hK hP 0 rfl rfl 1 (by decide) (X.hts _ q302) (fun y h => h) rfl dX5_number_77 k)) (fun q => c_X8_init hst) q1304 q117 q1302 q1303 hdX8_init ⟨Nat.le_of_ble_eq_true rfl, Nat.le_of_ble_eq_true rfl⟩ rfl (Nat.le_of_ble_eq_true rfl) dX5_number_80 ⟨Nat.le_of_ble_eq_true rfl, Nat.le_of_ble_eq_true rfl⟩ (fun q72 fs72 hf72 => ?_)
          refine v_eq (ws' := fl [[(q72, .inr (7, fs72))], [(x, .inr (4, [.ref tb, .int (nI ((p + 1))), .int (nI k), .ref wa, .ref na, .int s.1, .int s.2.1, .int (nI s.2.2)]))], [(na, .inl (dd 0, 120, .inl nf))], ws]) rfl rfl rfl ?_
          refine v_athrow (pc := 83) X (mem_fl 0 rfl List.mem_cons_self) rfl rfl dX5_number_83 ?_
          exact vt_out X (fun z hz => (ht z hz).elim) (Nat.le_of_ble_eq_true rfl) (Nat.le_of_ble_eq_true rfl) (by rw [eN]; exact ⟨rfl, fs72, rfl, rfl, hf72⟩)
      · have hdg := (hr_dig ht6).mp h28
        obtain ⟨ch, hch⟩ : ∃ ch, t[p + 1 + i]? = some ch := by
          cases e : t[p + 1 + i]? with
          | none => unfold digF at hdg; rw [e] at hdg; cases hdg
          | some c => exact ⟨c, rfl⟩
        have hch2 : 48 ≤ ch ∧ ch ≤ 57 := by unfold digF at hdg; rw [hch] at hdg; simpa using hdg
        have hpl2 := (List.getElem?_eq_some_iff.mp hch).1
        refine v_bipush (pc := 31) (v := nI 10) X dX5_number_31 rfl ?_
        refine v_iload_n (pc := 33) X dX5_number_33 rfl 3 rfl ?_
        refine v_imulN (pc := 34) X dX5_number_34 ?_
        refine v_aload_n (pc := 35) X dX5_number_35 rfl 0 rfl ?_
        refine v_getM (pc := 36) X in_X5 (mem_fl 0 rfl List.mem_cons_self) rfl 0 (by decide) q301 (fun y h => h) rfl dX5_number_36 ?_
        refine v_aload_n (pc := 39) X dX5_number_39 rfl 0 rfl ?_
        refine v_getM (pc := 40) X in_X5 (mem_fl 0 rfl List.mem_cons_self) rfl 1 (by decide) q302 (fun y h => h) rfl dX5_number_40 ?_
        refine v_read (pc := 43) X ⟨[], perm_nil _⟩ (r_V X (c_J3_charAt hS.co (mem_fl 2 rfl htb) (mem_fl 2 rfl hva) hS (by omega) hch) (mem_fl 2 rfl htb) rfl rfl (lw_V q1279 q1280 q1281 q98 q1282) hdJ3_charAt ⟨Nat.le_of_ble_eq_true rfl, Nat.le_of_ble_eq_true rfl⟩ rfl rfl (Nat.le_of_ble_eq_true rfl) dX5_number_43 ⟨Nat.le_of_ble_eq_true rfl, Nat.le_of_ble_eq_true rfl⟩) (fun r43 h43 => ?_)
        subst h43
        refine v_iaddN (pc := 46) X dX5_number_46 ?_
        refine v_bipush (pc := 47) (v := nI 48) X dX5_number_47 rfl ?_
        refine v_isubN (pc := 49) X (by omega) dX5_number_49 ?_
        refine v_istore_n (pc := 50) (loc' := [(3, .int (nI (((10 * v) + ch) - 48))), (0, .ref x), (1, .int (nI wh)), (2, .int (nI dg)), (4, .int (nI i))]) X dX5_number_50 rfl (by decide) rfl ?_
        refine v_aload_n (pc := 51) X dX5_number_51 rfl 1 rfl ?_
        refine v_dup (pc := 52) X dX5_number_52 rfl ?_
        refine v_getM (pc := 53) X in_X5 (mem_fl 0 rfl List.mem_cons_self) rfl 1 (by decide) q302 (fun y h => h) rfl dX5_number_53 ?_
        refine v_iconst (pc := 56) (v := nI 1) X dX5_number_56 rfl ?_
        refine v_iaddN (pc := 57) X dX5_number_57 ?_
        refine v_put (pc := 58) X in_X5 tyX5 tyX5_ok nmX5 0 rfl rfl 1 (by decide) q302 (fun y h => h) rfl rfl rfl (Nat.le_of_ble_eq_true rfl) dX5_number_58 (ws' := fl [[(x, .inr (4, [.ref tb, .int (nI (((p + 1 + i)) + 1)), .int (nI k), .ref wa, .ref na, .int s.1, .int s.2.1, .int (nI s.2.2)]))], [(na, .inl (dd 0, 120, .inl nf))], ws]) rfl ?_
        refine v_iinc (pc := 61) (v := (nI (i + 1))) (loc' := [(4, .int (nI (i + 1))), (3, .int (nI (((10 * v) + ch) - 48))), (0, .ref x), (1, .int (nI wh)), (2, .int (nI dg))]) X dX5_number_61 4 rfl (nI_add _ 1) (by decide) rfl ?_
        refine v_goto (pc := 64) X 11 dX5_number_64 (by decide) ?_
        refine v_sub [2, 3, 4, 1, 0] rfl ?_
        exact ih11 (i + 1) (10 * v + ch - 48) ⟨by omega, by omega, by omega, fun _ => (by rcases Nat.eq_zero_or_pos i with z | z; subst z; exact hdg; exact hdi z), by rw [← hN, show dg - i = (dg - (i + 1)) + 1 by omega, nL_s hdg hch]; rfl⟩ (by omega)

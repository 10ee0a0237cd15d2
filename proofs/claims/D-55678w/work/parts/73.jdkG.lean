theorem SbI.cat {n : Nat} {f g : Nat → Int32} {t u : List Nat} (h : SbI 0 n f t) (hg : L1Is g u) (hl : t.length + u.length ≤ n) : SbI 0 n (va_cpy g f 0 t.length u.length) (t ++ u) :=
  ⟨Or.inl ⟨rfl, h.l1.cat hg⟩, hg.bf.cpy h.2.1 0 _ _ (by omega), by rw [List.length_append]; show (0 + 1) * (t.length + u.length) ≤ n; omega, h.2.2.2⟩
theorem dec2_l {v : Nat} : (dec2 v).length = if v ≤ 9 then 1 else 2 := by
  unfold dec2
  by_cases h : v ≤ 9
  · rw [if_neg (by omega), if_pos h]; rfl
  · rw [if_pos (by omega), if_neg h]; rfl
theorem SbI.decA {n v : Nat} {f : Nat → Int32} {t : List Nat} (h : SbI 0 n f t) (hn : t.length + 1 ≤ n) (hv : v ≤ 9) : SbI 0 n (upd f t.length (bt (48 + v % 10))) (t ++ dec2 v) := by
  have e : dec2 v = [48 + v % 10] := by unfold dec2; rw [if_neg (by omega)]
  rw [e]
  exact h.push0 hn (by omega)
theorem SbI.decB {n v : Nat} {f : Nat → Int32} {t : List Nat} (h : SbI 0 n f t) (hn : t.length + 2 ≤ n) (hv : 9 < v) (hv2 : v < 100) : SbI 0 n (upd (upd f (t.length + 1) (bt (48 + v % 10))) t.length (bt (48 + v / 10))) (t ++ dec2 v) := by
  have e : dec2 v = [48 + v / 10, 48 + v % 10] := if_pos hv
  rw [e]
  have h1 := h.push0 (c := 48 + v / 10) (by omega) (by omega)
  have hl : (t ++ [48 + v / 10]).length = t.length + 1 := by rw [List.length_append]; rfl
  have h2 := h1.push0 (c := 48 + v % 10) (by rw [hl]; omega) (by omega)
  rw [hl, List.append_assoc] at h2
  have e2 : upd (upd f (t.length + 1) (bt (48 + v % 10))) t.length (bt (48 + v / 10)) = upd (upd f t.length (bt (48 + v / 10))) (t.length + 1) (bt (48 + v % 10)) := by
    funext i
    unfold upd
    by_cases a : i = t.length
    · rw [if_pos a, if_neg (by omega), if_pos a]
    · rw [if_neg a]
      by_cases b : i = t.length + 1
      · rw [if_pos b, if_pos b]
      · rw [if_neg b, if_neg b, if_neg a]
  rw [e2]; exact h2
theorem decS {n v : Nat} {f : Nat → Int32} {t : List Nat} (h : SbI 0 n f t) (hv : v < 100) (hn : t.length + (if v ≤ 9 then 1 else 2) ≤ n) : SbI 0 n (if v ≤ 9 then upd f t.length (bt (48 + v % 10)) else upd (upd f (t.length + 1) (bt (48 + v % 10))) t.length (bt (48 + v / 10))) (t ++ dec2 v) := by
  by_cases c : v ≤ 9
  · rw [if_pos c] at hn ⊢; exact h.decA hn c
  · rw [if_neg c] at hn ⊢; exact h.decB hn (by omega) hv
theorem hdJ4_getBytes : yJ4_getBytes.cls = RJ4 ∧ yJ4_getBytes.cls ≠ "java/lang/invoke/MethodHandle" ∧ yJ4_getBytes.cls ≠ "java/lang/invoke/VarHandle" ∧ (parseMethodDescriptor yJ4_getBytes.desc).map (fun d => d.parameters.length) = some 3 := by decide +kernel
set_option maxHeartbeats 4000000 in
theorem c_J4_getBytes {l_ : Launch} {D : va_G} {dd : Nat → ClassId} {va p vb n i : Nat} {hs2 hz2 : Int32} {f g : Nat → Int32} {u : List Nat} (hU : L1Is g u) (hn : i + u.length ≤ n) (hn2 : n < 1000) : MW l_ D dd yJ4_getBytes cJ4_getBytes 4 none 1 0 0 40 [.ref p, .ref va, .int (nI i), .int (nI 0)] ([(p, .inr (13, [.ref vb, .int (nI 0), .int hs2, .int hz2])), (vb, .inl (dd 2, u.length, .inl g)), (va, .inl (dd 2, n, .inl f))]) (fun r w => r = none ∧ w = [(p, .inr (13, [.ref vb, .int (nI 0), .int hs2, .int hz2])), (vb, .inl (dd 2, u.length, .inl g)), (va, .inl (dd 2, n, .inl (va_cpy g f 0 i u.length)))]) := by
  refine MW.intro (by decide) (Nat.le_of_ble_eq_true rfl) (fun p_ e_ s_ m_ as_ bl_ me_ c_ A_ X hr hnm => ?_)
  have X : VX p_ s_ m_ as_ me_ c_ cJ4_getBytes 4 RJ4 D dd A_ := X
  refine v_eq (loc' := [(0, .ref p), (1, .ref va), (2, .int (nI i)), (3, .int (nI 0))]) rfl rfl rfl ?_
  refine v_aload_n (pc := 0) X dJ4_getBytes_0 rfl 0 rfl ?_
  refine v_read (pc := 1) X ⟨[], perm_nil _⟩ (r_V X (c_J4_coder_0 (List.mem_of_getElem? (i := 0) rfl)) (List.mem_of_getElem? (i := 0) rfl) rfl rfl (lw_V q603 q604 q605 q99 q606) hdJ4_coder ⟨Nat.le_of_ble_eq_true rfl, Nat.le_of_ble_eq_true rfl⟩ rfl rfl (Nat.le_of_ble_eq_true rfl) dJ4_getBytes_1 ⟨Nat.le_of_ble_eq_true rfl, Nat.le_of_ble_eq_true rfl⟩) (fun r1 h1 => ?_)
  subst h1
  refine v_iload_n (pc := 4) X dJ4_getBytes_4 rfl 3 rfl ?_
  refine v_ic_neN (pc := 5) X (by omega) (by omega) 28 dJ4_getBytes_5 (by decide) (fun h5 => absurd rfl h5) (fun h5 => ?_)
  refine v_aload_n (pc := 8) X dJ4_getBytes_8 rfl 0 rfl ?_
  refine v_getM (pc := 9) X in_J4 (List.mem_of_getElem? (i := 0) rfl) rfl 0 (by decide) q737 (fun y h => h) rfl dJ4_getBytes_9 ?_
  refine v_iconst (pc := 12) (v := nI 0) X dJ4_getBytes_12 rfl ?_
  refine v_aload_n (pc := 13) X dJ4_getBytes_13 rfl 1 rfl ?_
  refine v_iload_n (pc := 14) X dJ4_getBytes_14 rfl 2 rfl ?_
  refine v_iload_n (pc := 15) X dJ4_getBytes_15 rfl 3 rfl ?_
  refine v_ishl (pc := 16) X dJ4_getBytes_16 ?_
  refine v_top (y := (nI i)) sl_0 ?_
  refine v_aload_n (pc := 17) X dJ4_getBytes_17 rfl 0 rfl ?_
  refine v_getM (pc := 18) X in_J4 (List.mem_of_getElem? (i := 0) rfl) rfl 0 (by decide) q737 (fun y h => h) rfl dJ4_getBytes_18 ?_
  refine v_alenM (pc := 21) X 2 (List.mem_of_getElem? (i := 1) rfl) rfl dJ4_getBytes_21 ?_
  refine v_top (y := nI u.length) rfl ?_
  refine v_copyi (pc := 22) X q640 q108 1 2 2 rfl rfl rfl rfl (by omega) (by omega) ⟨by omega, by omega, by omega⟩ (fun j hj => by rw [Nat.zero_add]; exact hU.bf j hj) (Nat.le_of_ble_eq_true rfl) (Nat.le_of_ble_eq_true rfl) (Nat.le_of_ble_eq_true rfl) dJ4_getBytes_22 (ws' := [(p, .inr (13, [.ref vb, .int (nI 0), .int hs2, .int hz2])), (vb, .inl (dd 2, u.length, .inl g)), (va, .inl (dd 2, n, .inl (va_cpy g f 0 i u.length)))]) rfl ?_
  refine v_goto (pc := 25) X 43 dJ4_getBytes_25 (by decide) ?_
  exact v_vret (pc := 43) X hr dJ4_getBytes_43 ⟨rfl, rfl⟩
theorem hdJ2_inflateIfNeededFor : yJ2_inflateIfNeededFor.cls ≠ "java/lang/invoke/MethodHandle" ∧ yJ2_inflateIfNeededFor.cls ≠ "java/lang/invoke/VarHandle" ∧ (parseMethodDescriptor yJ2_inflateIfNeededFor.desc).map (fun d => d.parameters.length) = some 1 := by decide +kernel
set_option maxHeartbeats 4000000 in
theorem c_J2_inflateIfNeededFor {l_ : Launch} {D : va_G} {dd : Nat → ClassId} {x va cnt p vb : Nat} {ml hs2 hz2 : Int32} {ws : va_W} (hx : (x, .inr (12, [.ref va, .int (nI 0), .int ml, .int (nI cnt)])) ∈ ws) (hp : (p, .inr (13, [.ref vb, .int (nI 0), .int hs2, .int hz2])) ∈ ws) : MW l_ D dd yJ2_inflateIfNeededFor cJ2_inflateIfNeededFor 2 none 1 0 0 40 [.ref x, .ref p] (ws) (RV ws) := by
  refine MW.intro (by decide) (Nat.le_of_ble_eq_true rfl) (fun p_ e_ s_ m_ as_ bl_ me_ c_ A_ X hr hnm => ?_)
  have X : VX p_ s_ m_ as_ me_ c_ cJ2_inflateIfNeededFor 2 RJ2 D dd A_ := X
  refine v_eq (loc' := [(0, .ref x), (1, .ref p)]) rfl rfl rfl ?_
  refine v_gets (pc := 0) X (List.mem_of_getElem? (l := zS) (i := 0) rfl) q269 (fun y h => h) dJ2_inflateIfNeededFor_0 ?_
  refine v_top (y := nI 1) rfl ?_
  refine v_if_eqN (pc := 3) X (by omega) 21 dJ2_inflateIfNeededFor_3 (by decide) (fun h3 => absurd h3 (by decide)) (fun h3 => ?_)
  refine v_aload_n (pc := 6) X dJ2_inflateIfNeededFor_6 rfl 0 rfl ?_
  refine v_getM (pc := 7) X in_J3 hx rfl 1 (by decide) q279 (fun y h => h) rfl dJ2_inflateIfNeededFor_7 ?_
  refine v_aload_n (pc := 10) X dJ2_inflateIfNeededFor_10 rfl 1 rfl ?_
  refine v_read (pc := 11) X ⟨[], perm_nil _⟩ (r_V X (c_J4_coder_0 hp) hp rfl rfl (lw_V q616 q604 q605 q99 q606) hdJ4_coder ⟨Nat.le_of_ble_eq_true rfl, Nat.le_of_ble_eq_true rfl⟩ rfl rfl (Nat.le_of_ble_eq_true rfl) dJ2_inflateIfNeededFor_11 ⟨Nat.le_of_ble_eq_true rfl, Nat.le_of_ble_eq_true rfl⟩) (fun r11 h11 => ?_)
  subst h11
  refine v_ic_eqN (pc := 14) X (by omega) (by omega) 21 dJ2_inflateIfNeededFor_14 (by decide) (fun h14 => ?_) (fun h14 => absurd rfl h14)
  exact v_vret (pc := 21) X hr dJ2_inflateIfNeededFor_21 ⟨rfl, rfl⟩
theorem hdJ2_putStringAt : yJ2_putStringAt.cls ≠ "java/lang/invoke/MethodHandle" ∧ yJ2_putStringAt.cls ≠ "java/lang/invoke/VarHandle" ∧ (parseMethodDescriptor yJ2_putStringAt.desc).map (fun d => d.parameters.length) = some 2 := by decide +kernel
set_option maxHeartbeats 4000000 in
theorem c_J2_putStringAt {l_ : Launch} {D : va_G} {dd : Nat → ClassId} {x va p vb n i cnt : Nat} {ml hs2 hz2 : Int32} {f g : Nat → Int32} {u : List Nat} (hU : L1Is g u) (hn : i + u.length ≤ n) (hn2 : n < 1000) : MW l_ D dd yJ2_putStringAt cJ2_putStringAt 3 none 2 0 0 90 [.ref x, .int (nI i), .ref p] ([(x, .inr (12, [.ref va, .int (nI 0), .int ml, .int (nI cnt)])), (va, .inl (dd 2, n, .inl f)), (p, .inr (13, [.ref vb, .int (nI 0), .int hs2, .int hz2])), (vb, .inl (dd 2, u.length, .inl g))]) (fun r w => r = none ∧ w = [(x, .inr (12, [.ref va, .int (nI 0), .int ml, .int (nI cnt)])), (va, .inl (dd 2, n, .inl (va_cpy g f 0 i u.length))), (p, .inr (13, [.ref vb, .int (nI 0), .int hs2, .int hz2])), (vb, .inl (dd 2, u.length, .inl g))]) := by
  refine MW.intro (by decide) (Nat.le_of_ble_eq_true rfl) (fun p_ e_ s_ m_ as_ bl_ me_ c_ A_ X hr hnm => ?_)
  have X : VX p_ s_ m_ as_ me_ c_ cJ2_putStringAt 3 RJ2 D dd A_ := X
  refine v_eq (loc' := [(0, .ref x), (1, .int (nI i)), (2, .ref p)]) rfl rfl rfl ?_
  refine v_aload_n (pc := 0) X dJ2_putStringAt_0 rfl 0 rfl ?_
  refine v_aload_n (pc := 1) X dJ2_putStringAt_1 rfl 2 rfl ?_
  refine v_readV (pc := 2) X ⟨[], perm_nil _⟩ (r_P X (c_J2_inflateIfNeededFor (List.mem_of_getElem? (i := 0) rfl) (List.mem_of_getElem? (i := 2) rfl)) (List.mem_of_getElem? (i := 0) rfl) rfl q613 (lw_P q612 q2444 q614 q97 q615) hdJ2_inflateIfNeededFor ⟨Nat.le_of_ble_eq_true rfl, Nat.le_of_ble_eq_true rfl⟩ rfl rfl (Nat.le_of_ble_eq_true rfl) dJ2_putStringAt_2 ⟨Nat.le_of_ble_eq_true rfl, Nat.le_of_ble_eq_true rfl⟩) ?_
  refine v_aload_n (pc := 5) X dJ2_putStringAt_5 rfl 2 rfl ?_
  refine v_aload_n (pc := 6) X dJ2_putStringAt_6 rfl 0 rfl ?_
  refine v_getM (pc := 7) X in_J3 (List.mem_of_getElem? (i := 0) rfl) rfl 0 (by decide) q278 (fun y h => h) rfl dJ2_putStringAt_7 ?_
  refine v_iload_n (pc := 10) X dJ2_putStringAt_10 rfl 1 rfl ?_
  refine v_aload_n (pc := 11) X dJ2_putStringAt_11 rfl 0 rfl ?_
  refine v_getM (pc := 12) X in_J3 (List.mem_of_getElem? (i := 0) rfl) rfl 1 (by decide) q279 (fun y h => h) rfl dJ2_putStringAt_12 ?_
  refine v_frame (pc := 15) X (wr := [(x, .inr (12, [.ref va, .int (nI 0), .int ml, .int (nI cnt)]))]) (((mv_perm 1 _).trans (mv_perm 3 _)).trans (mv_perm 3 _)) (r_V X (c_J4_getBytes hU hn hn2) (List.mem_of_getElem? (i := 0) rfl) rfl rfl (lw_V q636 q637 q638 q99 q639) hdJ4_getBytes ⟨Nat.le_of_ble_eq_true rfl, Nat.le_of_ble_eq_true rfl⟩ rfl rfl (Nat.le_of_ble_eq_true rfl) dJ2_putStringAt_15 ⟨Nat.le_of_ble_eq_true rfl, Nat.le_of_ble_eq_true rfl⟩) (fun v15 w15 h15 => ?_)
  obtain ⟨rfl, rfl⟩ := h15
  refine v_eq (ws' := [(p, .inr (13, [.ref vb, .int (nI 0), .int hs2, .int hz2])), (vb, .inl (dd 2, u.length, .inl g)), (va, .inl (dd 2, n, .inl (va_cpy g f 0 i u.length))), (x, .inr (12, [.ref va, .int (nI 0), .int ml, .int (nI cnt)]))]) rfl rfl rfl ?_
  refine v_perm (ws' := [(x, .inr (12, [.ref va, .int (nI 0), .int ml, .int (nI cnt)])), (va, .inl (dd 2, n, .inl (va_cpy g f 0 i u.length))), (p, .inr (13, [.ref vb, .int (nI 0), .int hs2, .int hz2])), (vb, .inl (dd 2, u.length, .inl g))]) ((((mv_perm 1 _).trans (mv_perm 1 _)).trans (mv_perm 2 _)).trans (mv_perm 3 _)) ?_
  exact v_vret (pc := 18) X hr dJ2_putStringAt_18 ⟨rfl, rfl⟩
theorem hdJ2_append_su : yJ2_append.name ≠ "<init>" ∧ (parseMethodDescriptor yJ2_append.desc).map (fun d => d.parameters.length) = some 1 := by decide +kernel
set_option maxHeartbeats 4000000 in
theorem c_J2_append {l_ : Launch} {D : va_G} {dd : Nat → ClassId} {x va p vb n : Nat} {ml hs2 hz2 : Int32} {f g : Nat → Int32} {t u : List Nat} (hS : SbI 0 n f t) (hU : L1Is g u) (hl : t.length + u.length < 90) : MW l_ D dd yJ2_append cJ2_append 3 (some (.object "java/lang/AbstractStringBuilder")) 4 1 380 180 [.ref x, .ref p] ([(x, .inr (12, [.ref va, .int (nI 0), .int ml, .int (nI t.length)])), (va, .inl (dd 2, n, .inl f)), (p, .inr (13, [.ref vb, .int (nI 0), .int hs2, .int hz2])), (vb, .inl (dd 2, u.length, .inl g))]) (fun r w => r = some (.ref x) ∧ ∃ va2 n2 f2, w = [(x, .inr (12, [.ref va2, .int (nI 0), .int ml, .int (nI ((t ++ u).length))])), (va2, .inl (dd 2, n2, .inl f2)), (p, .inr (13, [.ref vb, .int (nI 0), .int hs2, .int hz2])), (vb, .inl (dd 2, u.length, .inl g))] ∧ SbI 0 n2 f2 (t ++ u) ∧ n ≤ n2) := by
  obtain ⟨hT0, hB0, hl0, hn0⟩ := id hS
  refine MW.intro (by decide) (Nat.le_of_ble_eq_true rfl) (fun p_ e_ s_ m_ as_ bl_ me_ c_ A_ X hr hnm => ?_)
  have X : VX p_ s_ m_ as_ me_ c_ cJ2_append 3 RJ2 D dd A_ := X
  refine v_eq (loc' := [(0, .ref x), (1, .ref p)]) rfl rfl rfl ?_
  refine v_aload_n (pc := 0) X dJ2_append_0 rfl 1 rfl ?_
  refine v_ifnonnull (pc := 1) X 9 dJ2_append_1 (by decide) ?_
  refine v_aload_n (pc := 9) X dJ2_append_9 rfl 1 rfl ?_
  refine v_read (pc := 10) X ⟨[], perm_nil _⟩ (r_V X (c_J4_length_0 (n := u.length) (List.mem_of_getElem? (i := 2) rfl) (List.mem_of_getElem? (i := 3) rfl) (by omega)) (List.mem_of_getElem? (i := 2) rfl) rfl rfl (lw_V q599 q600 q601 q99 q602) hdJ4_length ⟨by dsimp only; omega, by dsimp only; omega⟩ rfl rfl (Nat.le_of_ble_eq_true rfl) dJ2_append_10 ⟨by dsimp only; omega, by dsimp only; omega⟩) (fun r10 h10 => ?_)
  subst h10
  refine v_top (y := (nI u.length)) (by congr 1; omega) ?_
  refine v_istore_n (pc := 13) (loc' := [(2, .int (nI u.length)), (0, .ref x), (1, .ref p)]) X dJ2_append_13 rfl (by decide) rfl ?_
  refine v_aload_n (pc := 14) X dJ2_append_14 rfl 1 rfl ?_
  refine v_aload_n (pc := 15) X dJ2_append_15 rfl 1 rfl ?_
  refine v_getM (pc := 16) X in_J3 (List.mem_of_getElem? (i := 0) rfl) rfl 3 (by decide) q282 (fun y h => h) rfl dJ2_append_16 ?_
  refine v_iload_n (pc := 19) X dJ2_append_19 rfl 0 rfl ?_
  refine v_iaddN (pc := 20) X dJ2_append_20 ?_
  refine v_frame (pc := 21) X (wr := [(p, .inr (13, [.ref vb, .int (nI 0), .int hs2, .int hz2])), (vb, .inl (dd 2, u.length, .inl g))]) (List.Perm.refl _) (r_P X (c_J2_ensureCapacityInternal_0 (cnt := t.length) (min := t.length + u.length) hS.2.1 hS.2.2.2 (by omega)) (List.mem_of_getElem? (i := 0) rfl) rfl q540 (lw_P q539 q2441 q541 q97 q542) hdJ2_ensureCapacityInternal ⟨by dsimp only; omega, by dsimp only; omega⟩ rfl rfl (Nat.le_of_ble_eq_true rfl) dJ2_append_21 ⟨by dsimp only; omega, by dsimp only; omega⟩) (fun v21 w21 h21 => ?_)
  obtain ⟨rfl, va2, n2, f2, rfl, hfg, hB2, hn1, hn2, hn3⟩ := h21
  refine v_eq (ws' := [(x, .inr (12, [.ref va2, .int (nI 0), .int ml, .int (nI t.length)])), (va2, .inl (dd 2, n2, .inl f2)), (p, .inr (13, [.ref vb, .int (nI 0), .int hs2, .int hz2])), (vb, .inl (dd 2, u.length, .inl g))]) rfl rfl rfl ?_
  have hS2 := hS.ext hfg hB2 hn1 hn3
  refine v_aload_n (pc := 24) X dJ2_append_24 rfl 1 rfl ?_
  refine v_aload_n (pc := 25) X dJ2_append_25 rfl 1 rfl ?_
  refine v_getM (pc := 26) X in_J3 (List.mem_of_getElem? (i := 0) rfl) rfl 3 (by decide) q282 (fun y h => h) rfl dJ2_append_26 ?_
  refine v_aload_n (pc := 29) X dJ2_append_29 rfl 2 rfl ?_
  refine v_frame (pc := 30) X (wr := []) (perm_nil _) (r_P X (c_J2_putStringAt (cnt := t.length) (i := t.length) hU (by omega) (by omega)) (List.mem_of_getElem? (i := 0) rfl) rfl q609 (lw_P q608 q2443 q610 q97 q611) hdJ2_putStringAt ⟨by dsimp only; omega, by dsimp only; omega⟩ rfl rfl (Nat.le_of_ble_eq_true rfl) dJ2_append_30 ⟨by dsimp only; omega, by dsimp only; omega⟩) (fun v30 w30 h30 => ?_)
  obtain ⟨rfl, rfl⟩ := h30
  refine v_eq (ws' := [(x, .inr (12, [.ref va2, .int (nI 0), .int ml, .int (nI t.length)])), (va2, .inl (dd 2, n2, .inl (va_cpy g f2 0 t.length u.length))), (p, .inr (13, [.ref vb, .int (nI 0), .int hs2, .int hz2])), (vb, .inl (dd 2, u.length, .inl g))]) rfl rfl rfl ?_
  refine v_aload_n (pc := 33) X dJ2_append_33 rfl 1 rfl ?_
  refine v_dup (pc := 34) X dJ2_append_34 rfl ?_
  refine v_getM (pc := 35) X in_J3 (List.mem_of_getElem? (i := 0) rfl) rfl 3 (by decide) q282 (fun y h => h) rfl dJ2_append_35 ?_
  refine v_iload_n (pc := 38) X dJ2_append_38 rfl 0 rfl ?_
  refine v_iaddN (pc := 39) X dJ2_append_39 ?_
  refine v_top (y := (nI ((t ++ u).length))) (by rw [List.length_append]) ?_
  refine v_put (pc := 40) X in_J3 tyJ3 tyJ3_ok nmJ3 0 rfl rfl 3 (by decide) q282 (fun y h => h) rfl rfl rfl (Nat.le_of_ble_eq_true rfl) dJ2_append_40 (ws' := [(x, .inr (12, [.ref va2, .int (nI 0), .int ml, .int (nI ((t ++ u).length))])), (va2, .inl (dd 2, n2, .inl (va_cpy g f2 0 t.length u.length))), (p, .inr (13, [.ref vb, .int (nI 0), .int hs2, .int hz2])), (vb, .inl (dd 2, u.length, .inl g))]) rfl ?_
  refine v_aload_n (pc := 43) X dJ2_append_43 rfl 1 rfl ?_
  refine v_widen (k := 1) (n := 380) (by omega) (by omega) ?_
  exact v_aret (pc := 44) X hr (Or.inl ⟨_, rfl⟩) dJ2_append_44 ⟨rfl, _, _, _, rfl, hS2.cat hU (by omega), hn1⟩
theorem hdJ3_append : yJ3_append.cls = RJ3 ∧ yJ3_append.cls ≠ "java/lang/invoke/MethodHandle" ∧ yJ3_append.cls ≠ "java/lang/invoke/VarHandle" ∧ (parseMethodDescriptor yJ3_append.desc).map (fun d => d.parameters.length) = some 1 := by decide +kernel
set_option maxHeartbeats 4000000 in
theorem c_J3_append {l_ : Launch} {D : va_G} {dd : Nat → ClassId} {x va p vb n : Nat} {ml hs2 hz2 : Int32} {f g : Nat → Int32} {t u : List Nat} (hS : SbI 0 n f t) (hU : L1Is g u) (hl : t.length + u.length < 90) : MW l_ D dd yJ3_append cJ3_append 2 (some (.object "java/lang/StringBuilder")) 5 1 380 230 [.ref x, .ref p] ([(x, .inr (12, [.ref va, .int (nI 0), .int ml, .int (nI t.length)])), (va, .inl (dd 2, n, .inl f)), (p, .inr (13, [.ref vb, .int (nI 0), .int hs2, .int hz2])), (vb, .inl (dd 2, u.length, .inl g))]) (fun r w => r = some (.ref x) ∧ ∃ va2 n2 f2, w = [(x, .inr (12, [.ref va2, .int (nI 0), .int ml, .int (nI ((t ++ u).length))])), (va2, .inl (dd 2, n2, .inl f2)), (p, .inr (13, [.ref vb, .int (nI 0), .int hs2, .int hz2])), (vb, .inl (dd 2, u.length, .inl g))] ∧ SbI 0 n2 f2 (t ++ u) ∧ n ≤ n2) := by
  refine MW.intro (by decide) (Nat.le_of_ble_eq_true rfl) (fun p_ e_ s_ m_ as_ bl_ me_ c_ A_ X hr hnm => ?_)
  have X : VX p_ s_ m_ as_ me_ c_ cJ3_append 2 RJ3 D dd A_ := X
  refine v_eq (loc' := [(0, .ref x), (1, .ref p)]) rfl rfl rfl ?_
  refine v_aload_n (pc := 0) X dJ3_append_0 rfl 0 rfl ?_
  refine v_aload_n (pc := 1) X dJ3_append_1 rfl 1 rfl ?_
  refine v_frame (pc := 2) X (wr := []) (perm_nil _) (r_SU X (c_J2_append hS hU hl) (List.mem_of_getElem? (i := 0) rfl) rfl (lw_SU q532 q2439 q291 q533 q97 q534) hdJ2_append_su ⟨by dsimp only; omega, by dsimp only; omega⟩ rfl rfl (Nat.le_of_ble_eq_true rfl) dJ3_append_2 ⟨by dsimp only; omega, by dsimp only; omega⟩) (fun v2 w2 h2 => ?_)
  obtain ⟨rfl, va2, n2, f2, rfl, hS2, hn2⟩ := h2
  refine v_eq (ws' := [(x, .inr (12, [.ref va2, .int (nI 0), .int ml, .int (nI ((t ++ u).length))])), (va2, .inl (dd 2, n2, .inl f2)), (p, .inr (13, [.ref vb, .int (nI 0), .int hs2, .int hz2])), (vb, .inl (dd 2, u.length, .inl g))]) rfl rfl rfl ?_
  refine v_pop (pc := 5) X dJ3_append_5 rfl ?_
  refine v_aload_n (pc := 6) X dJ3_append_6 rfl 0 rfl ?_
  refine v_widen (k := 1) (n := 380) (by omega) (by omega) ?_
  exact v_aret (pc := 7) X hr (Or.inl ⟨_, rfl⟩) dJ3_append_7 ⟨rfl, _, _, _, rfl, hS2, hn2⟩
set_option maxHeartbeats 4000000 in
theorem c_J2_append_SN {l_ : Launch} {D : va_G} {dd : Nat → ClassId} {x va p vb n : Nat} {ml hs2 hz2 : Int32} {f g : Nat → Int32} {t u : List Nat} (hS : SbI 0 n f t) (hU : L1Is g u) (hl : t.length + u.length < 90) (hng : t.length + u.length ≤ n) : MW l_ D dd yJ2_append cJ2_append 3 (some (.object "java/lang/AbstractStringBuilder")) 4 0 0 180 [.ref x, .ref p] ([(x, .inr (12, [.ref va, .int (nI 0), .int ml, .int (nI t.length)])), (va, .inl (dd 2, n, .inl f)), (p, .inr (13, [.ref vb, .int (nI 0), .int hs2, .int hz2])), (vb, .inl (dd 2, u.length, .inl g))]) (fun r w => r = some (.ref x) ∧ w = [(x, .inr (12, [.ref va, .int (nI 0), .int ml, .int (nI ((t ++ u).length))])), (va, .inl (dd 2, n, .inl ((va_cpy g f 0 t.length u.length)))), (p, .inr (13, [.ref vb, .int (nI 0), .int hs2, .int hz2])), (vb, .inl (dd 2, u.length, .inl g))]) := by
  obtain ⟨hT0, hB0, hl0, hn0⟩ := id hS
  refine MW.intro (by decide) (Nat.le_of_ble_eq_true rfl) (fun p_ e_ s_ m_ as_ bl_ me_ c_ A_ X hr hnm => ?_)
  have X : VX p_ s_ m_ as_ me_ c_ cJ2_append 3 RJ2 D dd A_ := X
  refine v_eq (loc' := [(0, .ref x), (1, .ref p)]) rfl rfl rfl ?_
  refine v_aload_n (pc := 0) X dJ2_append_0 rfl 1 rfl ?_
  refine v_ifnonnull (pc := 1) X 9 dJ2_append_1 (by decide) ?_
  refine v_aload_n (pc := 9) X dJ2_append_9 rfl 1 rfl ?_
  refine v_read (pc := 10) X ⟨[], perm_nil _⟩ (r_V X (c_J4_length_0 (n := u.length) (List.mem_of_getElem? (i := 2) rfl) (List.mem_of_getElem? (i := 3) rfl) (by omega)) (List.mem_of_getElem? (i := 2) rfl) rfl rfl (lw_V q599 q600 q601 q99 q602) hdJ4_length ⟨Nat.le_of_ble_eq_true rfl, Nat.le_of_ble_eq_true rfl⟩ rfl rfl (Nat.le_of_ble_eq_true rfl) dJ2_append_10 ⟨Nat.le_of_ble_eq_true rfl, Nat.le_of_ble_eq_true rfl⟩) (fun r10 h10 => ?_)
  subst h10
  refine v_top (y := (nI u.length)) (by congr 1; omega) ?_
  refine v_istore_n (pc := 13) (loc' := [(2, .int (nI u.length)), (0, .ref x), (1, .ref p)]) X dJ2_append_13 rfl (by decide) rfl ?_
  refine v_aload_n (pc := 14) X dJ2_append_14 rfl 1 rfl ?_
  refine v_aload_n (pc := 15) X dJ2_append_15 rfl 1 rfl ?_
  refine v_getM (pc := 16) X in_J3 (List.mem_of_getElem? (i := 0) rfl) rfl 3 (by decide) q282 (fun y h => h) rfl dJ2_append_16 ?_
  refine v_iload_n (pc := 19) X dJ2_append_19 rfl 0 rfl ?_
  refine v_iaddN (pc := 20) X dJ2_append_20 ?_
  refine v_readV (pc := 21) X ⟨[], perm_nil _⟩ (r_P X (c_J2_ensureNG_0 (min := t.length + u.length) (List.mem_of_getElem? (i := 0) rfl) (List.mem_of_getElem? (i := 1) rfl) (by omega) (by omega) (by omega)) (List.mem_of_getElem? (i := 0) rfl) rfl q540 (lw_P q539 q2441 q541 q97 q542) hdJ2_ensureCapacityInternal ⟨Nat.le_of_ble_eq_true rfl, Nat.le_of_ble_eq_true rfl⟩ rfl rfl (Nat.le_of_ble_eq_true rfl) dJ2_append_21 ⟨Nat.le_of_ble_eq_true rfl, Nat.le_of_ble_eq_true rfl⟩) ?_
  refine v_aload_n (pc := 24) X dJ2_append_24 rfl 1 rfl ?_
  refine v_aload_n (pc := 25) X dJ2_append_25 rfl 1 rfl ?_
  refine v_getM (pc := 26) X in_J3 (List.mem_of_getElem? (i := 0) rfl) rfl 3 (by decide) q282 (fun y h => h) rfl dJ2_append_26 ?_
  refine v_aload_n (pc := 29) X dJ2_append_29 rfl 2 rfl ?_
  refine v_frame (pc := 30) X (wr := []) (perm_nil _) (r_P X (c_J2_putStringAt (cnt := t.length) (i := t.length) hU (by omega) (by omega)) (List.mem_of_getElem? (i := 0) rfl) rfl q609 (lw_P q608 q2443 q610 q97 q611) hdJ2_putStringAt ⟨Nat.le_of_ble_eq_true rfl, Nat.le_of_ble_eq_true rfl⟩ rfl rfl (Nat.le_of_ble_eq_true rfl) dJ2_append_30 ⟨Nat.le_of_ble_eq_true rfl, Nat.le_of_ble_eq_true rfl⟩) (fun v30 w30 h30 => ?_)
  obtain ⟨rfl, rfl⟩ := h30
  refine v_eq (ws' := [(x, .inr (12, [.ref va, .int (nI 0), .int ml, .int (nI t.length)])), (va, .inl (dd 2, n, .inl (va_cpy g f 0 t.length u.length))), (p, .inr (13, [.ref vb, .int (nI 0), .int hs2, .int hz2])), (vb, .inl (dd 2, u.length, .inl g))]) rfl rfl rfl ?_
  refine v_aload_n (pc := 33) X dJ2_append_33 rfl 1 rfl ?_
  refine v_dup (pc := 34) X dJ2_append_34 rfl ?_
  refine v_getM (pc := 35) X in_J3 (List.mem_of_getElem? (i := 0) rfl) rfl 3 (by decide) q282 (fun y h => h) rfl dJ2_append_35 ?_
  refine v_iload_n (pc := 38) X dJ2_append_38 rfl 0 rfl ?_
  refine v_iaddN (pc := 39) X dJ2_append_39 ?_
  refine v_top (y := (nI ((t ++ u).length))) (by rw [List.length_append]) ?_
  refine v_put (pc := 40) X in_J3 tyJ3 tyJ3_ok nmJ3 0 rfl rfl 3 (by decide) q282 (fun y h => h) rfl rfl rfl (Nat.le_of_ble_eq_true rfl) dJ2_append_40 (ws' := [(x, .inr (12, [.ref va, .int (nI 0), .int ml, .int (nI ((t ++ u).length))])), (va, .inl (dd 2, n, .inl (va_cpy g f 0 t.length u.length))), (p, .inr (13, [.ref vb, .int (nI 0), .int hs2, .int hz2])), (vb, .inl (dd 2, u.length, .inl g))]) rfl ?_
  refine v_aload_n (pc := 43) X dJ2_append_43 rfl 1 rfl ?_
  exact v_aret (pc := 44) X hr (Or.inl ⟨_, rfl⟩) dJ2_append_44 ⟨rfl, rfl⟩
set_option maxHeartbeats 4000000 in
theorem c_J3_append_SN {l_ : Launch} {D : va_G} {dd : Nat → ClassId} {x va p vb n : Nat} {ml hs2 hz2 : Int32} {f g : Nat → Int32} {t u : List Nat} (hS : SbI 0 n f t) (hU : L1Is g u) (hl : t.length + u.length < 90) (hng : t.length + u.length ≤ n) : MW l_ D dd yJ3_append cJ3_append 2 (some (.object "java/lang/StringBuilder")) 5 0 0 230 [.ref x, .ref p] ([(x, .inr (12, [.ref va, .int (nI 0), .int ml, .int (nI t.length)])), (va, .inl (dd 2, n, .inl f)), (p, .inr (13, [.ref vb, .int (nI 0), .int hs2, .int hz2])), (vb, .inl (dd 2, u.length, .inl g))]) (fun r w => r = some (.ref x) ∧ w = [(x, .inr (12, [.ref va, .int (nI 0), .int ml, .int (nI ((t ++ u).length))])), (va, .inl (dd 2, n, .inl ((va_cpy g f 0 t.length u.length)))), (p, .inr (13, [.ref vb, .int (nI 0), .int hs2, .int hz2])), (vb, .inl (dd 2, u.length, .inl g))]) := by
  refine MW.intro (by decide) (Nat.le_of_ble_eq_true rfl) (fun p_ e_ s_ m_ as_ bl_ me_ c_ A_ X hr hnm => ?_)
  have X : VX p_ s_ m_ as_ me_ c_ cJ3_append 2 RJ3 D dd A_ := X
  refine v_eq (loc' := [(0, .ref x), (1, .ref p)]) rfl rfl rfl ?_
  refine v_aload_n (pc := 0) X dJ3_append_0 rfl 0 rfl ?_
  refine v_aload_n (pc := 1) X dJ3_append_1 rfl 1 rfl ?_
  refine v_frame (pc := 2) X (wr := []) (perm_nil _) (r_SU X (c_J2_append_SN hS hU hl hng) (List.mem_of_getElem? (i := 0) rfl) rfl (lw_SU q532 q2439 q291 q533 q97 q534) hdJ2_append_su ⟨Nat.le_of_ble_eq_true rfl, Nat.le_of_ble_eq_true rfl⟩ rfl rfl (Nat.le_of_ble_eq_true rfl) dJ3_append_2 ⟨Nat.le_of_ble_eq_true rfl, Nat.le_of_ble_eq_true rfl⟩) (fun v2 w2 h2 => ?_)
  obtain ⟨rfl, rfl⟩ := h2
  refine v_eq (ws' := [(x, .inr (12, [.ref va, .int (nI 0), .int ml, .int (nI ((t ++ u).length))])), (va, .inl (dd 2, n, .inl (va_cpy g f 0 t.length u.length))), (p, .inr (13, [.ref vb, .int (nI 0), .int hs2, .int hz2])), (vb, .inl (dd 2, u.length, .inl g))]) rfl rfl rfl ?_
  refine v_pop (pc := 5) X dJ3_append_5 rfl ?_
  refine v_aload_n (pc := 6) X dJ3_append_6 rfl 0 rfl ?_
  exact v_aret (pc := 7) X hr (Or.inl ⟨_, rfl⟩) dJ3_append_7 ⟨rfl, rfl⟩
theorem ng_10b : ∀ v, v < 100 → -(nI v) ≤ nI 10 * -10 → False := by decide +kernel
theorem hdJ21_stringSize : yJ21_stringSize.cls ≠ "java/lang/invoke/MethodHandle" ∧ yJ21_stringSize.cls ≠ "java/lang/invoke/VarHandle" ∧ (parseMethodDescriptor yJ21_stringSize.desc).map (fun d => d.parameters.length) = some 1 := by decide +kernel
set_option maxHeartbeats 4000000 in
theorem c_J21_stringSize {l_ : Launch} {D : va_G} {dd : Nat → ClassId} {v : Nat} (hv : v < 100) : MW l_ D dd yJ21_stringSize cJ21_stringSize 4 (some .int) 0 0 0 0 [.int (nI v)] ([]) (RI (fun r => (nI (if v ≤ 9 then 1 else 2)) = r) []) := by
  refine MW.intro (by decide) (Nat.le_of_ble_eq_true rfl) (fun p_ e_ s_ m_ as_ bl_ me_ c_ A_ X hr hnm => ?_)
  have X : VX p_ s_ m_ as_ me_ c_ cJ21_stringSize 4 RJ21 D dd A_ := X
  refine v_eq (loc' := [(0, .int (nI v))]) rfl rfl rfl ?_
  refine v_iconst (pc := 0) (v := nI 1) X dJ21_stringSize_0 rfl ?_
  refine v_istore_n (pc := 1) (loc' := [(1, .int (nI 1)), (0, .int (nI v))]) X dJ21_stringSize_1 rfl (by decide) rfl ?_
  refine v_iload_n (pc := 2) X dJ21_stringSize_2 rfl 1 rfl ?_
  refine v_if_lt (pc := 3) X 11 dJ21_stringSize_3 (by decide) (fun h3 => absurd h3 (nI_nn (by omega))) (fun h3 => ?_)
  refine v_iconst (pc := 6) (v := nI 0) X dJ21_stringSize_6 rfl ?_
  refine v_istore_n (pc := 7) (loc' := [(1, .int (nI 0)), (0, .int (nI v))]) X dJ21_stringSize_7 rfl (by decide) rfl ?_
  refine v_iload_n (pc := 8) X dJ21_stringSize_8 rfl 1 rfl ?_
  refine v_ineg (pc := 9) X dJ21_stringSize_9 ?_
  refine v_top (y := (-(nI v))) rfl ?_
  refine v_istore_n (pc := 10) (loc' := [(0, .int (-(nI v))), (1, .int (nI 0))]) X dJ21_stringSize_10 rfl (by decide) rfl ?_
  refine v_bipush (pc := 11) (v := -10) X dJ21_stringSize_11 rfl ?_
  refine v_istore_n (pc := 13) (loc' := [(2, .int ((-10))), (0, .int (-(nI v))), (1, .int (nI 0))]) X dJ21_stringSize_13 rfl (by decide) rfl ?_
  refine v_iconst (pc := 14) (v := nI 1) X dJ21_stringSize_14 rfl ?_
  refine v_istore_n (pc := 15) (loc' := [(3, .int (nI 1)), (2, .int ((-10))), (0, .int (-(nI v))), (1, .int (nI 0))]) X dJ21_stringSize_15 rfl (by decide) rfl ?_
  refine v_iload_n (pc := 16) X dJ21_stringSize_16 rfl 0 rfl ?_
  refine v_bipush (pc := 17) (v := nI 10) X dJ21_stringSize_17 rfl ?_
  refine v_ic_geN (pc := 19) X (by omega) (by omega) 42 dJ21_stringSize_19 (by decide) (fun h19 => absurd h19 (by omega)) (fun h19 => ?_)
  refine v_iload_n (pc := 22) X dJ21_stringSize_22 rfl 2 rfl ?_
  refine v_iload_n (pc := 23) X dJ21_stringSize_23 rfl 1 rfl ?_
  refine v_ic_le (pc := 24) X 31 dJ21_stringSize_24 (by decide) (fun h24 => ?_) (fun h24 => ?_)
  · have hv9 : 10 ≤ v := (ng_10 v hv).mp h24
    refine v_bipush (pc := 31) (v := nI 10) X dJ21_stringSize_31 rfl ?_
    refine v_iload_n (pc := 33) X dJ21_stringSize_33 rfl 1 rfl ?_
    refine v_imul (pc := 34) X dJ21_stringSize_34 ?_
    refine v_istore_n (pc := 35) (loc' := [(2, .int (((nI 10)) * (((-10))))), (3, .int (nI 1)), (0, .int (-(nI v))), (1, .int (nI 0))]) X dJ21_stringSize_35 rfl (by decide) rfl ?_
    refine v_iinc (pc := 36) (v := (nI (1 + 1))) (loc' := [(3, .int (nI (1 + 1))), (2, .int (((nI 10)) * (((-10))))), (0, .int (-(nI v))), (1, .int (nI 0))]) X dJ21_stringSize_36 1 rfl (nI_add _ 1) (by decide) rfl ?_
    refine v_goto (pc := 39) X 16 dJ21_stringSize_39 (by decide) ?_
    refine v_iload_n (pc := 16) X dJ21_stringSize_16 rfl 0 rfl ?_
    refine v_bipush (pc := 17) (v := nI 10) X dJ21_stringSize_17 rfl ?_
    refine v_ic_geN (pc := 19) X (by omega) (by omega) 42 dJ21_stringSize_19 (by decide) (fun h19 => absurd h19 (by omega)) (fun h19 => ?_)
    refine v_iload_n (pc := 22) X dJ21_stringSize_22 rfl 2 rfl ?_
    refine v_iload_n (pc := 23) X dJ21_stringSize_23 rfl 1 rfl ?_
    refine v_ic_le (pc := 24) X 31 dJ21_stringSize_24 (by decide) (fun h24 => (ng_10b v hv h24).elim) (fun h24 => ?_)
    refine v_iload_n (pc := 27) X dJ21_stringSize_27 rfl 0 rfl ?_
    refine v_iload_n (pc := 28) X dJ21_stringSize_28 rfl 3 rfl ?_
    refine v_iaddN (pc := 29) X dJ21_stringSize_29 ?_
    exact v_iret (pc := 30) X hr dJ21_stringSize_30 ⟨⟨_, rfl, by rw [if_neg (by omega)]⟩, rfl⟩
  · refine v_iload_n (pc := 27) X dJ21_stringSize_27 rfl 0 rfl ?_
    refine v_iload_n (pc := 28) X dJ21_stringSize_28 rfl 3 rfl ?_
    refine v_iaddN (pc := 29) X dJ21_stringSize_29 ?_
    exact v_iret (pc := 30) X hr dJ21_stringSize_30 ⟨⟨_, rfl, by rw [if_pos (by have : ¬ 10 ≤ v := fun z => h24 ((ng_10 v hv).mpr z); omega)]⟩, rfl⟩
theorem hdJ21_getChars : yJ21_getChars.cls ≠ "java/lang/invoke/MethodHandle" ∧ yJ21_getChars.cls ≠ "java/lang/invoke/VarHandle" ∧ (parseMethodDescriptor yJ21_getChars.desc).map (fun d => d.parameters.length) = some 3 := by decide +kernel
set_option maxHeartbeats 4000000 in
theorem c_J21_getChars {l_ : Launch} {D : va_G} {dd : Nat → ClassId} {va v i j n : Nat} {f : Nat → Int32} (hv : v < 100) (hj : j = i + if v ≤ 9 then 1 else 2) (hn : j ≤ n) (hn2 : n < 1000) : MW l_ D dd yJ21_getChars cJ21_getChars 7 (some .int) 0 0 0 0 [.int (nI v), .int (nI j), .ref va] ([(va, .inl (dd 2, n, .inl f))]) (fun r w => r = some (.int (nI i)) ∧ w = [(va, .inl (dd 2, n, .inl (if v ≤ 9 then upd f i (bt (48 + v % 10)) else upd (upd f (i + 1) (bt (48 + v % 10))) i (bt (48 + v / 10)))))]) := by
  have hj1 : 1 ≤ j := by split at hj <;> omega
  refine MW.intro (by decide) (Nat.le_of_ble_eq_true rfl) (fun p_ e_ s_ m_ as_ bl_ me_ c_ A_ X hr hnm => ?_)
  have X : VX p_ s_ m_ as_ me_ c_ cJ21_getChars 7 RJ21 D dd A_ := X
  refine v_eq (loc' := [(0, .int (nI v)), (1, .int (nI j)), (2, .ref va)]) rfl rfl rfl ?_
  refine v_iload_n (pc := 0) X dJ21_getChars_0 rfl 1 rfl ?_
  refine v_istore (pc := 1) (loc' := [(5, .int (nI j)), (0, .int (nI v)), (1, .int (nI j)), (2, .ref va)]) X dJ21_getChars_1 (by decide) rfl ?_
  refine v_iload_n (pc := 3) X dJ21_getChars_3 rfl 1 rfl ?_
  refine v_if_ge (pc := 4) X 11 dJ21_getChars_4 (by decide) (fun h4 => ?_) (fun h4 => absurd (nI_ge0 (by omega)) h4)
  refine v_iconst (pc := 11) (v := nI 0) X dJ21_getChars_11 rfl ?_
  refine v_istore (pc := 12) (loc' := [(6, .int (nI 0)), (5, .int (nI j)), (0, .int (nI v)), (1, .int (nI j)), (2, .ref va)]) X dJ21_getChars_12 (by decide) rfl ?_
  refine v_iload (pc := 14) X dJ21_getChars_14 0 rfl ?_
  refine v_if_neN (pc := 16) X (by omega) 22 dJ21_getChars_16 (by decide) (fun h16 => absurd rfl h16) (fun h16 => ?_)
  refine v_iload_n (pc := 19) X dJ21_getChars_19 rfl 2 rfl ?_
  refine v_ineg (pc := 20) X dJ21_getChars_20 ?_
  refine v_top (y := (-(nI v))) rfl ?_
  refine v_istore_n (pc := 21) (loc' := [(0, .int (-(nI v))), (6, .int (nI 0)), (5, .int (nI j)), (1, .int (nI j)), (2, .ref va)]) X dJ21_getChars_21 rfl (by decide) rfl ?_
  refine v_iload_n (pc := 22) X dJ21_getChars_22 rfl 0 rfl ?_
  refine v_bipush (pc := 23) (v := -100) X dJ21_getChars_23 rfl ?_
  refine v_ic_gt (pc := 25) X 72 dJ21_getChars_25 (by decide) (fun h25 => ?_) (fun h25 => absurd (ng_100 v hv) h25)
  refine v_aload_n (pc := 72) X dJ21_getChars_72 rfl 4 rfl ?_
  refine v_iinc (pc := 73) (v := (nI (j - 1))) (loc' := [(5, .int (nI (j - 1))), (0, .int (-(nI v))), (6, .int (nI 0)), (1, .int (nI j)), (2, .ref va)]) X dJ21_getChars_73 2 rfl (nI_dec (by omega)) (by decide) rfl ?_
  refine v_iload (pc := 76) X dJ21_getChars_76 0 rfl ?_
  refine v_getD (pc := 78) X (List.mem_of_getElem? (l := zD) (i := 0) rfl) q655 dJ21_getChars_78 (fun t78 hT78 => ?_)
  refine v_iload_n (pc := 81) X dJ21_getChars_81 rfl 1 rfl ?_
  refine v_ineg (pc := 82) X dJ21_getChars_82 ?_
  refine v_top (y := (nI v)) (ng_ng v hv) ?_
  refine v_tbld (pc := 83) (j := v) X hT78 rfl (by omega) (by decide) rfl dJ21_getChars_83 ?_
  refine v_bast (pc := 84) X 0 rfl rfl (by omega) (by omega) dJ21_getChars_84 (ws' := [(va, .inl (dd 2, n, .inl (upd f (j - 1) (bt (48 + v % 10)))))]) (by rw [show upd f (j - 1) (vp_nar .byte ((nI (48 + v % 10)))) = upd f (j - 1) (bt (48 + v % 10)) from rfl]; rfl) ?_
  refine v_iload_n (pc := 85) X dJ21_getChars_85 rfl 1 rfl ?_
  refine v_bipush (pc := 86) (v := -9) X dJ21_getChars_86 rfl ?_
  refine v_ic_ge (pc := 88) X 104 dJ21_getChars_88 (by decide) (fun h88 => ?_) (fun h88 => ?_)
  · have hv9 : v ≤ 9 := (ng_9 v hv).mp h88
    have hji : j = i + 1 := by rw [hj, if_pos hv9]
    refine v_iload (pc := 104) X dJ21_getChars_104 2 rfl ?_
    refine v_if_eqN (pc := 106) X (by omega) 118 dJ21_getChars_106 (by decide) (fun h106 => ?_) (fun h106 => absurd rfl h106)
    refine v_iload (pc := 118) X dJ21_getChars_118 0 rfl ?_
    exact v_iret (pc := 120) X hr dJ21_getChars_120 ⟨by rw [hji]; rfl, by rw [if_pos hv9, show j - 1 = i by omega]⟩
  · have hv9 : ¬ v ≤ 9 := fun z => h88 ((ng_9 v hv).mpr z)
    have hji : j = i + 2 := by rw [hj, if_neg hv9]
    refine v_aload_n (pc := 91) X dJ21_getChars_91 rfl 4 rfl ?_
    refine v_iinc (pc := 92) (v := (nI (j - 1 - 1))) (loc' := [(5, .int (nI (j - 1 - 1))), (0, .int (-(nI v))), (6, .int (nI 0)), (1, .int (nI j)), (2, .ref va)]) X dJ21_getChars_92 0 rfl (nI_dec (by omega)) (by decide) rfl ?_
    refine v_iload (pc := 95) X dJ21_getChars_95 0 rfl ?_
    refine v_getD (pc := 97) X (List.mem_of_getElem? (l := zD) (i := 1) rfl) q657 dJ21_getChars_97 (fun t97 hT97 => ?_)
    refine v_iload_n (pc := 100) X dJ21_getChars_100 rfl 1 rfl ?_
    refine v_ineg (pc := 101) X dJ21_getChars_101 ?_
    refine v_top (y := (nI v)) (ng_ng v hv) ?_
    refine v_tbld (pc := 102) (j := v) X hT97 rfl (by omega) (by decide) rfl dJ21_getChars_102 ?_
    refine v_bast (pc := 103) X 0 rfl rfl (by omega) (by omega) dJ21_getChars_103 (ws' := [(va, .inl (dd 2, n, .inl (upd (upd f (j - 1) (bt (48 + v % 10))) (j - 1 - 1) (bt (48 + v / 10)))))]) (by rw [show upd (upd f (j - 1) (bt (48 + v % 10))) (j - 1 - 1) (vp_nar .byte ((nI (48 + v / 10)))) = upd (upd f (j - 1) (bt (48 + v % 10))) (j - 1 - 1) (bt (48 + v / 10)) from rfl]; rfl) ?_
    refine v_iload (pc := 104) X dJ21_getChars_104 2 rfl ?_
    refine v_if_eqN (pc := 106) X (by omega) 118 dJ21_getChars_106 (by decide) (fun h106 => ?_) (fun h106 => absurd rfl h106)
    refine v_iload (pc := 118) X dJ21_getChars_118 0 rfl ?_
    exact v_iret (pc := 120) X hr dJ21_getChars_120 ⟨by rw [hji]; rfl, by rw [if_neg hv9, show j - 1 - 1 = i by omega, show j - 1 = i + 1 by omega]⟩
theorem hdJ2_append_2_su : yJ2_append_2.name ≠ "<init>" ∧ (parseMethodDescriptor yJ2_append_2.desc).map (fun d => d.parameters.length) = some 1 := by decide +kernel
set_option maxHeartbeats 4000000 in
theorem c_J2_append_2 {l_ : Launch} {D : va_G} {dd : Nat → ClassId} {x va n v : Nat} {ml : Int32} {f : Nat → Int32} {t : List Nat} (hS : SbI 0 n f t) (hl : t.length < 88) (hv : v < 100) : MW l_ D dd yJ2_append_2 cJ2_append_2 4 (some (.object "java/lang/AbstractStringBuilder")) 4 1 380 160 [.ref x, .int (nI v)] ([(x, .inr (12, [.ref va, .int (nI 0), .int ml, .int (nI t.length)])), (va, .inl (dd 2, n, .inl f))]) (fun r w => r = some (.ref x) ∧ ∃ va2 n2 f2, w = [(x, .inr (12, [.ref va2, .int (nI 0), .int ml, .int (nI ((t ++ dec2 v).length))])), (va2, .inl (dd 2, n2, .inl f2))] ∧ SbI 0 n2 f2 (t ++ dec2 v)) := by
  obtain ⟨hT0, hB0, hl0, hn0⟩ := id hS
  have hsz : (if v ≤ 9 then 1 else 2) ≤ 2 := by split <;> omega
  refine MW.intro (by decide) (Nat.le_of_ble_eq_true rfl) (fun p_ e_ s_ m_ as_ bl_ me_ c_ A_ X hr hnm => ?_)
  have X : VX p_ s_ m_ as_ me_ c_ cJ2_append_2 4 RJ2 D dd A_ := X
  refine v_eq (loc' := [(0, .ref x), (1, .int (nI v))]) rfl rfl rfl ?_
  refine v_aload_n (pc := 0) X dJ2_append_2_0 rfl 0 rfl ?_
  refine v_getM (pc := 1) X in_J3 (List.mem_of_getElem? (i := 0) rfl) rfl 3 (by decide) q282 (fun y h => h) rfl dJ2_append_2_1 ?_
  refine v_istore_n (pc := 4) (loc' := [(2, .int (nI t.length)), (0, .ref x), (1, .int (nI v))]) X dJ2_append_2_4 rfl (by decide) rfl ?_
  refine v_iload_n (pc := 5) X dJ2_append_2_5 rfl 0 rfl ?_
  refine v_iload_n (pc := 6) X dJ2_append_2_6 rfl 2 rfl ?_
  refine v_read (pc := 7) X ⟨_, List.Perm.refl ([] ++ _)⟩ (r_S X (c_J21_stringSize (v := v) (by omega)) (lw_S q649 q650 q125 q651) hdJ21_stringSize ⟨by dsimp only; omega, by dsimp only; omega⟩ rfl rfl (Nat.le_of_ble_eq_true rfl) dJ2_append_2_7 ⟨by dsimp only; omega, by dsimp only; omega⟩) (fun r7 h7 => ?_)
  subst h7
  refine v_iaddN (pc := 10) X dJ2_append_2_10 ?_
  refine v_istore_n (pc := 11) (loc' := [(3, .int (nI (t.length + (if v ≤ 9 then 1 else 2)))), (2, .int (nI t.length)), (0, .ref x), (1, .int (nI v))]) X dJ2_append_2_11 rfl (by decide) rfl ?_
  refine v_aload_n (pc := 12) X dJ2_append_2_12 rfl 2 rfl ?_
  refine v_iload_n (pc := 13) X dJ2_append_2_13 rfl 0 rfl ?_
  refine v_frame (pc := 14) X (wr := []) (perm_nil _) (r_P X (c_J2_ensureCapacityInternal_0 (cnt := t.length) (min := t.length + (if v ≤ 9 then 1 else 2)) hS.2.1 hS.2.2.2 (by omega)) (List.mem_of_getElem? (i := 0) rfl) rfl q540 (lw_P q539 q2441 q541 q97 q542) hdJ2_ensureCapacityInternal ⟨by dsimp only; omega, by dsimp only; omega⟩ rfl rfl (Nat.le_of_ble_eq_true rfl) dJ2_append_2_14 ⟨by dsimp only; omega, by dsimp only; omega⟩) (fun v14 w14 h14 => ?_)
  obtain ⟨rfl, va2, n2, f2, rfl, hfg, hB2, hn1, hn2, hn3⟩ := h14
  refine v_eq (ws' := [(x, .inr (12, [.ref va2, .int (nI 0), .int ml, .int (nI t.length)])), (va2, .inl (dd 2, n2, .inl f2))]) rfl rfl rfl ?_
  have hS2 := hS.ext hfg hB2 hn1 hn3
  refine v_aload_n (pc := 17) X dJ2_append_2_17 rfl 2 rfl ?_
  refine v_read (pc := 18) X ⟨[], perm_nil _⟩ (r_U X (c_J2_isLatin1 (List.mem_of_getElem? (i := 0) rfl) (by omega)) (List.mem_of_getElem? (i := 0) rfl) rfl rfl (lw_U q568 q570 q571 q569 q97 q572) rfl hdJ2_isLatin1 ⟨by dsimp only; omega, by dsimp only; omega⟩ rfl rfl (Nat.le_of_ble_eq_true rfl) dJ2_append_2_18 ⟨by dsimp only; omega, by dsimp only; omega⟩) (fun r18 h18 => ?_)
  subst h18
  refine v_if_eqB (pc := 21) X 37 dJ2_append_2_21 (by decide) (fun h21 => absurd rfl h21) (fun h21 => ?_)
  refine v_iload_n (pc := 24) X dJ2_append_2_24 rfl 3 rfl ?_
  refine v_iload_n (pc := 25) X dJ2_append_2_25 rfl 0 rfl ?_
  refine v_aload_n (pc := 26) X dJ2_append_2_26 rfl 2 rfl ?_
  refine v_getM (pc := 27) X in_J3 (List.mem_of_getElem? (i := 0) rfl) rfl 0 (by decide) q278 (fun y h => h) rfl dJ2_append_2_27 ?_
  refine v_frame (pc := 30) X (wr := [(x, .inr (12, [.ref va2, .int (nI 0), .int ml, .int (nI t.length)]))]) (mv_perm 1 _) (r_S X (c_J21_getChars (i := t.length) hv rfl (by omega) (by omega)) (lw_S q652 q653 q125 q654) hdJ21_getChars ⟨by dsimp only; omega, by dsimp only; omega⟩ rfl rfl (Nat.le_of_ble_eq_true rfl) dJ2_append_2_30 ⟨by dsimp only; omega, by dsimp only; omega⟩) (fun v30 w30 h30 => ?_)
  obtain ⟨rfl, rfl⟩ := h30
  refine v_eq (ws' := [(va2, .inl (dd 2, n2, .inl ((if v ≤ 9 then upd f2 t.length (bt (48 + v % 10)) else upd (upd f2 (t.length + 1) (bt (48 + v % 10))) t.length (bt (48 + v / 10)))))), (x, .inr (12, [.ref va2, .int (nI 0), .int ml, .int (nI t.length)]))]) rfl rfl rfl ?_
  refine v_pop (pc := 33) X dJ2_append_2_33 rfl ?_
  refine v_goto (pc := 34) X 48 dJ2_append_2_34 (by decide) ?_
  refine v_aload_n (pc := 48) X dJ2_append_2_48 rfl 2 rfl ?_
  refine v_iload_n (pc := 49) X dJ2_append_2_49 rfl 0 rfl ?_
  refine v_top (y := (nI ((t ++ dec2 v).length))) (by rw [List.length_append, dec2_l]) ?_
  refine v_put (pc := 50) X in_J3 tyJ3 tyJ3_ok nmJ3 1 rfl rfl 3 (by decide) q282 (fun y h => h) rfl rfl rfl (Nat.le_of_ble_eq_true rfl) dJ2_append_2_50 (ws' := [(va2, .inl (dd 2, n2, .inl ((if v ≤ 9 then upd f2 t.length (bt (48 + v % 10)) else upd (upd f2 (t.length + 1) (bt (48 + v % 10))) t.length (bt (48 + v / 10)))))), (x, .inr (12, [.ref va2, .int (nI 0), .int ml, .int (nI ((t ++ dec2 v).length))]))]) rfl ?_
  refine v_perm (ws' := [(x, .inr (12, [.ref va2, .int (nI 0), .int ml, .int (nI ((t ++ dec2 v).length))])), (va2, .inl (dd 2, n2, .inl ((if v ≤ 9 then upd f2 t.length (bt (48 + v % 10)) else upd (upd f2 (t.length + 1) (bt (48 + v % 10))) t.length (bt (48 + v / 10))))))]) ((mv_perm 0 _).trans (mv_perm 1 _)) ?_
  refine v_aload_n (pc := 53) X dJ2_append_2_53 rfl 2 rfl ?_
  refine v_widen (k := 1) (n := 380) (by omega) (by omega) ?_
  exact v_aret (pc := 54) X hr (Or.inl ⟨_, rfl⟩) dJ2_append_2_54 ⟨rfl, _, _, _, rfl, decS hS2 hv (by omega)⟩
theorem hdJ3_append_2 : yJ3_append_2.cls = RJ3 ∧ yJ3_append_2.cls ≠ "java/lang/invoke/MethodHandle" ∧ yJ3_append_2.cls ≠ "java/lang/invoke/VarHandle" ∧ (parseMethodDescriptor yJ3_append_2.desc).map (fun d => d.parameters.length) = some 1 := by decide +kernel
set_option maxHeartbeats 4000000 in
theorem c_J3_append_2 {l_ : Launch} {D : va_G} {dd : Nat → ClassId} {x va n v : Nat} {ml : Int32} {f : Nat → Int32} {t : List Nat} (hS : SbI 0 n f t) (hl : t.length < 88) (hv : v < 100) : MW l_ D dd yJ3_append_2 cJ3_append_2 2 (some (.object "java/lang/StringBuilder")) 5 1 380 210 [.ref x, .int (nI v)] ([(x, .inr (12, [.ref va, .int (nI 0), .int ml, .int (nI t.length)])), (va, .inl (dd 2, n, .inl f))]) (fun r w => r = some (.ref x) ∧ ∃ va2 n2 f2, w = [(x, .inr (12, [.ref va2, .int (nI 0), .int ml, .int (nI ((t ++ dec2 v).length))])), (va2, .inl (dd 2, n2, .inl f2))] ∧ SbI 0 n2 f2 (t ++ dec2 v)) := by
  refine MW.intro (by decide) (Nat.le_of_ble_eq_true rfl) (fun p_ e_ s_ m_ as_ bl_ me_ c_ A_ X hr hnm => ?_)
  have X : VX p_ s_ m_ as_ me_ c_ cJ3_append_2 2 RJ3 D dd A_ := X
  refine v_eq (loc' := [(0, .ref x), (1, .int (nI v))]) rfl rfl rfl ?_
  refine v_aload_n (pc := 0) X dJ3_append_2_0 rfl 0 rfl ?_
  refine v_iload_n (pc := 1) X dJ3_append_2_1 rfl 1 rfl ?_
  refine v_frame (pc := 2) X (wr := []) (perm_nil _) (r_SU X (c_J2_append_2 hS hl hv) (List.mem_of_getElem? (i := 0) rfl) rfl (lw_SU q646 q2446 q291 q647 q97 q648) hdJ2_append_2_su ⟨by dsimp only; omega, by dsimp only; omega⟩ rfl rfl (Nat.le_of_ble_eq_true rfl) dJ3_append_2_2 ⟨by dsimp only; omega, by dsimp only; omega⟩) (fun v2 w2 h2 => ?_)
  obtain ⟨rfl, va2, n2, f2, rfl, hS2⟩ := h2
  refine v_eq (ws' := [(x, .inr (12, [.ref va2, .int (nI 0), .int ml, .int (nI ((t ++ dec2 v).length))])), (va2, .inl (dd 2, n2, .inl f2))]) rfl rfl rfl ?_
  refine v_pop (pc := 5) X dJ3_append_2_5 rfl ?_
  refine v_aload_n (pc := 6) X dJ3_append_2_6 rfl 0 rfl ?_
  refine v_widen (k := 1) (n := 380) (by omega) (by omega) ?_
  exact v_aret (pc := 7) X hr (Or.inl ⟨_, rfl⟩) dJ3_append_2_7 ⟨rfl, _, _, _, rfl, hS2⟩

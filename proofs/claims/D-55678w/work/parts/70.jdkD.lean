theorem SbI.ext {co n n2 : Nat} {f g : Nat → Int32} {t : List Nat} (h : SbI co n f t) (hfg : ∀ i, i < n → g i = f i) (hB : BF g n2) (h1 : n ≤ n2) (h2 : n2 ≤ (co + 1) * 190) : SbI co n2 g t :=
  ⟨h.1.ext h.2.2.1 hfg, hB, Nat.le_trans h.2.2.1 h1, h2⟩
theorem SbI.l1 {n : Nat} {f : Nat → Int32} {t : List Nat} (h : SbI 0 n f t) : L1Is f t := by
  rcases h.1 with h | h
  · exact h.2
  · exact absurd h.1 (by decide)
theorem SbI.u16 {n : Nat} {f : Nat → Int32} {t : List Nat} (h : SbI 1 n f t) : U16Is f t := by
  rcases h.1 with h | h
  · exact absurd h.1 (by decide)
  · exact h.2
theorem SbI.push0 {n : Nat} {f : Nat → Int32} {t : List Nat} {c : Nat} (h : SbI 0 n f t) (hn : t.length + 1 ≤ n) (hc : c < 256) : SbI 0 n (upd f t.length (bt c)) (t ++ [c]) :=
  ⟨Or.inl ⟨rfl, h.l1.push hc⟩, h.2.1.up _ _, by rw [List.length_append]; show _ * (_ + 1) ≤ n; omega, h.2.2.2⟩
theorem SbI.push1 {n : Nat} {f : Nat → Int32} {t : List Nat} {c : Nat} (h : U16Is f t) (hB : BF f n) (hn : 2 * (t.length + 1) ≤ n) (hn2 : n ≤ 380) (hc : c < 65536) : SbI 1 n (upd (upd f (2 * t.length) (bt (c % 256))) (2 * t.length + 1) (bt (c / 256))) (t ++ [c]) :=
  ⟨Or.inr ⟨rfl, h.push hc⟩, (hB.up _ _).up _ _, by rw [List.length_append]; show _ * (_ + 1) ≤ n; omega, by omega⟩
theorem L1Is.cat {f g : Nat → Int32} {t u : List Nat} (h : L1Is f t) (h2 : L1Is g u) : L1Is (va_cpy g f 0 t.length u.length) (t ++ u) := by
  intro i c hi
  unfold va_cpy
  by_cases e : i < t.length
  · rw [List.getElem?_append_left e] at hi
    rw [if_neg (by omega)]
    exact h i c hi
  · rw [List.getElem?_append_right (by omega)] at hi
    have := (List.getElem?_eq_some_iff.mp hi).1
    rw [if_pos (by omega), Nat.zero_add]
    exact h2 _ c hi
theorem L1Is.bf {f : Nat → Int32} {t : List Nat} (h : L1Is f t) : BF f t.length := by
  intro i hi
  rw [(h i _ (List.getElem?_eq_getElem hi)).1]
  exact fits_bt _
theorem ng_100 : ∀ v, v < 100 → -100 < -(nI v) := by decide +kernel
theorem ng_9 : ∀ v, v < 100 → (-9 ≤ -(nI v) ↔ v ≤ 9) := by decide +kernel
theorem ng_10 : ∀ v, v < 100 → (-(nI v) ≤ -10 ↔ 10 ≤ v) := by decide +kernel
theorem ng_ng : ∀ v, v < 100 → -(-(nI v)) = nI v := by decide +kernel
theorem hdJ2_inflate : yJ2_inflate.cls ≠ "java/lang/invoke/MethodHandle" ∧ yJ2_inflate.cls ≠ "java/lang/invoke/VarHandle" ∧ (parseMethodDescriptor yJ2_inflate.desc).map (fun d => d.parameters.length) = some 0 := by decide +kernel
set_option maxHeartbeats 4000000 in
theorem c_J2_inflate {l_ : Launch} {D : va_G} {dd : Nat → ClassId} {x va n : Nat} {ml : Int32} {f : Nat → Int32} {t : List Nat} (hL : L1Is f t) (hB : BF f n) (hl : t.length ≤ n) (hn : n ≤ 190) : MW l_ D dd yJ2_inflate cJ2_inflate 2 none 5 1 (2 * n) 180 [.ref x] ([(x, .inr (12, [.ref va, .int (nI 0), .int ml, .int (nI t.length)])), (va, .inl (dd 2, n, .inl f))]) (fun r w => r = none ∧ ∃ va2 g, w = [(x, .inr (12, [.ref va2, .int (nI 1), .int ml, .int (nI t.length)])), (va2, .inl (dd 2, 2 * n, .inl g))] ∧ U16Is g t ∧ BF g (2 * n)) := by
  refine MW.intro (by decide) (Nat.le_of_ble_eq_true rfl) (fun p_ e_ s_ m_ as_ bl_ me_ c_ A_ X hr hnm => ?_)
  have X : VX p_ s_ m_ as_ me_ c_ cJ2_inflate 2 RJ2 D dd A_ := X
  refine v_eq (loc' := [(0, .ref x)]) rfl rfl rfl ?_
  refine v_aload_n (pc := 0) X dJ2_inflate_0 rfl 0 rfl ?_
  refine v_read (pc := 1) X ⟨[], perm_nil _⟩ (r_U X (c_J2_isLatin1 (List.mem_of_getElem? (i := 0) rfl) (by omega)) (List.mem_of_getElem? (i := 0) rfl) rfl rfl (lw_U q568 q570 q571 q569 q97 q572) rfl hdJ2_isLatin1 ⟨by dsimp only; omega, by dsimp only; omega⟩ rfl rfl (Nat.le_of_ble_eq_true rfl) dJ2_inflate_1 ⟨by dsimp only; omega, by dsimp only; omega⟩) (fun r1 h1 => ?_)
  subst h1
  refine v_if_neB (pc := 4) X 8 dJ2_inflate_4 (by decide) (fun h4 => ?_) (fun h4 => absurd rfl h4)
  refine v_aload_n (pc := 8) X dJ2_inflate_8 rfl 0 rfl ?_
  refine v_getM (pc := 9) X in_J3 (List.mem_of_getElem? (i := 0) rfl) rfl 0 (by decide) q278 (fun y h => h) rfl dJ2_inflate_9 ?_
  refine v_alenM (pc := 12) X 2 (List.mem_of_getElem? (i := 1) rfl) rfl dJ2_inflate_12 ?_
  refine v_top (y := nI n) rfl ?_
  refine v_frame (pc := 13) X (wr := [(x, .inr (12, [.ref va, .int (nI 0), .int ml, .int (nI t.length)])), (va, .inl (dd 2, n, .inl f))]) (List.Perm.refl _) (r_S X (c_J5_newBytesFor (n := n) (by omega)) (lw_S q271 q272 q100 q273) hdJ5_newBytesFor ⟨by dsimp only; omega, by dsimp only; omega⟩ rfl rfl (Nat.le_of_ble_eq_true rfl) dJ2_inflate_13 ⟨by dsimp only; omega, by dsimp only; omega⟩) (fun v13 w13 h13 => ?_)
  obtain ⟨q1, rfl, rfl⟩ := h13
  refine v_eq (ws' := [(q1, .inl (dd 2, 2 * n, .inl (fun _ => 0))), (x, .inr (12, [.ref va, .int (nI 0), .int ml, .int (nI t.length)])), (va, .inl (dd 2, n, .inl f))]) rfl rfl rfl ?_
  refine v_astore_n (pc := 16) (loc' := [(1, .ref q1), (0, .ref x)]) X dJ2_inflate_16 rfl (by decide) rfl ?_
  refine v_aload_n (pc := 17) X dJ2_inflate_17 rfl 1 rfl ?_
  refine v_getM (pc := 18) X in_J3 (List.mem_of_getElem? (i := 1) rfl) rfl 0 (by decide) q278 (fun y h => h) rfl dJ2_inflate_18 ?_
  refine v_iconst (pc := 21) (v := nI 0) X dJ2_inflate_21 rfl ?_
  refine v_aload_n (pc := 22) X dJ2_inflate_22 rfl 0 rfl ?_
  refine v_iconst (pc := 23) (v := nI 0) X dJ2_inflate_23 rfl ?_
  refine v_aload_n (pc := 24) X dJ2_inflate_24 rfl 1 rfl ?_
  refine v_getM (pc := 25) X in_J3 (List.mem_of_getElem? (i := 1) rfl) rfl 3 (by decide) q282 (fun y h => h) rfl dJ2_inflate_25 ?_
  refine v_frame (pc := 28) X (wr := [(x, .inr (12, [.ref va, .int (nI 0), .int ml, .int (nI t.length)]))]) ((mv_perm 0 _).trans (mv_perm 2 _)) (r_S X (c_J20_inflate hL hl (by omega) (by omega) (by omega) (BF.zero _)) (lw_S q621 q622 q123 q623) hdJ20_inflate ⟨by dsimp only; omega, by dsimp only; omega⟩ rfl rfl (Nat.le_of_ble_eq_true rfl) dJ2_inflate_28 ⟨by dsimp only; omega, by dsimp only; omega⟩) (fun v28 w28 h28 => ?_)
  obtain ⟨rfl, g2, rfl, hU, hB2⟩ := h28
  refine v_eq (ws' := [(va, .inl (dd 2, n, .inl f)), (q1, .inl (dd 2, 2 * n, .inl g2)), (x, .inr (12, [.ref va, .int (nI 0), .int ml, .int (nI t.length)]))]) rfl rfl rfl ?_
  refine v_aload_n (pc := 31) X dJ2_inflate_31 rfl 1 rfl ?_
  refine v_aload_n (pc := 32) X dJ2_inflate_32 rfl 0 rfl ?_
  refine v_put (pc := 33) X in_J3 tyJ3 tyJ3_ok nmJ3 2 rfl rfl 0 (by decide) q278 (fun y h => h) rfl rfl rfl (Nat.le_of_ble_eq_true rfl) dJ2_inflate_33 (ws' := [(va, .inl (dd 2, n, .inl f)), (q1, .inl (dd 2, 2 * n, .inl g2)), (x, .inr (12, [.ref q1, .int (nI 0), .int ml, .int (nI t.length)]))]) rfl ?_
  refine v_aload_n (pc := 36) X dJ2_inflate_36 rfl 1 rfl ?_
  refine v_iconst (pc := 37) (v := nI 1) X dJ2_inflate_37 rfl ?_
  refine v_put (pc := 38) X in_J3 tyJ3 tyJ3_ok nmJ3 2 rfl rfl 1 (by decide) q279 (fun y h => h) rfl rfl rfl (Nat.le_of_ble_eq_true rfl) dJ2_inflate_38 (ws' := [(va, .inl (dd 2, n, .inl f)), (q1, .inl (dd 2, 2 * n, .inl g2)), (x, .inr (12, [.ref q1, .int (nI 1), .int ml, .int (nI t.length)]))]) rfl ?_
  refine v_perm (ws' := [(q1, .inl (dd 2, 2 * n, .inl g2)), (x, .inr (12, [.ref q1, .int (nI 1), .int ml, .int (nI t.length)])), (va, .inl (dd 2, n, .inl f))]) (((mv_perm 0 _).trans (mv_perm 2 _)).trans (mv_perm 2 _)) ?_
  refine v_less (ws' := [(q1, .inl (dd 2, 2 * n, .inl g2)), (x, .inr (12, [.ref q1, .int (nI 1), .int ml, .int (nI t.length)]))]) (List.sublist_append_left ([(q1, .inl (dd 2, 2 * n, .inl g2)), (x, .inr (12, [.ref q1, .int (nI 1), .int ml, .int (nI t.length)]))] : va_W) _) ?_
  refine v_perm (ws' := [(x, .inr (12, [.ref q1, .int (nI 1), .int ml, .int (nI t.length)])), (q1, .inl (dd 2, 2 * n, .inl g2))]) ((mv_perm 0 _).trans (mv_perm 1 _)) ?_
  refine v_widen (k := 1) (n := (2 * n)) (by omega) (by omega) ?_
  exact v_vret (pc := 41) X hr dJ2_inflate_41 ⟨rfl, _, _, rfl, hU, hB2⟩
theorem hdJ2_append_3_su : yJ2_append_3.name ≠ "<init>" ∧ (parseMethodDescriptor yJ2_append_3.desc).map (fun d => d.parameters.length) = some 1 := by decide +kernel
set_option maxHeartbeats 4000000 in
theorem c_J2_append_3_0 {l_ : Launch} {D : va_G} {dd : Nat → ClassId} {x va n : Nat} {ml : Int32} {f : Nat → Int32} {t : List Nat} {c : Nat} (hS : SbI 0 n f t) (hl : t.length < 90) (hc : c < 65536) : MW l_ D dd yJ2_append_3 cJ2_append_3 2 (some (.object "java/lang/AbstractStringBuilder")) 6 2 760 240 [.ref x, .int (nI c)] ([(x, .inr (12, [.ref va, .int (nI 0), .int ml, .int (nI t.length)])), (va, .inl (dd 2, n, .inl f))]) (fun r w => r = some (.ref x) ∧ ∃ va2 co2 n2 f2, w = [(x, .inr (12, [.ref va2, .int (nI co2), .int ml, .int (nI ((t ++ [c]).length))])), (va2, .inl (dd 2, n2, .inl f2))] ∧ SbI co2 n2 f2 (t ++ [c]) ∧ (c < 256 → co2 = 0) ∧ n ≤ n2) := by
  obtain ⟨hT0, hB0, hl0, hn0⟩ := id hS
  refine MW.intro (by decide) (Nat.le_of_ble_eq_true rfl) (fun p_ e_ s_ m_ as_ bl_ me_ c_ A_ X hr hnm => ?_)
  have X : VX p_ s_ m_ as_ me_ c_ cJ2_append_3 2 RJ2 D dd A_ := X
  refine v_eq (loc' := [(0, .ref x), (1, .int (nI c))]) rfl rfl rfl ?_
  refine v_aload_n (pc := 0) X dJ2_append_3_0 rfl 0 rfl ?_
  refine v_aload_n (pc := 1) X dJ2_append_3_1 rfl 0 rfl ?_
  refine v_getM (pc := 2) X in_J3 (List.mem_of_getElem? (i := 0) rfl) rfl 3 (by decide) q282 (fun y h => h) rfl dJ2_append_3_2 ?_
  refine v_iconst (pc := 5) (v := nI 1) X dJ2_append_3_5 rfl ?_
  refine v_iaddN (pc := 6) X dJ2_append_3_6 ?_
  refine v_frame (pc := 7) X (wr := []) (perm_nil _) (r_P X (c_J2_ensureCapacityInternal_0 (cnt := t.length) (min := t.length + 1) hS.2.1 hS.2.2.2 (by omega)) (List.mem_of_getElem? (i := 0) rfl) rfl q540 (lw_P q539 q2441 q541 q97 q542) hdJ2_ensureCapacityInternal ⟨by dsimp only; omega, by dsimp only; omega⟩ rfl rfl (Nat.le_of_ble_eq_true rfl) dJ2_append_3_7 ⟨by dsimp only; omega, by dsimp only; omega⟩) (fun v7 w7 h7 => ?_)
  obtain ⟨rfl, va2, n2, f2, rfl, hfg, hB2, hn1, hn2, hn3⟩ := h7
  refine v_eq (ws' := [(x, .inr (12, [.ref va2, .int (nI 0), .int ml, .int (nI t.length)])), (va2, .inl (dd 2, n2, .inl f2))]) rfl rfl rfl ?_
  have hS2 := hS.ext hfg hB2 hn1 hn3
  refine v_aload_n (pc := 10) X dJ2_append_3_10 rfl 0 rfl ?_
  refine v_read (pc := 11) X ⟨[], perm_nil _⟩ (r_U X (c_J2_isLatin1 (List.mem_of_getElem? (i := 0) rfl) (by omega)) (List.mem_of_getElem? (i := 0) rfl) rfl rfl (lw_U q568 q570 q571 q569 q97 q572) rfl hdJ2_isLatin1 ⟨by dsimp only; omega, by dsimp only; omega⟩ rfl rfl (Nat.le_of_ble_eq_true rfl) dJ2_append_3_11 ⟨by dsimp only; omega, by dsimp only; omega⟩) (fun r11 h11 => ?_)
  subst h11
  refine v_if_eqB (pc := 14) X 45 dJ2_append_3_14 (by decide) (fun h14 => absurd rfl h14) (fun h14 => ?_)
  refine v_iload_n (pc := 17) X dJ2_append_3_17 rfl 1 rfl ?_
  refine v_read (pc := 18) X ⟨_, List.Perm.refl ([] ++ _)⟩ (r_S X (c_J20_canEncode (c := c) (by omega)) (lw_S q807 q808 q123 q809) hdJ20_canEncode ⟨by dsimp only; omega, by dsimp only; omega⟩ rfl rfl (Nat.le_of_ble_eq_true rfl) dJ2_append_3_18 ⟨by dsimp only; omega, by dsimp only; omega⟩) (fun r18 h18 => ?_)
  subst h18
  refine v_if_eqB (pc := 21) X 45 dJ2_append_3_21 (by decide) (fun h21 => ?_) (fun h21 => ?_)
  · refine v_aload_n (pc := 45) X dJ2_append_3_45 rfl 0 rfl ?_
    refine v_read (pc := 46) X ⟨[], perm_nil _⟩ (r_U X (c_J2_isLatin1 (List.mem_of_getElem? (i := 0) rfl) (by omega)) (List.mem_of_getElem? (i := 0) rfl) rfl rfl (lw_U q568 q570 q571 q569 q97 q572) rfl hdJ2_isLatin1 ⟨by dsimp only; omega, by dsimp only; omega⟩ rfl rfl (Nat.le_of_ble_eq_true rfl) dJ2_append_3_46 ⟨by dsimp only; omega, by dsimp only; omega⟩) (fun r46 h46 => ?_)
    subst h46
    refine v_if_eqB (pc := 49) X 56 dJ2_append_3_49 (by decide) (fun h49 => absurd rfl h49) (fun h49 => ?_)
    refine v_aload_n (pc := 52) X dJ2_append_3_52 rfl 0 rfl ?_
    refine v_frame (pc := 53) X (wr := []) (perm_nil _) (r_P X (c_J2_inflate hS2.l1 hB2 (by omega) (by omega)) (List.mem_of_getElem? (i := 0) rfl) rfl q618 (lw_P q617 q2445 q619 q97 q620) hdJ2_inflate ⟨by dsimp only; omega, by dsimp only; omega⟩ rfl rfl (Nat.le_of_ble_eq_true rfl) dJ2_append_3_53 ⟨by dsimp only; omega, by dsimp only; omega⟩) (fun v53 w53 h53 => ?_)
    obtain ⟨rfl, va3, g3, rfl, hU3, hB3⟩ := h53
    refine v_eq (ws' := [(x, .inr (12, [.ref va3, .int (nI 1), .int ml, .int (nI t.length)])), (va3, .inl (dd 2, 2 * n2, .inl g3))]) rfl rfl rfl ?_
    refine v_aload_n (pc := 56) X dJ2_append_3_56 rfl 0 rfl ?_
    refine v_getM (pc := 57) X in_J3 (List.mem_of_getElem? (i := 0) rfl) rfl 0 (by decide) q278 (fun y h => h) rfl dJ2_append_3_57 ?_
    refine v_aload_n (pc := 60) X dJ2_append_3_60 rfl 0 rfl ?_
    refine v_dup (pc := 61) X dJ2_append_3_61 rfl ?_
    refine v_getM (pc := 62) X in_J3 (List.mem_of_getElem? (i := 0) rfl) rfl 3 (by decide) q282 (fun y h => h) rfl dJ2_append_3_62 ?_
    refine v_dup_x1 (pc := 65) X dJ2_append_3_65 rfl rfl ?_
    refine v_iconst (pc := 66) (v := nI 1) X dJ2_append_3_66 rfl ?_
    refine v_iaddN (pc := 67) X dJ2_append_3_67 ?_
    refine v_top (y := (nI ((t ++ [c]).length))) (by rw [List.length_append]; rfl) ?_
    refine v_put (pc := 68) X in_J3 tyJ3 tyJ3_ok nmJ3 0 rfl rfl 3 (by decide) q282 (fun y h => h) rfl rfl rfl (Nat.le_of_ble_eq_true rfl) dJ2_append_3_68 (ws' := [(x, .inr (12, [.ref va3, .int (nI 1), .int ml, .int (nI ((t ++ [c]).length))])), (va3, .inl (dd 2, 2 * n2, .inl g3))]) rfl ?_
    refine v_iload_n (pc := 71) X dJ2_append_3_71 rfl 1 rfl ?_
    refine v_frame (pc := 72) X (wr := [(x, .inr (12, [.ref va3, .int (nI 1), .int ml, .int (nI ((t ++ [c]).length))]))]) (mv_perm 1 _) (r_S X (c_J5_putCharSB (i := t.length) (c := c) (by omega) (by omega) (by omega)) (lw_S q810 q811 q100 q812) hdJ5_putCharSB ⟨by dsimp only; omega, by dsimp only; omega⟩ rfl rfl (Nat.le_of_ble_eq_true rfl) dJ2_append_3_72 ⟨by dsimp only; omega, by dsimp only; omega⟩) (fun v72 w72 h72 => ?_)
    obtain ⟨rfl, rfl⟩ := h72
    refine v_eq (ws' := [(va3, .inl (dd 2, 2 * n2, .inl (upd (upd g3 (2 * t.length) (bt (c % 256))) (2 * t.length + 1) (bt (c / 256))))), (x, .inr (12, [.ref va3, .int (nI 1), .int ml, .int (nI ((t ++ [c]).length))]))]) rfl rfl rfl ?_
    refine v_perm (ws' := [(x, .inr (12, [.ref va3, .int (nI 1), .int ml, .int (nI ((t ++ [c]).length))])), (va3, .inl (dd 2, 2 * n2, .inl (upd (upd g3 (2 * t.length) (bt (c % 256))) (2 * t.length + 1) (bt (c / 256)))))]) ((mv_perm 0 _).trans (mv_perm 1 _)) ?_
    refine v_aload_n (pc := 75) X dJ2_append_3_75 rfl 0 rfl ?_
    refine v_widen (k := 2) (n := 760) (by omega) (by omega) ?_
    exact v_aret (pc := 76) X hr (Or.inl ⟨_, rfl⟩) dJ2_append_3_76 ⟨rfl, _, _, _, _, rfl, SbI.push1 hU3 hB3 (by omega) (by omega) hc, fun z => absurd z (by omega), by omega⟩
  · refine v_aload_n (pc := 24) X dJ2_append_3_24 rfl 0 rfl ?_
    refine v_getM (pc := 25) X in_J3 (List.mem_of_getElem? (i := 0) rfl) rfl 0 (by decide) q278 (fun y h => h) rfl dJ2_append_3_25 ?_
    refine v_aload_n (pc := 28) X dJ2_append_3_28 rfl 0 rfl ?_
    refine v_dup (pc := 29) X dJ2_append_3_29 rfl ?_
    refine v_getM (pc := 30) X in_J3 (List.mem_of_getElem? (i := 0) rfl) rfl 3 (by decide) q282 (fun y h => h) rfl dJ2_append_3_30 ?_
    refine v_dup_x1 (pc := 33) X dJ2_append_3_33 rfl rfl ?_
    refine v_iconst (pc := 34) (v := nI 1) X dJ2_append_3_34 rfl ?_
    refine v_iaddN (pc := 35) X dJ2_append_3_35 ?_
    refine v_top (y := (nI ((t ++ [c]).length))) (by rw [List.length_append]; rfl) ?_
    refine v_put (pc := 36) X in_J3 tyJ3 tyJ3_ok nmJ3 0 rfl rfl 3 (by decide) q282 (fun y h => h) rfl rfl rfl (Nat.le_of_ble_eq_true rfl) dJ2_append_3_36 (ws' := [(x, .inr (12, [.ref va2, .int (nI 0), .int ml, .int (nI ((t ++ [c]).length))])), (va2, .inl (dd 2, n2, .inl f2))]) rfl ?_
    refine v_iload_n (pc := 39) X dJ2_append_3_39 rfl 1 rfl ?_
    refine v_i2b (pc := 40) X dJ2_append_3_40 ?_
    refine v_top (y := (bt c)) rfl ?_
    refine v_bast (pc := 41) X 1 rfl rfl (by omega) (by omega) dJ2_append_3_41 (ws' := [(x, .inr (12, [.ref va2, .int (nI 0), .int ml, .int (nI ((t ++ [c]).length))])), (va2, .inl (dd 2, n2, .inl (upd f2 t.length (bt c))))]) (by rw [show upd f2 t.length (vp_nar .byte ((bt c))) = upd f2 t.length (bt c) from (by rw [nar_bt _ (by omega)])]; rfl) ?_
    refine v_goto (pc := 42) X 75 dJ2_append_3_42 (by decide) ?_
    refine v_aload_n (pc := 75) X dJ2_append_3_75 rfl 0 rfl ?_
    refine v_widen (k := 2) (n := 760) (by omega) (by omega) ?_
    exact v_aret (pc := 76) X hr (Or.inl ⟨_, rfl⟩) dJ2_append_3_76 ⟨rfl, _, _, _, _, rfl, hS2.push0 (by omega) (by omega), fun _ => rfl, by omega⟩
set_option maxHeartbeats 4000000 in
theorem c_J2_append_3_1 {l_ : Launch} {D : va_G} {dd : Nat → ClassId} {x va n : Nat} {ml : Int32} {f : Nat → Int32} {t : List Nat} {c : Nat} (hS : SbI 1 n f t) (hl : t.length < 90) (hc : c < 65536) : MW l_ D dd yJ2_append_3 cJ2_append_3 2 (some (.object "java/lang/AbstractStringBuilder")) 6 2 760 240 [.ref x, .int (nI c)] ([(x, .inr (12, [.ref va, .int (nI 1), .int ml, .int (nI t.length)])), (va, .inl (dd 2, n, .inl f))]) (fun r w => r = some (.ref x) ∧ ∃ va2 co2 n2 f2, w = [(x, .inr (12, [.ref va2, .int (nI co2), .int ml, .int (nI ((t ++ [c]).length))])), (va2, .inl (dd 2, n2, .inl f2))] ∧ SbI co2 n2 f2 (t ++ [c]) ∧ (c < 256 → co2 = 1) ∧ n ≤ n2) := by
  obtain ⟨hT0, hB0, hl0, hn0⟩ := id hS
  refine MW.intro (by decide) (Nat.le_of_ble_eq_true rfl) (fun p_ e_ s_ m_ as_ bl_ me_ c_ A_ X hr hnm => ?_)
  have X : VX p_ s_ m_ as_ me_ c_ cJ2_append_3 2 RJ2 D dd A_ := X
  refine v_eq (loc' := [(0, .ref x), (1, .int (nI c))]) rfl rfl rfl ?_
  refine v_aload_n (pc := 0) X dJ2_append_3_0 rfl 0 rfl ?_
  refine v_aload_n (pc := 1) X dJ2_append_3_1 rfl 0 rfl ?_
  refine v_getM (pc := 2) X in_J3 (List.mem_of_getElem? (i := 0) rfl) rfl 3 (by decide) q282 (fun y h => h) rfl dJ2_append_3_2 ?_
  refine v_iconst (pc := 5) (v := nI 1) X dJ2_append_3_5 rfl ?_
  refine v_iaddN (pc := 6) X dJ2_append_3_6 ?_
  refine v_frame (pc := 7) X (wr := []) (perm_nil _) (r_P X (c_J2_ensureCapacityInternal_1 (cnt := t.length) (min := t.length + 1) hS.2.1 hS.2.2.2 (by omega)) (List.mem_of_getElem? (i := 0) rfl) rfl q540 (lw_P q539 q2441 q541 q97 q542) hdJ2_ensureCapacityInternal ⟨by dsimp only; omega, by dsimp only; omega⟩ rfl rfl (Nat.le_of_ble_eq_true rfl) dJ2_append_3_7 ⟨by dsimp only; omega, by dsimp only; omega⟩) (fun v7 w7 h7 => ?_)
  obtain ⟨rfl, va2, n2, f2, rfl, hfg, hB2, hn1, hn2, hn3⟩ := h7
  refine v_eq (ws' := [(x, .inr (12, [.ref va2, .int (nI 1), .int ml, .int (nI t.length)])), (va2, .inl (dd 2, n2, .inl f2))]) rfl rfl rfl ?_
  have hS2 := hS.ext hfg hB2 hn1 hn3
  refine v_aload_n (pc := 10) X dJ2_append_3_10 rfl 0 rfl ?_
  refine v_read (pc := 11) X ⟨[], perm_nil _⟩ (r_U X (c_J2_isLatin1 (List.mem_of_getElem? (i := 0) rfl) (by omega)) (List.mem_of_getElem? (i := 0) rfl) rfl rfl (lw_U q568 q570 q571 q569 q97 q572) rfl hdJ2_isLatin1 ⟨by dsimp only; omega, by dsimp only; omega⟩ rfl rfl (Nat.le_of_ble_eq_true rfl) dJ2_append_3_11 ⟨by dsimp only; omega, by dsimp only; omega⟩) (fun r11 h11 => ?_)
  subst h11
  refine v_if_eqB (pc := 14) X 45 dJ2_append_3_14 (by decide) (fun h14 => ?_) (fun h14 => absurd h14 (by decide))
  refine v_aload_n (pc := 45) X dJ2_append_3_45 rfl 0 rfl ?_
  refine v_read (pc := 46) X ⟨[], perm_nil _⟩ (r_U X (c_J2_isLatin1 (List.mem_of_getElem? (i := 0) rfl) (by omega)) (List.mem_of_getElem? (i := 0) rfl) rfl rfl (lw_U q568 q570 q571 q569 q97 q572) rfl hdJ2_isLatin1 ⟨by dsimp only; omega, by dsimp only; omega⟩ rfl rfl (Nat.le_of_ble_eq_true rfl) dJ2_append_3_46 ⟨by dsimp only; omega, by dsimp only; omega⟩) (fun r46 h46 => ?_)
  subst h46
  refine v_if_eqB (pc := 49) X 56 dJ2_append_3_49 (by decide) (fun h49 => ?_) (fun h49 => absurd h49 (by decide))
  refine v_aload_n (pc := 56) X dJ2_append_3_56 rfl 0 rfl ?_
  refine v_getM (pc := 57) X in_J3 (List.mem_of_getElem? (i := 0) rfl) rfl 0 (by decide) q278 (fun y h => h) rfl dJ2_append_3_57 ?_
  refine v_aload_n (pc := 60) X dJ2_append_3_60 rfl 0 rfl ?_
  refine v_dup (pc := 61) X dJ2_append_3_61 rfl ?_
  refine v_getM (pc := 62) X in_J3 (List.mem_of_getElem? (i := 0) rfl) rfl 3 (by decide) q282 (fun y h => h) rfl dJ2_append_3_62 ?_
  refine v_dup_x1 (pc := 65) X dJ2_append_3_65 rfl rfl ?_
  refine v_iconst (pc := 66) (v := nI 1) X dJ2_append_3_66 rfl ?_
  refine v_iaddN (pc := 67) X dJ2_append_3_67 ?_
  refine v_top (y := (nI ((t ++ [c]).length))) (by rw [List.length_append]; rfl) ?_
  refine v_put (pc := 68) X in_J3 tyJ3 tyJ3_ok nmJ3 0 rfl rfl 3 (by decide) q282 (fun y h => h) rfl rfl rfl (Nat.le_of_ble_eq_true rfl) dJ2_append_3_68 (ws' := [(x, .inr (12, [.ref va2, .int (nI 1), .int ml, .int (nI ((t ++ [c]).length))])), (va2, .inl (dd 2, n2, .inl f2))]) rfl ?_
  refine v_iload_n (pc := 71) X dJ2_append_3_71 rfl 1 rfl ?_
  refine v_frame (pc := 72) X (wr := [(x, .inr (12, [.ref va2, .int (nI 1), .int ml, .int (nI ((t ++ [c]).length))]))]) (mv_perm 1 _) (r_S X (c_J5_putCharSB (i := t.length) (c := c) (by omega) (by omega) (by omega)) (lw_S q810 q811 q100 q812) hdJ5_putCharSB ⟨by dsimp only; omega, by dsimp only; omega⟩ rfl rfl (Nat.le_of_ble_eq_true rfl) dJ2_append_3_72 ⟨by dsimp only; omega, by dsimp only; omega⟩) (fun v72 w72 h72 => ?_)
  obtain ⟨rfl, rfl⟩ := h72
  refine v_eq (ws' := [(va2, .inl (dd 2, n2, .inl (upd (upd f2 (2 * t.length) (bt (c % 256))) (2 * t.length + 1) (bt (c / 256))))), (x, .inr (12, [.ref va2, .int (nI 1), .int ml, .int (nI ((t ++ [c]).length))]))]) rfl rfl rfl ?_
  refine v_perm (ws' := [(x, .inr (12, [.ref va2, .int (nI 1), .int ml, .int (nI ((t ++ [c]).length))])), (va2, .inl (dd 2, n2, .inl (upd (upd f2 (2 * t.length) (bt (c % 256))) (2 * t.length + 1) (bt (c / 256)))))]) ((mv_perm 0 _).trans (mv_perm 1 _)) ?_
  refine v_aload_n (pc := 75) X dJ2_append_3_75 rfl 0 rfl ?_
  refine v_widen (k := 2) (n := 760) (by omega) (by omega) ?_
  exact v_aret (pc := 76) X hr (Or.inl ⟨_, rfl⟩) dJ2_append_3_76 ⟨rfl, _, _, _, _, rfl, SbI.push1 hS2.u16 hB2 (by omega) (by omega) hc, fun _ => rfl, by omega⟩
theorem c_J2_append_3 {l_ : Launch} {D : va_G} {dd : Nat → ClassId} {co : Nat} {x va n : Nat} {ml : Int32} {f : Nat → Int32} {t : List Nat} {c : Nat} (hco : co ≤ 1) (hS : SbI co n f t) (hl : t.length < 90) (hc : c < 65536) : MW l_ D dd yJ2_append_3 cJ2_append_3 2 (some (.object "java/lang/AbstractStringBuilder")) 6 2 760 240 [.ref x, .int (nI c)] ([(x, .inr (12, [.ref va, .int (nI co), .int ml, .int (nI t.length)])), (va, .inl (dd 2, n, .inl f))]) (fun r w => r = some (.ref x) ∧ ∃ va2 co2 n2 f2, w = [(x, .inr (12, [.ref va2, .int (nI co2), .int ml, .int (nI ((t ++ [c]).length))])), (va2, .inl (dd 2, n2, .inl f2))] ∧ SbI co2 n2 f2 (t ++ [c]) ∧ (c < 256 → co2 = co) ∧ n ≤ n2) := by
  rcases (show co = 0 ∨ co = 1 by omega) with rfl | rfl
  · exact c_J2_append_3_0 hS hl hc
  · exact c_J2_append_3_1 hS hl hc
theorem hdJ3_append_3 : yJ3_append_3.cls = RJ3 ∧ yJ3_append_3.cls ≠ "java/lang/invoke/MethodHandle" ∧ yJ3_append_3.cls ≠ "java/lang/invoke/VarHandle" ∧ (parseMethodDescriptor yJ3_append_3.desc).map (fun d => d.parameters.length) = some 1 := by decide +kernel
set_option maxHeartbeats 4000000 in
theorem c_J3_append_3_0 {l_ : Launch} {D : va_G} {dd : Nat → ClassId} {x va n : Nat} {ml : Int32} {f : Nat → Int32} {t : List Nat} {c : Nat} (hS : SbI 0 n f t) (hl : t.length < 90) (hc : c < 65536) : MW l_ D dd yJ3_append_3 cJ3_append_3 2 (some (.object "java/lang/StringBuilder")) 7 2 760 290 [.ref x, .int (nI c)] ([(x, .inr (12, [.ref va, .int (nI 0), .int ml, .int (nI t.length)])), (va, .inl (dd 2, n, .inl f))]) (fun r w => r = some (.ref x) ∧ ∃ va2 co2 n2 f2, w = [(x, .inr (12, [.ref va2, .int (nI co2), .int ml, .int (nI ((t ++ [c]).length))])), (va2, .inl (dd 2, n2, .inl f2))] ∧ SbI co2 n2 f2 (t ++ [c]) ∧ (c < 256 → co2 = 0) ∧ n ≤ n2) := by
  refine MW.intro (by decide) (Nat.le_of_ble_eq_true rfl) (fun p_ e_ s_ m_ as_ bl_ me_ c_ A_ X hr hnm => ?_)
  have X : VX p_ s_ m_ as_ me_ c_ cJ3_append_3 2 RJ3 D dd A_ := X
  refine v_eq (loc' := [(0, .ref x), (1, .int (nI c))]) rfl rfl rfl ?_
  refine v_aload_n (pc := 0) X dJ3_append_3_0 rfl 0 rfl ?_
  refine v_iload_n (pc := 1) X dJ3_append_3_1 rfl 1 rfl ?_
  refine v_frame (pc := 2) X (wr := []) (perm_nil _) (r_SU X (c_J2_append_3_0 hS hl hc) (List.mem_of_getElem? (i := 0) rfl) rfl (lw_SU q804 q2447 q291 q805 q97 q806) hdJ2_append_3_su ⟨by dsimp only; omega, by dsimp only; omega⟩ rfl rfl (Nat.le_of_ble_eq_true rfl) dJ3_append_3_2 ⟨by dsimp only; omega, by dsimp only; omega⟩) (fun v2 w2 h2 => ?_)
  obtain ⟨rfl, va2, co2, n2, f2, rfl, hS2, hk2, hn2⟩ := h2
  refine v_eq (ws' := [(x, .inr (12, [.ref va2, .int (nI co2), .int ml, .int (nI ((t ++ [c]).length))])), (va2, .inl (dd 2, n2, .inl f2))]) rfl rfl rfl ?_
  refine v_pop (pc := 5) X dJ3_append_3_5 rfl ?_
  refine v_aload_n (pc := 6) X dJ3_append_3_6 rfl 0 rfl ?_
  refine v_widen (k := 2) (n := 760) (by omega) (by omega) ?_
  exact v_aret (pc := 7) X hr (Or.inl ⟨_, rfl⟩) dJ3_append_3_7 ⟨rfl, _, _, _, _, rfl, hS2, hk2, hn2⟩
set_option maxHeartbeats 4000000 in
theorem c_J3_append_3_1 {l_ : Launch} {D : va_G} {dd : Nat → ClassId} {x va n : Nat} {ml : Int32} {f : Nat → Int32} {t : List Nat} {c : Nat} (hS : SbI 1 n f t) (hl : t.length < 90) (hc : c < 65536) : MW l_ D dd yJ3_append_3 cJ3_append_3 2 (some (.object "java/lang/StringBuilder")) 7 2 760 290 [.ref x, .int (nI c)] ([(x, .inr (12, [.ref va, .int (nI 1), .int ml, .int (nI t.length)])), (va, .inl (dd 2, n, .inl f))]) (fun r w => r = some (.ref x) ∧ ∃ va2 co2 n2 f2, w = [(x, .inr (12, [.ref va2, .int (nI co2), .int ml, .int (nI ((t ++ [c]).length))])), (va2, .inl (dd 2, n2, .inl f2))] ∧ SbI co2 n2 f2 (t ++ [c]) ∧ (c < 256 → co2 = 1) ∧ n ≤ n2) := by
  refine MW.intro (by decide) (Nat.le_of_ble_eq_true rfl) (fun p_ e_ s_ m_ as_ bl_ me_ c_ A_ X hr hnm => ?_)
  have X : VX p_ s_ m_ as_ me_ c_ cJ3_append_3 2 RJ3 D dd A_ := X
  refine v_eq (loc' := [(0, .ref x), (1, .int (nI c))]) rfl rfl rfl ?_
  refine v_aload_n (pc := 0) X dJ3_append_3_0 rfl 0 rfl ?_
  refine v_iload_n (pc := 1) X dJ3_append_3_1 rfl 1 rfl ?_
  refine v_frame (pc := 2) X (wr := []) (perm_nil _) (r_SU X (c_J2_append_3_1 hS hl hc) (List.mem_of_getElem? (i := 0) rfl) rfl (lw_SU q804 q2447 q291 q805 q97 q806) hdJ2_append_3_su ⟨by dsimp only; omega, by dsimp only; omega⟩ rfl rfl (Nat.le_of_ble_eq_true rfl) dJ3_append_3_2 ⟨by dsimp only; omega, by dsimp only; omega⟩) (fun v2 w2 h2 => ?_)
  obtain ⟨rfl, va2, co2, n2, f2, rfl, hS2, hk2, hn2⟩ := h2
  refine v_eq (ws' := [(x, .inr (12, [.ref va2, .int (nI co2), .int ml, .int (nI ((t ++ [c]).length))])), (va2, .inl (dd 2, n2, .inl f2))]) rfl rfl rfl ?_
  refine v_pop (pc := 5) X dJ3_append_3_5 rfl ?_
  refine v_aload_n (pc := 6) X dJ3_append_3_6 rfl 0 rfl ?_
  refine v_widen (k := 2) (n := 760) (by omega) (by omega) ?_
  exact v_aret (pc := 7) X hr (Or.inl ⟨_, rfl⟩) dJ3_append_3_7 ⟨rfl, _, _, _, _, rfl, hS2, hk2, hn2⟩
theorem c_J3_append_3 {l_ : Launch} {D : va_G} {dd : Nat → ClassId} {co : Nat} {x va n : Nat} {ml : Int32} {f : Nat → Int32} {t : List Nat} {c : Nat} (hco : co ≤ 1) (hS : SbI co n f t) (hl : t.length < 90) (hc : c < 65536) : MW l_ D dd yJ3_append_3 cJ3_append_3 2 (some (.object "java/lang/StringBuilder")) 7 2 760 290 [.ref x, .int (nI c)] ([(x, .inr (12, [.ref va, .int (nI co), .int ml, .int (nI t.length)])), (va, .inl (dd 2, n, .inl f))]) (fun r w => r = some (.ref x) ∧ ∃ va2 co2 n2 f2, w = [(x, .inr (12, [.ref va2, .int (nI co2), .int ml, .int (nI ((t ++ [c]).length))])), (va2, .inl (dd 2, n2, .inl f2))] ∧ SbI co2 n2 f2 (t ++ [c]) ∧ (c < 256 → co2 = co) ∧ n ≤ n2) := by
  rcases (show co = 0 ∨ co = 1 by omega) with rfl | rfl
  · exact c_J3_append_3_0 hS hl hc
  · exact c_J3_append_3_1 hS hl hc
theorem hdJ2_setLength_su : yJ2_setLength.name ≠ "<init>" ∧ (parseMethodDescriptor yJ2_setLength.desc).map (fun d => d.parameters.length) = some 1 := by decide +kernel
set_option maxHeartbeats 4000000 in
theorem c_J2_setLength_0 {l_ : Launch} {D : va_G} {dd : Nat → ClassId} {x va n : Nat} {ml : Int32} {f : Nat → Int32} {t : List Nat} (hS : SbI 0 n f t) (hl : t.length < 90) : MW l_ D dd yJ2_setLength cJ2_setLength 2 none 4 1 380 140 [.ref x, .int (nI 0)] ([(x, .inr (12, [.ref va, .int (nI 0), .int ml, .int (nI t.length)])), (va, .inl (dd 2, n, .inl f))]) (fun r w => r = none ∧ ∃ va2 n2 f2 ml2, w = [(x, .inr (12, [.ref va2, .int (nI 0), .int ml2, .int (nI 0)])), (va2, .inl (dd 2, n2, .inl f2))] ∧ SbI 0 n2 f2 []) := by
  obtain ⟨hT0, hB0, hl0, hn0⟩ := id hS
  refine MW.intro (by decide) (Nat.le_of_ble_eq_true rfl) (fun p_ e_ s_ m_ as_ bl_ me_ c_ A_ X hr hnm => ?_)
  have X : VX p_ s_ m_ as_ me_ c_ cJ2_setLength 2 RJ2 D dd A_ := X
  refine v_eq (loc' := [(0, .ref x), (1, .int (nI 0))]) rfl rfl rfl ?_
  refine v_iload_n (pc := 0) X dJ2_setLength_0 rfl 1 rfl ?_
  refine v_if_ge (pc := 1) X 13 dJ2_setLength_1 (by decide) (fun h1 => ?_) (fun h1 => absurd (nI_ge0 (by omega)) h1)
  refine v_aload_n (pc := 13) X dJ2_setLength_13 rfl 0 rfl ?_
  refine v_iload_n (pc := 14) X dJ2_setLength_14 rfl 1 rfl ?_
  refine v_frame (pc := 15) X (wr := []) (perm_nil _) (r_P X (c_J2_ensureCapacityInternal_0 (cnt := t.length) (min := 0) hS.2.1 hS.2.2.2 (by omega)) (List.mem_of_getElem? (i := 0) rfl) rfl q540 (lw_P q539 q2441 q541 q97 q542) hdJ2_ensureCapacityInternal ⟨by dsimp only; omega, by dsimp only; omega⟩ rfl rfl (Nat.le_of_ble_eq_true rfl) dJ2_setLength_15 ⟨by dsimp only; omega, by dsimp only; omega⟩) (fun v15 w15 h15 => ?_)
  obtain ⟨rfl, va2, n2, f2, rfl, hfg, hB2, hn1, hn2, hn3⟩ := h15
  refine v_eq (ws' := [(x, .inr (12, [.ref va2, .int (nI 0), .int ml, .int (nI t.length)])), (va2, .inl (dd 2, n2, .inl f2))]) rfl rfl rfl ?_
  have hS2 := hS.ext hfg hB2 hn1 hn3
  refine v_aload_n (pc := 18) X dJ2_setLength_18 rfl 0 rfl ?_
  refine v_getM (pc := 19) X in_J3 (List.mem_of_getElem? (i := 0) rfl) rfl 3 (by decide) q282 (fun y h => h) rfl dJ2_setLength_19 ?_
  refine v_iload_n (pc := 22) X dJ2_setLength_22 rfl 1 rfl ?_
  refine v_ic_geN (pc := 23) X (by omega) (by omega) 63 dJ2_setLength_23 (by decide) (fun h23 => ?_) (fun h23 => absurd h23 (by omega))
  refine v_aload_n (pc := 63) X dJ2_setLength_63 rfl 0 rfl ?_
  refine v_getM (pc := 64) X in_J3 (List.mem_of_getElem? (i := 0) rfl) rfl 3 (by decide) q282 (fun y h => h) rfl dJ2_setLength_64 ?_
  refine v_iload_n (pc := 67) X dJ2_setLength_67 rfl 1 rfl ?_
  refine v_ic_leN (pc := 68) X (by omega) (by omega) 76 dJ2_setLength_68 (by decide) (fun h68 => ?_) (fun h68 => ?_)
  · refine v_aload_n (pc := 76) X dJ2_setLength_76 rfl 0 rfl ?_
    refine v_iload_n (pc := 77) X dJ2_setLength_77 rfl 1 rfl ?_
    refine v_put (pc := 78) X in_J3 tyJ3 tyJ3_ok nmJ3 0 rfl rfl 3 (by decide) q282 (fun y h => h) rfl rfl rfl (Nat.le_of_ble_eq_true rfl) dJ2_setLength_78 (ws' := [(x, .inr (12, [.ref va2, .int (nI 0), .int ml, .int (nI 0)])), (va2, .inl (dd 2, n2, .inl f2))]) rfl ?_
    refine v_widen (k := 1) (n := 380) (by omega) (by omega) ?_
    exact v_vret (pc := 81) X hr dJ2_setLength_81 ⟨rfl, _, _, _, _, rfl, ⟨Or.inl ⟨rfl, fun i c h => by cases h⟩, hB2, by show _ * 0 ≤ _; omega, hn3⟩⟩
  · refine v_aload_n (pc := 71) X dJ2_setLength_71 rfl 0 rfl ?_
    refine v_iconst (pc := 72) (v := nI 1) X dJ2_setLength_72 rfl ?_
    refine v_put (pc := 73) X in_J3 tyJ3 tyJ3_ok nmJ3 0 rfl rfl 2 (by decide) q280 (fun y h => h) rfl rfl rfl (Nat.le_of_ble_eq_true rfl) dJ2_setLength_73 (ws' := [(x, .inr (12, [.ref va2, .int (nI 0), .int (nI 1), .int (nI t.length)])), (va2, .inl (dd 2, n2, .inl f2))]) rfl ?_
    refine v_aload_n (pc := 76) X dJ2_setLength_76 rfl 0 rfl ?_
    refine v_iload_n (pc := 77) X dJ2_setLength_77 rfl 1 rfl ?_
    refine v_put (pc := 78) X in_J3 tyJ3 tyJ3_ok nmJ3 0 rfl rfl 3 (by decide) q282 (fun y h => h) rfl rfl rfl (Nat.le_of_ble_eq_true rfl) dJ2_setLength_78 (ws' := [(x, .inr (12, [.ref va2, .int (nI 0), .int (nI 1), .int (nI 0)])), (va2, .inl (dd 2, n2, .inl f2))]) rfl ?_
    refine v_widen (k := 1) (n := 380) (by omega) (by omega) ?_
    exact v_vret (pc := 81) X hr dJ2_setLength_81 ⟨rfl, _, _, _, _, rfl, ⟨Or.inl ⟨rfl, fun i c h => by cases h⟩, hB2, by show _ * 0 ≤ _; omega, hn3⟩⟩
set_option maxHeartbeats 4000000 in
theorem c_J2_setLength_1 {l_ : Launch} {D : va_G} {dd : Nat → ClassId} {x va n : Nat} {ml : Int32} {f : Nat → Int32} {t : List Nat} (hS : SbI 1 n f t) (hl : t.length < 90) : MW l_ D dd yJ2_setLength cJ2_setLength 2 none 4 1 380 140 [.ref x, .int (nI 0)] ([(x, .inr (12, [.ref va, .int (nI 1), .int ml, .int (nI t.length)])), (va, .inl (dd 2, n, .inl f))]) (fun r w => r = none ∧ ∃ va2 n2 f2 ml2, w = [(x, .inr (12, [.ref va2, .int (nI 1), .int ml2, .int (nI 0)])), (va2, .inl (dd 2, n2, .inl f2))] ∧ SbI 1 n2 f2 []) := by
  obtain ⟨hT0, hB0, hl0, hn0⟩ := id hS
  refine MW.intro (by decide) (Nat.le_of_ble_eq_true rfl) (fun p_ e_ s_ m_ as_ bl_ me_ c_ A_ X hr hnm => ?_)
  have X : VX p_ s_ m_ as_ me_ c_ cJ2_setLength 2 RJ2 D dd A_ := X
  refine v_eq (loc' := [(0, .ref x), (1, .int (nI 0))]) rfl rfl rfl ?_
  refine v_iload_n (pc := 0) X dJ2_setLength_0 rfl 1 rfl ?_
  refine v_if_ge (pc := 1) X 13 dJ2_setLength_1 (by decide) (fun h1 => ?_) (fun h1 => absurd (nI_ge0 (by omega)) h1)
  refine v_aload_n (pc := 13) X dJ2_setLength_13 rfl 0 rfl ?_
  refine v_iload_n (pc := 14) X dJ2_setLength_14 rfl 1 rfl ?_
  refine v_frame (pc := 15) X (wr := []) (perm_nil _) (r_P X (c_J2_ensureCapacityInternal_1 (cnt := t.length) (min := 0) hS.2.1 hS.2.2.2 (by omega)) (List.mem_of_getElem? (i := 0) rfl) rfl q540 (lw_P q539 q2441 q541 q97 q542) hdJ2_ensureCapacityInternal ⟨by dsimp only; omega, by dsimp only; omega⟩ rfl rfl (Nat.le_of_ble_eq_true rfl) dJ2_setLength_15 ⟨by dsimp only; omega, by dsimp only; omega⟩) (fun v15 w15 h15 => ?_)
  obtain ⟨rfl, va2, n2, f2, rfl, hfg, hB2, hn1, hn2, hn3⟩ := h15
  refine v_eq (ws' := [(x, .inr (12, [.ref va2, .int (nI 1), .int ml, .int (nI t.length)])), (va2, .inl (dd 2, n2, .inl f2))]) rfl rfl rfl ?_
  have hS2 := hS.ext hfg hB2 hn1 hn3
  refine v_aload_n (pc := 18) X dJ2_setLength_18 rfl 0 rfl ?_
  refine v_getM (pc := 19) X in_J3 (List.mem_of_getElem? (i := 0) rfl) rfl 3 (by decide) q282 (fun y h => h) rfl dJ2_setLength_19 ?_
  refine v_iload_n (pc := 22) X dJ2_setLength_22 rfl 1 rfl ?_
  refine v_ic_geN (pc := 23) X (by omega) (by omega) 63 dJ2_setLength_23 (by decide) (fun h23 => ?_) (fun h23 => absurd h23 (by omega))
  refine v_aload_n (pc := 63) X dJ2_setLength_63 rfl 0 rfl ?_
  refine v_getM (pc := 64) X in_J3 (List.mem_of_getElem? (i := 0) rfl) rfl 3 (by decide) q282 (fun y h => h) rfl dJ2_setLength_64 ?_
  refine v_iload_n (pc := 67) X dJ2_setLength_67 rfl 1 rfl ?_
  refine v_ic_leN (pc := 68) X (by omega) (by omega) 76 dJ2_setLength_68 (by decide) (fun h68 => ?_) (fun h68 => ?_)
  · refine v_aload_n (pc := 76) X dJ2_setLength_76 rfl 0 rfl ?_
    refine v_iload_n (pc := 77) X dJ2_setLength_77 rfl 1 rfl ?_
    refine v_put (pc := 78) X in_J3 tyJ3 tyJ3_ok nmJ3 0 rfl rfl 3 (by decide) q282 (fun y h => h) rfl rfl rfl (Nat.le_of_ble_eq_true rfl) dJ2_setLength_78 (ws' := [(x, .inr (12, [.ref va2, .int (nI 1), .int ml, .int (nI 0)])), (va2, .inl (dd 2, n2, .inl f2))]) rfl ?_
    refine v_widen (k := 1) (n := 380) (by omega) (by omega) ?_
    exact v_vret (pc := 81) X hr dJ2_setLength_81 ⟨rfl, _, _, _, _, rfl, ⟨Or.inr ⟨rfl, fun i c h => by cases h⟩, hB2, by show _ * 0 ≤ _; omega, hn3⟩⟩
  · refine v_aload_n (pc := 71) X dJ2_setLength_71 rfl 0 rfl ?_
    refine v_iconst (pc := 72) (v := nI 1) X dJ2_setLength_72 rfl ?_
    refine v_put (pc := 73) X in_J3 tyJ3 tyJ3_ok nmJ3 0 rfl rfl 2 (by decide) q280 (fun y h => h) rfl rfl rfl (Nat.le_of_ble_eq_true rfl) dJ2_setLength_73 (ws' := [(x, .inr (12, [.ref va2, .int (nI 1), .int (nI 1), .int (nI t.length)])), (va2, .inl (dd 2, n2, .inl f2))]) rfl ?_
    refine v_aload_n (pc := 76) X dJ2_setLength_76 rfl 0 rfl ?_
    refine v_iload_n (pc := 77) X dJ2_setLength_77 rfl 1 rfl ?_
    refine v_put (pc := 78) X in_J3 tyJ3 tyJ3_ok nmJ3 0 rfl rfl 3 (by decide) q282 (fun y h => h) rfl rfl rfl (Nat.le_of_ble_eq_true rfl) dJ2_setLength_78 (ws' := [(x, .inr (12, [.ref va2, .int (nI 1), .int (nI 1), .int (nI 0)])), (va2, .inl (dd 2, n2, .inl f2))]) rfl ?_
    refine v_widen (k := 1) (n := 380) (by omega) (by omega) ?_
    exact v_vret (pc := 81) X hr dJ2_setLength_81 ⟨rfl, _, _, _, _, rfl, ⟨Or.inr ⟨rfl, fun i c h => by cases h⟩, hB2, by show _ * 0 ≤ _; omega, hn3⟩⟩
theorem c_J2_setLength {l_ : Launch} {D : va_G} {dd : Nat → ClassId} {co : Nat} {x va n : Nat} {ml : Int32} {f : Nat → Int32} {t : List Nat} (hco : co ≤ 1) (hS : SbI co n f t) (hl : t.length < 90) : MW l_ D dd yJ2_setLength cJ2_setLength 2 none 4 1 380 140 [.ref x, .int (nI 0)] ([(x, .inr (12, [.ref va, .int (nI co), .int ml, .int (nI t.length)])), (va, .inl (dd 2, n, .inl f))]) (fun r w => r = none ∧ ∃ va2 n2 f2 ml2, w = [(x, .inr (12, [.ref va2, .int (nI co), .int ml2, .int (nI 0)])), (va2, .inl (dd 2, n2, .inl f2))] ∧ SbI co n2 f2 []) := by
  rcases (show co = 0 ∨ co = 1 by omega) with rfl | rfl
  · exact c_J2_setLength_0 hS hl
  · exact c_J2_setLength_1 hS hl
theorem hdJ3_setLength : yJ3_setLength.cls = RJ3 ∧ yJ3_setLength.cls ≠ "java/lang/invoke/MethodHandle" ∧ yJ3_setLength.cls ≠ "java/lang/invoke/VarHandle" ∧ (parseMethodDescriptor yJ3_setLength.desc).map (fun d => d.parameters.length) = some 1 := by decide +kernel
set_option maxHeartbeats 4000000 in
theorem c_J3_setLength_0 {l_ : Launch} {D : va_G} {dd : Nat → ClassId} {x va n : Nat} {ml : Int32} {f : Nat → Int32} {t : List Nat} (hS : SbI 0 n f t) (hl : t.length < 90) : MW l_ D dd yJ3_setLength cJ3_setLength 2 none 5 1 380 190 [.ref x, .int (nI 0)] ([(x, .inr (12, [.ref va, .int (nI 0), .int ml, .int (nI t.length)])), (va, .inl (dd 2, n, .inl f))]) (fun r w => r = none ∧ ∃ va2 n2 f2 ml2, w = [(x, .inr (12, [.ref va2, .int (nI 0), .int ml2, .int (nI 0)])), (va2, .inl (dd 2, n2, .inl f2))] ∧ SbI 0 n2 f2 []) := by
  refine MW.intro (by decide) (Nat.le_of_ble_eq_true rfl) (fun p_ e_ s_ m_ as_ bl_ me_ c_ A_ X hr hnm => ?_)
  have X : VX p_ s_ m_ as_ me_ c_ cJ3_setLength 2 RJ3 D dd A_ := X
  refine v_eq (loc' := [(0, .ref x), (1, .int (nI 0))]) rfl rfl rfl ?_
  refine v_aload_n (pc := 0) X dJ3_setLength_0 rfl 0 rfl ?_
  refine v_iload_n (pc := 1) X dJ3_setLength_1 rfl 1 rfl ?_
  refine v_frame (pc := 2) X (wr := []) (perm_nil _) (r_SU X (c_J2_setLength_0 hS hl) (List.mem_of_getElem? (i := 0) rfl) rfl (lw_SU q517 q2438 q291 q518 q97 q519) hdJ2_setLength_su ⟨by dsimp only; omega, by dsimp only; omega⟩ rfl rfl (Nat.le_of_ble_eq_true rfl) dJ3_setLength_2 ⟨by dsimp only; omega, by dsimp only; omega⟩) (fun v2 w2 h2 => ?_)
  obtain ⟨rfl, va2, n2, f2, ml2, rfl, hS2⟩ := h2
  refine v_eq (ws' := [(x, .inr (12, [.ref va2, .int (nI 0), .int ml2, .int (nI 0)])), (va2, .inl (dd 2, n2, .inl f2))]) rfl rfl rfl ?_
  refine v_widen (k := 1) (n := 380) (by omega) (by omega) ?_
  exact v_vret (pc := 5) X hr dJ3_setLength_5 ⟨rfl, _, _, _, _, rfl, hS2⟩
set_option maxHeartbeats 4000000 in
theorem c_J3_setLength_1 {l_ : Launch} {D : va_G} {dd : Nat → ClassId} {x va n : Nat} {ml : Int32} {f : Nat → Int32} {t : List Nat} (hS : SbI 1 n f t) (hl : t.length < 90) : MW l_ D dd yJ3_setLength cJ3_setLength 2 none 5 1 380 190 [.ref x, .int (nI 0)] ([(x, .inr (12, [.ref va, .int (nI 1), .int ml, .int (nI t.length)])), (va, .inl (dd 2, n, .inl f))]) (fun r w => r = none ∧ ∃ va2 n2 f2 ml2, w = [(x, .inr (12, [.ref va2, .int (nI 1), .int ml2, .int (nI 0)])), (va2, .inl (dd 2, n2, .inl f2))] ∧ SbI 1 n2 f2 []) := by
  refine MW.intro (by decide) (Nat.le_of_ble_eq_true rfl) (fun p_ e_ s_ m_ as_ bl_ me_ c_ A_ X hr hnm => ?_)
  have X : VX p_ s_ m_ as_ me_ c_ cJ3_setLength 2 RJ3 D dd A_ := X
  refine v_eq (loc' := [(0, .ref x), (1, .int (nI 0))]) rfl rfl rfl ?_
  refine v_aload_n (pc := 0) X dJ3_setLength_0 rfl 0 rfl ?_
  refine v_iload_n (pc := 1) X dJ3_setLength_1 rfl 1 rfl ?_
  refine v_frame (pc := 2) X (wr := []) (perm_nil _) (r_SU X (c_J2_setLength_1 hS hl) (List.mem_of_getElem? (i := 0) rfl) rfl (lw_SU q517 q2438 q291 q518 q97 q519) hdJ2_setLength_su ⟨by dsimp only; omega, by dsimp only; omega⟩ rfl rfl (Nat.le_of_ble_eq_true rfl) dJ3_setLength_2 ⟨by dsimp only; omega, by dsimp only; omega⟩) (fun v2 w2 h2 => ?_)
  obtain ⟨rfl, va2, n2, f2, ml2, rfl, hS2⟩ := h2
  refine v_eq (ws' := [(x, .inr (12, [.ref va2, .int (nI 1), .int ml2, .int (nI 0)])), (va2, .inl (dd 2, n2, .inl f2))]) rfl rfl rfl ?_
  refine v_widen (k := 1) (n := 380) (by omega) (by omega) ?_
  exact v_vret (pc := 5) X hr dJ3_setLength_5 ⟨rfl, _, _, _, _, rfl, hS2⟩
theorem c_J3_setLength {l_ : Launch} {D : va_G} {dd : Nat → ClassId} {co : Nat} {x va n : Nat} {ml : Int32} {f : Nat → Int32} {t : List Nat} (hco : co ≤ 1) (hS : SbI co n f t) (hl : t.length < 90) : MW l_ D dd yJ3_setLength cJ3_setLength 2 none 5 1 380 190 [.ref x, .int (nI 0)] ([(x, .inr (12, [.ref va, .int (nI co), .int ml, .int (nI t.length)])), (va, .inl (dd 2, n, .inl f))]) (fun r w => r = none ∧ ∃ va2 n2 f2 ml2, w = [(x, .inr (12, [.ref va2, .int (nI co), .int ml2, .int (nI 0)])), (va2, .inl (dd 2, n2, .inl f2))] ∧ SbI co n2 f2 []) := by
  rcases (show co = 0 ∨ co = 1 by omega) with rfl | rfl
  · exact c_J3_setLength_0 hS hl
  · exact c_J3_setLength_1 hS hl
set_option maxHeartbeats 4000000 in
theorem c_J2_append_NL {l_ : Launch} {D : va_G} {dd : Nat → ClassId} {x va n : Nat} {ml : Int32} {f : Nat → Int32} {t : List Nat} {c : Nat} (hS : SbI 0 n f t) (hl : t.length < 90) (hc : c < 256) (hng : t.length + 1 ≤ n) : MW l_ D dd yJ2_append_3 cJ2_append_3 2 (some (.object "java/lang/AbstractStringBuilder")) 6 0 0 240 [.ref x, .int (nI c)] ([(x, .inr (12, [.ref va, .int (nI 0), .int ml, .int (nI t.length)])), (va, .inl (dd 2, n, .inl f))]) (fun r w => r = some (.ref x) ∧ w = [(x, .inr (12, [.ref va, .int (nI 0), .int ml, .int (nI ((t ++ [c]).length))])), (va, .inl (dd 2, n, .inl ((upd f t.length (bt c)))))]) := by
  obtain ⟨hT0, hB0, hl0, hn0⟩ := id hS
  refine MW.intro (by decide) (Nat.le_of_ble_eq_true rfl) (fun p_ e_ s_ m_ as_ bl_ me_ c_ A_ X hr hnm => ?_)
  have X : VX p_ s_ m_ as_ me_ c_ cJ2_append_3 2 RJ2 D dd A_ := X
  refine v_eq (loc' := [(0, .ref x), (1, .int (nI c))]) rfl rfl rfl ?_
  refine v_aload_n (pc := 0) X dJ2_append_3_0 rfl 0 rfl ?_
  refine v_aload_n (pc := 1) X dJ2_append_3_1 rfl 0 rfl ?_
  refine v_getM (pc := 2) X in_J3 (List.mem_of_getElem? (i := 0) rfl) rfl 3 (by decide) q282 (fun y h => h) rfl dJ2_append_3_2 ?_
  refine v_iconst (pc := 5) (v := nI 1) X dJ2_append_3_5 rfl ?_
  refine v_iaddN (pc := 6) X dJ2_append_3_6 ?_
  refine v_readV (pc := 7) X ⟨[], perm_nil _⟩ (r_P X (c_J2_ensureNG_0 (min := t.length + 1) (List.mem_of_getElem? (i := 0) rfl) (List.mem_of_getElem? (i := 1) rfl) (by omega) (by omega) (by omega)) (List.mem_of_getElem? (i := 0) rfl) rfl q540 (lw_P q539 q2441 q541 q97 q542) hdJ2_ensureCapacityInternal ⟨Nat.le_of_ble_eq_true rfl, Nat.le_of_ble_eq_true rfl⟩ rfl rfl (Nat.le_of_ble_eq_true rfl) dJ2_append_3_7 ⟨Nat.le_of_ble_eq_true rfl, Nat.le_of_ble_eq_true rfl⟩) ?_
  refine v_aload_n (pc := 10) X dJ2_append_3_10 rfl 0 rfl ?_
  refine v_read (pc := 11) X ⟨[], perm_nil _⟩ (r_U X (c_J2_isLatin1 (List.mem_of_getElem? (i := 0) rfl) (by omega)) (List.mem_of_getElem? (i := 0) rfl) rfl rfl (lw_U q568 q570 q571 q569 q97 q572) rfl hdJ2_isLatin1 ⟨Nat.le_of_ble_eq_true rfl, Nat.le_of_ble_eq_true rfl⟩ rfl rfl (Nat.le_of_ble_eq_true rfl) dJ2_append_3_11 ⟨Nat.le_of_ble_eq_true rfl, Nat.le_of_ble_eq_true rfl⟩) (fun r11 h11 => ?_)
  subst h11
  refine v_if_eqB (pc := 14) X 45 dJ2_append_3_14 (by decide) (fun h14 => absurd rfl h14) (fun h14 => ?_)
  refine v_iload_n (pc := 17) X dJ2_append_3_17 rfl 1 rfl ?_
  refine v_read (pc := 18) X ⟨_, List.Perm.refl ([] ++ _)⟩ (r_S X (c_J20_canEncode (c := c) (by omega)) (lw_S q807 q808 q123 q809) hdJ20_canEncode ⟨Nat.le_of_ble_eq_true rfl, Nat.le_of_ble_eq_true rfl⟩ rfl rfl (Nat.le_of_ble_eq_true rfl) dJ2_append_3_18 ⟨Nat.le_of_ble_eq_true rfl, Nat.le_of_ble_eq_true rfl⟩) (fun r18 h18 => ?_)
  subst h18
  refine v_if_eqB (pc := 21) X 45 dJ2_append_3_21 (by decide) (fun h21 => absurd hc h21) (fun h21 => ?_)
  refine v_aload_n (pc := 24) X dJ2_append_3_24 rfl 0 rfl ?_
  refine v_getM (pc := 25) X in_J3 (List.mem_of_getElem? (i := 0) rfl) rfl 0 (by decide) q278 (fun y h => h) rfl dJ2_append_3_25 ?_
  refine v_aload_n (pc := 28) X dJ2_append_3_28 rfl 0 rfl ?_
  refine v_dup (pc := 29) X dJ2_append_3_29 rfl ?_
  refine v_getM (pc := 30) X in_J3 (List.mem_of_getElem? (i := 0) rfl) rfl 3 (by decide) q282 (fun y h => h) rfl dJ2_append_3_30 ?_
  refine v_dup_x1 (pc := 33) X dJ2_append_3_33 rfl rfl ?_
  refine v_iconst (pc := 34) (v := nI 1) X dJ2_append_3_34 rfl ?_
  refine v_iaddN (pc := 35) X dJ2_append_3_35 ?_
  refine v_top (y := (nI ((t ++ [c]).length))) (by rw [List.length_append]; rfl) ?_
  refine v_put (pc := 36) X in_J3 tyJ3 tyJ3_ok nmJ3 0 rfl rfl 3 (by decide) q282 (fun y h => h) rfl rfl rfl (Nat.le_of_ble_eq_true rfl) dJ2_append_3_36 (ws' := [(x, .inr (12, [.ref va, .int (nI 0), .int ml, .int (nI ((t ++ [c]).length))])), (va, .inl (dd 2, n, .inl f))]) rfl ?_
  refine v_iload_n (pc := 39) X dJ2_append_3_39 rfl 1 rfl ?_
  refine v_i2b (pc := 40) X dJ2_append_3_40 ?_
  refine v_top (y := (bt c)) rfl ?_
  refine v_bast (pc := 41) X 1 rfl rfl (by omega) (by omega) dJ2_append_3_41 (ws' := [(x, .inr (12, [.ref va, .int (nI 0), .int ml, .int (nI ((t ++ [c]).length))])), (va, .inl (dd 2, n, .inl (upd f t.length (bt c))))]) (by rw [show upd f t.length (vp_nar .byte ((bt c))) = upd f t.length (bt c) from (by rw [nar_bt _ (by omega)])]; rfl) ?_
  refine v_goto (pc := 42) X 75 dJ2_append_3_42 (by decide) ?_
  refine v_aload_n (pc := 75) X dJ2_append_3_75 rfl 0 rfl ?_
  exact v_aret (pc := 76) X hr (Or.inl ⟨_, rfl⟩) dJ2_append_3_76 ⟨rfl, rfl⟩
set_option maxHeartbeats 4000000 in
theorem c_J3_append_NL {l_ : Launch} {D : va_G} {dd : Nat → ClassId} {x va n : Nat} {ml : Int32} {f : Nat → Int32} {t : List Nat} {c : Nat} (hS : SbI 0 n f t) (hl : t.length < 90) (hc : c < 256) (hng : t.length + 1 ≤ n) : MW l_ D dd yJ3_append_3 cJ3_append_3 2 (some (.object "java/lang/StringBuilder")) 7 0 0 290 [.ref x, .int (nI c)] ([(x, .inr (12, [.ref va, .int (nI 0), .int ml, .int (nI t.length)])), (va, .inl (dd 2, n, .inl f))]) (fun r w => r = some (.ref x) ∧ w = [(x, .inr (12, [.ref va, .int (nI 0), .int ml, .int (nI ((t ++ [c]).length))])), (va, .inl (dd 2, n, .inl ((upd f t.length (bt c)))))]) := by
  refine MW.intro (by decide) (Nat.le_of_ble_eq_true rfl) (fun p_ e_ s_ m_ as_ bl_ me_ c_ A_ X hr hnm => ?_)
  have X : VX p_ s_ m_ as_ me_ c_ cJ3_append_3 2 RJ3 D dd A_ := X
  refine v_eq (loc' := [(0, .ref x), (1, .int (nI c))]) rfl rfl rfl ?_
  refine v_aload_n (pc := 0) X dJ3_append_3_0 rfl 0 rfl ?_
  refine v_iload_n (pc := 1) X dJ3_append_3_1 rfl 1 rfl ?_
  refine v_frame (pc := 2) X (wr := []) (perm_nil _) (r_SU X (c_J2_append_NL hS hl hc hng) (List.mem_of_getElem? (i := 0) rfl) rfl (lw_SU q804 q2447 q291 q805 q97 q806) hdJ2_append_3_su ⟨Nat.le_of_ble_eq_true rfl, Nat.le_of_ble_eq_true rfl⟩ rfl rfl (Nat.le_of_ble_eq_true rfl) dJ3_append_3_2 ⟨Nat.le_of_ble_eq_true rfl, Nat.le_of_ble_eq_true rfl⟩) (fun v2 w2 h2 => ?_)
  obtain ⟨rfl, rfl⟩ := h2
  refine v_eq (ws' := [(x, .inr (12, [.ref va, .int (nI 0), .int ml, .int (nI ((t ++ [c]).length))])), (va, .inl (dd 2, n, .inl (upd f t.length (bt c))))]) rfl rfl rfl ?_
  refine v_pop (pc := 5) X dJ3_append_3_5 rfl ?_
  refine v_aload_n (pc := 6) X dJ3_append_3_6 rfl 0 rfl ?_
  exact v_aret (pc := 7) X hr (Or.inl ⟨_, rfl⟩) dJ3_append_3_7 ⟨rfl, rfl⟩
set_option maxHeartbeats 4000000 in
theorem c_J2_append_N {l_ : Launch} {D : va_G} {dd : Nat → ClassId} {x va n : Nat} {ml : Int32} {f : Nat → Int32} {t : List Nat} {c : Nat} (hS : SbI 0 n f t) (hl : t.length < 90) (hc : c < 65536) (hng : t.length + 1 ≤ n) : MW l_ D dd yJ2_append_3 cJ2_append_3 2 (some (.object "java/lang/AbstractStringBuilder")) 6 1 (2 * n) 240 [.ref x, .int (nI c)] ([(x, .inr (12, [.ref va, .int (nI 0), .int ml, .int (nI t.length)])), (va, .inl (dd 2, n, .inl f))]) (fun r w => r = some (.ref x) ∧ ∃ va2 co2 n2 f2, w = [(x, .inr (12, [.ref va2, .int (nI co2), .int ml, .int (nI ((t ++ [c]).length))])), (va2, .inl (dd 2, n2, .inl f2))] ∧ SbI co2 n2 f2 (t ++ [c]) ∧ (c < 256 → co2 = 0) ∧ n ≤ n2) := by
  obtain ⟨hT0, hB0, hl0, hn0⟩ := id hS
  refine MW.intro (by decide) (Nat.le_of_ble_eq_true rfl) (fun p_ e_ s_ m_ as_ bl_ me_ c_ A_ X hr hnm => ?_)
  have X : VX p_ s_ m_ as_ me_ c_ cJ2_append_3 2 RJ2 D dd A_ := X
  refine v_eq (loc' := [(0, .ref x), (1, .int (nI c))]) rfl rfl rfl ?_
  refine v_aload_n (pc := 0) X dJ2_append_3_0 rfl 0 rfl ?_
  refine v_aload_n (pc := 1) X dJ2_append_3_1 rfl 0 rfl ?_
  refine v_getM (pc := 2) X in_J3 (List.mem_of_getElem? (i := 0) rfl) rfl 3 (by decide) q282 (fun y h => h) rfl dJ2_append_3_2 ?_
  refine v_iconst (pc := 5) (v := nI 1) X dJ2_append_3_5 rfl ?_
  refine v_iaddN (pc := 6) X dJ2_append_3_6 ?_
  refine v_readV (pc := 7) X ⟨[], perm_nil _⟩ (r_P X (c_J2_ensureNG_0 (min := t.length + 1) (List.mem_of_getElem? (i := 0) rfl) (List.mem_of_getElem? (i := 1) rfl) (by omega) (by omega) (by omega)) (List.mem_of_getElem? (i := 0) rfl) rfl q540 (lw_P q539 q2441 q541 q97 q542) hdJ2_ensureCapacityInternal ⟨by dsimp only; omega, by dsimp only; omega⟩ rfl rfl (Nat.le_of_ble_eq_true rfl) dJ2_append_3_7 ⟨by dsimp only; omega, by dsimp only; omega⟩) ?_
  refine v_aload_n (pc := 10) X dJ2_append_3_10 rfl 0 rfl ?_
  refine v_read (pc := 11) X ⟨[], perm_nil _⟩ (r_U X (c_J2_isLatin1 (List.mem_of_getElem? (i := 0) rfl) (by omega)) (List.mem_of_getElem? (i := 0) rfl) rfl rfl (lw_U q568 q570 q571 q569 q97 q572) rfl hdJ2_isLatin1 ⟨by dsimp only; omega, by dsimp only; omega⟩ rfl rfl (Nat.le_of_ble_eq_true rfl) dJ2_append_3_11 ⟨by dsimp only; omega, by dsimp only; omega⟩) (fun r11 h11 => ?_)
  subst h11
  refine v_if_eqB (pc := 14) X 45 dJ2_append_3_14 (by decide) (fun h14 => absurd rfl h14) (fun h14 => ?_)
  refine v_iload_n (pc := 17) X dJ2_append_3_17 rfl 1 rfl ?_
  refine v_read (pc := 18) X ⟨_, List.Perm.refl ([] ++ _)⟩ (r_S X (c_J20_canEncode (c := c) (by omega)) (lw_S q807 q808 q123 q809) hdJ20_canEncode ⟨by dsimp only; omega, by dsimp only; omega⟩ rfl rfl (Nat.le_of_ble_eq_true rfl) dJ2_append_3_18 ⟨by dsimp only; omega, by dsimp only; omega⟩) (fun r18 h18 => ?_)
  subst h18
  refine v_if_eqB (pc := 21) X 45 dJ2_append_3_21 (by decide) (fun h21 => ?_) (fun h21 => ?_)
  · refine v_aload_n (pc := 45) X dJ2_append_3_45 rfl 0 rfl ?_
    refine v_read (pc := 46) X ⟨[], perm_nil _⟩ (r_U X (c_J2_isLatin1 (List.mem_of_getElem? (i := 0) rfl) (by omega)) (List.mem_of_getElem? (i := 0) rfl) rfl rfl (lw_U q568 q570 q571 q569 q97 q572) rfl hdJ2_isLatin1 ⟨by dsimp only; omega, by dsimp only; omega⟩ rfl rfl (Nat.le_of_ble_eq_true rfl) dJ2_append_3_46 ⟨by dsimp only; omega, by dsimp only; omega⟩) (fun r46 h46 => ?_)
    subst h46
    refine v_if_eqB (pc := 49) X 56 dJ2_append_3_49 (by decide) (fun h49 => absurd rfl h49) (fun h49 => ?_)
    refine v_aload_n (pc := 52) X dJ2_append_3_52 rfl 0 rfl ?_
    refine v_frame (pc := 53) X (wr := []) (perm_nil _) (r_P X (c_J2_inflate hS.l1 hS.2.1 (by omega) (by omega)) (List.mem_of_getElem? (i := 0) rfl) rfl q618 (lw_P q617 q2445 q619 q97 q620) hdJ2_inflate ⟨by dsimp only; omega, by dsimp only; omega⟩ rfl rfl (Nat.le_of_ble_eq_true rfl) dJ2_append_3_53 ⟨by dsimp only; omega, by dsimp only; omega⟩) (fun v53 w53 h53 => ?_)
    obtain ⟨rfl, va3, g3, rfl, hU3, hB3⟩ := h53
    refine v_eq (ws' := [(x, .inr (12, [.ref va3, .int (nI 1), .int ml, .int (nI t.length)])), (va3, .inl (dd 2, 2 * n, .inl g3))]) rfl rfl rfl ?_
    refine v_aload_n (pc := 56) X dJ2_append_3_56 rfl 0 rfl ?_
    refine v_getM (pc := 57) X in_J3 (List.mem_of_getElem? (i := 0) rfl) rfl 0 (by decide) q278 (fun y h => h) rfl dJ2_append_3_57 ?_
    refine v_aload_n (pc := 60) X dJ2_append_3_60 rfl 0 rfl ?_
    refine v_dup (pc := 61) X dJ2_append_3_61 rfl ?_
    refine v_getM (pc := 62) X in_J3 (List.mem_of_getElem? (i := 0) rfl) rfl 3 (by decide) q282 (fun y h => h) rfl dJ2_append_3_62 ?_
    refine v_dup_x1 (pc := 65) X dJ2_append_3_65 rfl rfl ?_
    refine v_iconst (pc := 66) (v := nI 1) X dJ2_append_3_66 rfl ?_
    refine v_iaddN (pc := 67) X dJ2_append_3_67 ?_
    refine v_top (y := (nI ((t ++ [c]).length))) (by rw [List.length_append]; rfl) ?_
    refine v_put (pc := 68) X in_J3 tyJ3 tyJ3_ok nmJ3 0 rfl rfl 3 (by decide) q282 (fun y h => h) rfl rfl rfl (Nat.le_of_ble_eq_true rfl) dJ2_append_3_68 (ws' := [(x, .inr (12, [.ref va3, .int (nI 1), .int ml, .int (nI ((t ++ [c]).length))])), (va3, .inl (dd 2, 2 * n, .inl g3))]) rfl ?_
    refine v_iload_n (pc := 71) X dJ2_append_3_71 rfl 1 rfl ?_
    refine v_frame (pc := 72) X (wr := [(x, .inr (12, [.ref va3, .int (nI 1), .int ml, .int (nI ((t ++ [c]).length))]))]) (mv_perm 1 _) (r_S X (c_J5_putCharSB (i := t.length) (c := c) (by omega) (by omega) (by omega)) (lw_S q810 q811 q100 q812) hdJ5_putCharSB ⟨by dsimp only; omega, by dsimp only; omega⟩ rfl rfl (Nat.le_of_ble_eq_true rfl) dJ2_append_3_72 ⟨by dsimp only; omega, by dsimp only; omega⟩) (fun v72 w72 h72 => ?_)
    obtain ⟨rfl, rfl⟩ := h72
    refine v_eq (ws' := [(va3, .inl (dd 2, 2 * n, .inl (upd (upd g3 (2 * t.length) (bt (c % 256))) (2 * t.length + 1) (bt (c / 256))))), (x, .inr (12, [.ref va3, .int (nI 1), .int ml, .int (nI ((t ++ [c]).length))]))]) rfl rfl rfl ?_
    refine v_perm (ws' := [(x, .inr (12, [.ref va3, .int (nI 1), .int ml, .int (nI ((t ++ [c]).length))])), (va3, .inl (dd 2, 2 * n, .inl (upd (upd g3 (2 * t.length) (bt (c % 256))) (2 * t.length + 1) (bt (c / 256)))))]) ((mv_perm 0 _).trans (mv_perm 1 _)) ?_
    refine v_aload_n (pc := 75) X dJ2_append_3_75 rfl 0 rfl ?_
    refine v_widen (k := 1) (n := (2 * n)) (by omega) (by omega) ?_
    exact v_aret (pc := 76) X hr (Or.inl ⟨_, rfl⟩) dJ2_append_3_76 ⟨rfl, _, _, _, _, rfl, SbI.push1 hU3 hB3 (by omega) (by omega) hc, fun z => absurd z (by omega), by omega⟩
  · refine v_aload_n (pc := 24) X dJ2_append_3_24 rfl 0 rfl ?_
    refine v_getM (pc := 25) X in_J3 (List.mem_of_getElem? (i := 0) rfl) rfl 0 (by decide) q278 (fun y h => h) rfl dJ2_append_3_25 ?_
    refine v_aload_n (pc := 28) X dJ2_append_3_28 rfl 0 rfl ?_
    refine v_dup (pc := 29) X dJ2_append_3_29 rfl ?_
    refine v_getM (pc := 30) X in_J3 (List.mem_of_getElem? (i := 0) rfl) rfl 3 (by decide) q282 (fun y h => h) rfl dJ2_append_3_30 ?_
    refine v_dup_x1 (pc := 33) X dJ2_append_3_33 rfl rfl ?_
    refine v_iconst (pc := 34) (v := nI 1) X dJ2_append_3_34 rfl ?_
    refine v_iaddN (pc := 35) X dJ2_append_3_35 ?_
    refine v_top (y := (nI ((t ++ [c]).length))) (by rw [List.length_append]; rfl) ?_
    refine v_put (pc := 36) X in_J3 tyJ3 tyJ3_ok nmJ3 0 rfl rfl 3 (by decide) q282 (fun y h => h) rfl rfl rfl (Nat.le_of_ble_eq_true rfl) dJ2_append_3_36 (ws' := [(x, .inr (12, [.ref va, .int (nI 0), .int ml, .int (nI ((t ++ [c]).length))])), (va, .inl (dd 2, n, .inl f))]) rfl ?_
    refine v_iload_n (pc := 39) X dJ2_append_3_39 rfl 1 rfl ?_
    refine v_i2b (pc := 40) X dJ2_append_3_40 ?_
    refine v_top (y := (bt c)) rfl ?_
    refine v_bast (pc := 41) X 1 rfl rfl (by omega) (by omega) dJ2_append_3_41 (ws' := [(x, .inr (12, [.ref va, .int (nI 0), .int ml, .int (nI ((t ++ [c]).length))])), (va, .inl (dd 2, n, .inl (upd f t.length (bt c))))]) (by rw [show upd f t.length (vp_nar .byte ((bt c))) = upd f t.length (bt c) from (by rw [nar_bt _ (by omega)])]; rfl) ?_
    refine v_goto (pc := 42) X 75 dJ2_append_3_42 (by decide) ?_
    refine v_aload_n (pc := 75) X dJ2_append_3_75 rfl 0 rfl ?_
    refine v_widen (k := 1) (n := (2 * n)) (by omega) (by omega) ?_
    exact v_aret (pc := 76) X hr (Or.inl ⟨_, rfl⟩) dJ2_append_3_76 ⟨rfl, _, _, _, _, rfl, hS.push0 (by omega) (by omega), fun _ => rfl, by omega⟩
set_option maxHeartbeats 4000000 in
theorem c_J3_append_N {l_ : Launch} {D : va_G} {dd : Nat → ClassId} {x va n : Nat} {ml : Int32} {f : Nat → Int32} {t : List Nat} {c : Nat} (hS : SbI 0 n f t) (hl : t.length < 90) (hc : c < 65536) (hng : t.length + 1 ≤ n) : MW l_ D dd yJ3_append_3 cJ3_append_3 2 (some (.object "java/lang/StringBuilder")) 7 1 (2 * n) 290 [.ref x, .int (nI c)] ([(x, .inr (12, [.ref va, .int (nI 0), .int ml, .int (nI t.length)])), (va, .inl (dd 2, n, .inl f))]) (fun r w => r = some (.ref x) ∧ ∃ va2 co2 n2 f2, w = [(x, .inr (12, [.ref va2, .int (nI co2), .int ml, .int (nI ((t ++ [c]).length))])), (va2, .inl (dd 2, n2, .inl f2))] ∧ SbI co2 n2 f2 (t ++ [c]) ∧ (c < 256 → co2 = 0) ∧ n ≤ n2) := by
  refine MW.intro (by decide) (Nat.le_of_ble_eq_true rfl) (fun p_ e_ s_ m_ as_ bl_ me_ c_ A_ X hr hnm => ?_)
  have X : VX p_ s_ m_ as_ me_ c_ cJ3_append_3 2 RJ3 D dd A_ := X
  refine v_eq (loc' := [(0, .ref x), (1, .int (nI c))]) rfl rfl rfl ?_
  refine v_aload_n (pc := 0) X dJ3_append_3_0 rfl 0 rfl ?_
  refine v_iload_n (pc := 1) X dJ3_append_3_1 rfl 1 rfl ?_
  refine v_frame (pc := 2) X (wr := []) (perm_nil _) (r_SU X (c_J2_append_N hS hl hc hng) (List.mem_of_getElem? (i := 0) rfl) rfl (lw_SU q804 q2447 q291 q805 q97 q806) hdJ2_append_3_su ⟨by dsimp only; omega, by dsimp only; omega⟩ rfl rfl (Nat.le_of_ble_eq_true rfl) dJ3_append_3_2 ⟨by dsimp only; omega, by dsimp only; omega⟩) (fun v2 w2 h2 => ?_)
  obtain ⟨rfl, va2, co2, n2, f2, rfl, hS2, hk2, hn2⟩ := h2
  refine v_eq (ws' := [(x, .inr (12, [.ref va2, .int (nI co2), .int ml, .int (nI ((t ++ [c]).length))])), (va2, .inl (dd 2, n2, .inl f2))]) rfl rfl rfl ?_
  refine v_pop (pc := 5) X dJ3_append_3_5 rfl ?_
  refine v_aload_n (pc := 6) X dJ3_append_3_6 rfl 0 rfl ?_
  refine v_widen (k := 1) (n := (2 * n)) (by omega) (by omega) ?_
  exact v_aret (pc := 7) X hr (Or.inl ⟨_, rfl⟩) dJ3_append_3_7 ⟨rfl, _, _, _, _, rfl, hS2, hk2, hn2⟩
theorem hdJ2_charAt_su : yJ2_charAt.name ≠ "<init>" ∧ (parseMethodDescriptor yJ2_charAt.desc).map (fun d => d.parameters.length) = some 1 := by decide +kernel
set_option maxHeartbeats 4000000 in
theorem c_J2_charAt_0 {l_ : Launch} {D : va_G} {dd : Nat → ClassId} {x va n i c : Nat} {ml : Int32} {f : Nat → Int32} {t : List Nat} {ws : va_W} (hx : (x, .inr (12, [.ref va, .int (nI 0), .int ml, .int (nI t.length)])) ∈ ws) (hva : (va, .inl (dd 2, n, .inl f)) ∈ ws) (hS : SbI 0 n f t) (hl : t.length < 90) (hi : t[i]? = some c) : MW l_ D dd yJ2_charAt cJ2_charAt 5 (some .char) 3 0 0 90 [.ref x, .int (nI i)] (ws) (RI (fun r => nI c = r) ws) := by
  obtain ⟨hT0, hB0, hl0, hn0⟩ := id hS
  have hil := (List.getElem?_eq_some_iff.mp hi).1
  have hc := hT0.lt hi
  have hu := hS.l1 i c hi
  refine MW.intro (by decide) (Nat.le_of_ble_eq_true rfl) (fun p_ e_ s_ m_ as_ bl_ me_ c_ A_ X hr hnm => ?_)
  have X : VX p_ s_ m_ as_ me_ c_ cJ2_charAt 5 RJ2 D dd A_ := X
  refine v_eq (loc' := [(0, .ref x), (1, .int (nI i))]) rfl rfl rfl ?_
  refine v_aload_n (pc := 0) X dJ2_charAt_0 rfl 0 rfl ?_
  refine v_getM (pc := 1) X in_J3 hx rfl 1 (by decide) q279 (fun y h => h) rfl dJ2_charAt_1 ?_
  refine v_istore_n (pc := 4) (loc' := [(2, .int (nI 0)), (0, .ref x), (1, .int (nI i))]) X dJ2_charAt_4 rfl (by decide) rfl ?_
  refine v_aload_n (pc := 5) X dJ2_charAt_5 rfl 1 rfl ?_
  refine v_getM (pc := 6) X in_J3 hx rfl 0 (by decide) q278 (fun y h => h) rfl dJ2_charAt_6 ?_
  refine v_astore_n (pc := 9) (loc' := [(3, .ref va), (2, .int (nI 0)), (0, .ref x), (1, .int (nI i))]) X dJ2_charAt_9 rfl (by decide) rfl ?_
  refine v_aload_n (pc := 10) X dJ2_charAt_10 rfl 2 rfl ?_
  refine v_getM (pc := 11) X in_J3 hx rfl 3 (by decide) q282 (fun y h => h) rfl dJ2_charAt_11 ?_
  refine v_aload_n (pc := 14) X dJ2_charAt_14 rfl 0 rfl ?_
  refine v_alenM (pc := 15) X 2 hva rfl dJ2_charAt_15 ?_
  refine v_top (y := nI n) rfl ?_
  refine v_iload_n (pc := 16) X dJ2_charAt_16 rfl 1 rfl ?_
  refine v_ishr (pc := 17) X dJ2_charAt_17 ?_
  refine v_top (y := (nI (n / (0 + 1)))) (sr_co (by omega) (by decide)) ?_
  refine v_minN (pc := 18) X q1286 (by omega) (by omega) ⟨Nat.le_of_ble_eq_true rfl, Nat.le_of_ble_eq_true rfl⟩ (Nat.le_of_ble_eq_true rfl) ⟨Nat.le_of_ble_eq_true rfl, Nat.le_of_ble_eq_true rfl⟩ dJ2_charAt_18 ?_
  refine v_istore (pc := 21) (loc' := [(4, .int (nI (min t.length (n / (0 + 1))))), (3, .ref va), (2, .int (nI 0)), (0, .ref x), (1, .int (nI i))]) X dJ2_charAt_21 (by decide) rfl ?_
  refine v_iload_n (pc := 23) X dJ2_charAt_23 rfl 4 rfl ?_
  refine v_iload (pc := 24) X dJ2_charAt_24 0 rfl ?_
  refine v_readV (pc := 26) X ⟨_, List.Perm.refl ([] ++ _)⟩ (r_S X (c_J4_checkIndex (i := i) (n := min t.length (n / (0 + 1))) (by omega) (by omega)) (lw_S q1287 q817 q99 q818) hdJ4_checkIndex ⟨Nat.le_of_ble_eq_true rfl, Nat.le_of_ble_eq_true rfl⟩ rfl rfl (Nat.le_of_ble_eq_true rfl) dJ2_charAt_26 ⟨Nat.le_of_ble_eq_true rfl, Nat.le_of_ble_eq_true rfl⟩) ?_
  refine v_iload_n (pc := 29) X dJ2_charAt_29 rfl 2 rfl ?_
  refine v_if_neN (pc := 30) X (by omega) 42 dJ2_charAt_30 (by decide) (fun h30 => absurd rfl h30) (fun h30 => ?_)
  refine v_aload_n (pc := 33) X dJ2_charAt_33 rfl 1 rfl ?_
  refine v_iload_n (pc := 34) X dJ2_charAt_34 rfl 4 rfl ?_
  refine v_bald (pc := 35) X hva rfl (by omega) (by omega) dJ2_charAt_35 ?_
  refine v_top (y := (bt c)) hu.1 ?_
  refine v_sipush (pc := 36) (v := nI 255) X dJ2_charAt_36 rfl ?_
  refine v_iand (pc := 39) X dJ2_charAt_39 ?_
  refine v_top (y := (nI c)) (and_bt _ hu.2) ?_
  refine v_i2c (pc := 40) (v := nI c) X dJ2_charAt_40 (i2c_n hc) ?_
  exact v_zret (pc := 41) X hr (congrArg Value.int (nar_c hc)) dJ2_charAt_41 ⟨⟨_, rfl, rfl⟩, rfl⟩
set_option maxHeartbeats 4000000 in
theorem c_J2_charAt_1 {l_ : Launch} {D : va_G} {dd : Nat → ClassId} {x va n i c : Nat} {ml : Int32} {f : Nat → Int32} {t : List Nat} {ws : va_W} (hx : (x, .inr (12, [.ref va, .int (nI 1), .int ml, .int (nI t.length)])) ∈ ws) (hva : (va, .inl (dd 2, n, .inl f)) ∈ ws) (hS : SbI 1 n f t) (hl : t.length < 90) (hi : t[i]? = some c) : MW l_ D dd yJ2_charAt cJ2_charAt 5 (some .char) 3 0 0 90 [.ref x, .int (nI i)] (ws) (RI (fun r => nI c = r) ws) := by
  obtain ⟨hT0, hB0, hl0, hn0⟩ := id hS
  have hil := (List.getElem?_eq_some_iff.mp hi).1
  have hc := hT0.lt hi
  have hu := hS.u16 i c hi
  refine MW.intro (by decide) (Nat.le_of_ble_eq_true rfl) (fun p_ e_ s_ m_ as_ bl_ me_ c_ A_ X hr hnm => ?_)
  have X : VX p_ s_ m_ as_ me_ c_ cJ2_charAt 5 RJ2 D dd A_ := X
  refine v_eq (loc' := [(0, .ref x), (1, .int (nI i))]) rfl rfl rfl ?_
  refine v_aload_n (pc := 0) X dJ2_charAt_0 rfl 0 rfl ?_
  refine v_getM (pc := 1) X in_J3 hx rfl 1 (by decide) q279 (fun y h => h) rfl dJ2_charAt_1 ?_
  refine v_istore_n (pc := 4) (loc' := [(2, .int (nI 1)), (0, .ref x), (1, .int (nI i))]) X dJ2_charAt_4 rfl (by decide) rfl ?_
  refine v_aload_n (pc := 5) X dJ2_charAt_5 rfl 1 rfl ?_
  refine v_getM (pc := 6) X in_J3 hx rfl 0 (by decide) q278 (fun y h => h) rfl dJ2_charAt_6 ?_
  refine v_astore_n (pc := 9) (loc' := [(3, .ref va), (2, .int (nI 1)), (0, .ref x), (1, .int (nI i))]) X dJ2_charAt_9 rfl (by decide) rfl ?_
  refine v_aload_n (pc := 10) X dJ2_charAt_10 rfl 2 rfl ?_
  refine v_getM (pc := 11) X in_J3 hx rfl 3 (by decide) q282 (fun y h => h) rfl dJ2_charAt_11 ?_
  refine v_aload_n (pc := 14) X dJ2_charAt_14 rfl 0 rfl ?_
  refine v_alenM (pc := 15) X 2 hva rfl dJ2_charAt_15 ?_
  refine v_top (y := nI n) rfl ?_
  refine v_iload_n (pc := 16) X dJ2_charAt_16 rfl 1 rfl ?_
  refine v_ishr (pc := 17) X dJ2_charAt_17 ?_
  refine v_top (y := (nI (n / (1 + 1)))) (sr_co (by omega) (by decide)) ?_
  refine v_minN (pc := 18) X q1286 (by omega) (by omega) ⟨Nat.le_of_ble_eq_true rfl, Nat.le_of_ble_eq_true rfl⟩ (Nat.le_of_ble_eq_true rfl) ⟨Nat.le_of_ble_eq_true rfl, Nat.le_of_ble_eq_true rfl⟩ dJ2_charAt_18 ?_
  refine v_istore (pc := 21) (loc' := [(4, .int (nI (min t.length (n / (1 + 1))))), (3, .ref va), (2, .int (nI 1)), (0, .ref x), (1, .int (nI i))]) X dJ2_charAt_21 (by decide) rfl ?_
  refine v_iload_n (pc := 23) X dJ2_charAt_23 rfl 4 rfl ?_
  refine v_iload (pc := 24) X dJ2_charAt_24 0 rfl ?_
  refine v_readV (pc := 26) X ⟨_, List.Perm.refl ([] ++ _)⟩ (r_S X (c_J4_checkIndex (i := i) (n := min t.length (n / (1 + 1))) (by omega) (by omega)) (lw_S q1287 q817 q99 q818) hdJ4_checkIndex ⟨Nat.le_of_ble_eq_true rfl, Nat.le_of_ble_eq_true rfl⟩ rfl rfl (Nat.le_of_ble_eq_true rfl) dJ2_charAt_26 ⟨Nat.le_of_ble_eq_true rfl, Nat.le_of_ble_eq_true rfl⟩) ?_
  refine v_iload_n (pc := 29) X dJ2_charAt_29 rfl 2 rfl ?_
  refine v_if_neN (pc := 30) X (by omega) 42 dJ2_charAt_30 (by decide) (fun h30 => ?_) (fun h30 => absurd h30 (by decide))
  refine v_aload_n (pc := 42) X dJ2_charAt_42 rfl 1 rfl ?_
  refine v_iload_n (pc := 43) X dJ2_charAt_43 rfl 4 rfl ?_
  refine v_read (pc := 44) X ⟨[], perm_nil _⟩ (r_S X (c_J5_getChar (i := i) (by omega) (by omega) hu.1 hu.2.1 hu.2.2 hva) (lw_S q1288 q731 q100 q732) hdJ5_getChar ⟨Nat.le_of_ble_eq_true rfl, Nat.le_of_ble_eq_true rfl⟩ rfl rfl (Nat.le_of_ble_eq_true rfl) dJ2_charAt_44 ⟨Nat.le_of_ble_eq_true rfl, Nat.le_of_ble_eq_true rfl⟩) (fun r44 h44 => ?_)
  subst h44
  exact v_zret (pc := 47) X hr (congrArg Value.int (nar_c hc)) dJ2_charAt_47 ⟨⟨_, rfl, rfl⟩, rfl⟩
theorem c_J2_charAt {l_ : Launch} {D : va_G} {dd : Nat → ClassId} {co : Nat} {x va n i c : Nat} {ml : Int32} {f : Nat → Int32} {t : List Nat} {ws : va_W} (hco : co ≤ 1) (hx : (x, .inr (12, [.ref va, .int (nI co), .int ml, .int (nI t.length)])) ∈ ws) (hva : (va, .inl (dd 2, n, .inl f)) ∈ ws) (hS : SbI co n f t) (hl : t.length < 90) (hi : t[i]? = some c) : MW l_ D dd yJ2_charAt cJ2_charAt 5 (some .char) 3 0 0 90 [.ref x, .int (nI i)] (ws) (RI (fun r => nI c = r) ws) := by
  rcases (show co = 0 ∨ co = 1 by omega) with rfl | rfl
  · exact c_J2_charAt_0 hx hva hS hl hi
  · exact c_J2_charAt_1 hx hva hS hl hi
theorem hdJ3_charAt : yJ3_charAt.cls = RJ3 ∧ yJ3_charAt.cls ≠ "java/lang/invoke/MethodHandle" ∧ yJ3_charAt.cls ≠ "java/lang/invoke/VarHandle" ∧ (parseMethodDescriptor yJ3_charAt.desc).map (fun d => d.parameters.length) = some 1 := by decide +kernel
set_option maxHeartbeats 4000000 in
theorem c_J3_charAt_0 {l_ : Launch} {D : va_G} {dd : Nat → ClassId} {x va n i c : Nat} {ml : Int32} {f : Nat → Int32} {t : List Nat} {ws : va_W} (hx : (x, .inr (12, [.ref va, .int (nI 0), .int ml, .int (nI t.length)])) ∈ ws) (hva : (va, .inl (dd 2, n, .inl f)) ∈ ws) (hS : SbI 0 n f t) (hl : t.length < 90) (hi : t[i]? = some c) : MW l_ D dd yJ3_charAt cJ3_charAt 2 (some .char) 4 0 0 140 [.ref x, .int (nI i)] (ws) (RI (fun r => nI c = r) ws) := by
  obtain ⟨hT0, hB0, hl0, hn0⟩ := id hS
  have hil := (List.getElem?_eq_some_iff.mp hi).1
  have hc := hT0.lt hi
  refine MW.intro (by decide) (Nat.le_of_ble_eq_true rfl) (fun p_ e_ s_ m_ as_ bl_ me_ c_ A_ X hr hnm => ?_)
  have X : VX p_ s_ m_ as_ me_ c_ cJ3_charAt 2 RJ3 D dd A_ := X
  refine v_eq (loc' := [(0, .ref x), (1, .int (nI i))]) rfl rfl rfl ?_
  refine v_aload_n (pc := 0) X dJ3_charAt_0 rfl 0 rfl ?_
  refine v_iload_n (pc := 1) X dJ3_charAt_1 rfl 1 rfl ?_
  refine v_read (pc := 2) X ⟨[], perm_nil _⟩ (r_SU X (c_J2_charAt_0 hx hva hS hl hi) hx rfl (lw_SU q1283 q2450 q291 q1284 q97 q1285) hdJ2_charAt_su ⟨Nat.le_of_ble_eq_true rfl, Nat.le_of_ble_eq_true rfl⟩ rfl rfl (Nat.le_of_ble_eq_true rfl) dJ3_charAt_2 ⟨Nat.le_of_ble_eq_true rfl, Nat.le_of_ble_eq_true rfl⟩) (fun r2 h2 => ?_)
  subst h2
  exact v_zret (pc := 5) X hr (congrArg Value.int (nar_c hc)) dJ3_charAt_5 ⟨⟨_, rfl, rfl⟩, rfl⟩
set_option maxHeartbeats 4000000 in
theorem c_J3_charAt_1 {l_ : Launch} {D : va_G} {dd : Nat → ClassId} {x va n i c : Nat} {ml : Int32} {f : Nat → Int32} {t : List Nat} {ws : va_W} (hx : (x, .inr (12, [.ref va, .int (nI 1), .int ml, .int (nI t.length)])) ∈ ws) (hva : (va, .inl (dd 2, n, .inl f)) ∈ ws) (hS : SbI 1 n f t) (hl : t.length < 90) (hi : t[i]? = some c) : MW l_ D dd yJ3_charAt cJ3_charAt 2 (some .char) 4 0 0 140 [.ref x, .int (nI i)] (ws) (RI (fun r => nI c = r) ws) := by
  obtain ⟨hT0, hB0, hl0, hn0⟩ := id hS
  have hil := (List.getElem?_eq_some_iff.mp hi).1
  have hc := hT0.lt hi
  refine MW.intro (by decide) (Nat.le_of_ble_eq_true rfl) (fun p_ e_ s_ m_ as_ bl_ me_ c_ A_ X hr hnm => ?_)
  have X : VX p_ s_ m_ as_ me_ c_ cJ3_charAt 2 RJ3 D dd A_ := X
  refine v_eq (loc' := [(0, .ref x), (1, .int (nI i))]) rfl rfl rfl ?_
  refine v_aload_n (pc := 0) X dJ3_charAt_0 rfl 0 rfl ?_
  refine v_iload_n (pc := 1) X dJ3_charAt_1 rfl 1 rfl ?_
  refine v_read (pc := 2) X ⟨[], perm_nil _⟩ (r_SU X (c_J2_charAt_1 hx hva hS hl hi) hx rfl (lw_SU q1283 q2450 q291 q1284 q97 q1285) hdJ2_charAt_su ⟨Nat.le_of_ble_eq_true rfl, Nat.le_of_ble_eq_true rfl⟩ rfl rfl (Nat.le_of_ble_eq_true rfl) dJ3_charAt_2 ⟨Nat.le_of_ble_eq_true rfl, Nat.le_of_ble_eq_true rfl⟩) (fun r2 h2 => ?_)
  subst h2
  exact v_zret (pc := 5) X hr (congrArg Value.int (nar_c hc)) dJ3_charAt_5 ⟨⟨_, rfl, rfl⟩, rfl⟩
theorem c_J3_charAt {l_ : Launch} {D : va_G} {dd : Nat → ClassId} {co : Nat} {x va n i c : Nat} {ml : Int32} {f : Nat → Int32} {t : List Nat} {ws : va_W} (hco : co ≤ 1) (hx : (x, .inr (12, [.ref va, .int (nI co), .int ml, .int (nI t.length)])) ∈ ws) (hva : (va, .inl (dd 2, n, .inl f)) ∈ ws) (hS : SbI co n f t) (hl : t.length < 90) (hi : t[i]? = some c) : MW l_ D dd yJ3_charAt cJ3_charAt 2 (some .char) 4 0 0 140 [.ref x, .int (nI i)] (ws) (RI (fun r => nI c = r) ws) := by
  rcases (show co = 0 ∨ co = 1 by omega) with rfl | rfl
  · exact c_J3_charAt_0 hx hva hS hl hi
  · exact c_J3_charAt_1 hx hva hS hl hi
theorem hdJ2_init : yJ2_init.name = "<init>" ∧ yJ2_init.cls ≠ "java/lang/invoke/MethodHandle" ∧ yJ2_init.cls ≠ "java/lang/invoke/VarHandle" ∧ (parseMethodDescriptor yJ2_init.desc).map (fun d => d.parameters.length) = some 1 := by decide +kernel
set_option maxHeartbeats 4000000 in
theorem c_J2_init {l_ : Launch} {D : va_G} {dd : Nat → ClassId} {x : Nat}  : MW l_ D dd yJ2_init cJ2_init 2 none 1 1 16 25 [.ref x, .int (nI 16)] ([(x, .inr (12, [.null, .int 0, .int 0, .int 0]))]) (fun r w => r = none ∧ ∃ va, w = [(x, .inr (12, [.ref va, .int (nI 0), .int 0, .int (nI 0)])), (va, .inl (dd 2, 16, .inl (fun _ => 0)))]) := by
  refine MW.intro (by decide) (Nat.le_of_ble_eq_true rfl) (fun p_ e_ s_ m_ as_ bl_ me_ c_ A_ X hr hnm => ?_)
  have X : VX p_ s_ m_ as_ me_ c_ cJ2_init 2 RJ2 D dd A_ := X
  refine v_eq (loc' := [(0, .ref x), (1, .int (nI 16))]) rfl rfl rfl ?_
  refine v_aload_n (pc := 0) X dJ2_init_0 rfl 0 rfl ?_
  refine v_objInit (pc := 1) X q268 q137 q138 ⟨Nat.le_of_ble_eq_true rfl, Nat.le_of_ble_eq_true rfl⟩ (Nat.le_of_ble_eq_true rfl) dJ2_init_1 ?_
  refine v_gets (pc := 4) X (List.mem_of_getElem? (l := zS) (i := 0) rfl) q269 (fun y h => h) dJ2_init_4 ?_
  refine v_top (y := nI 1) rfl ?_
  refine v_if_eqN (pc := 7) X (by omega) 25 dJ2_init_7 (by decide) (fun h7 => absurd h7 (by decide)) (fun h7 => ?_)
  refine v_aload_n (pc := 10) X dJ2_init_10 rfl 0 rfl ?_
  refine v_iload_n (pc := 11) X dJ2_init_11 rfl 1 rfl ?_
  refine v_newa (pc := 12) (atype := .byte) (ty := .byte) (N := 16) X 2 rfl (fun _ _ h => h) q292 rfl (16, .inl (fun _ => 0)) (fun _ => rfl) rfl (by decide) (by decide) ⟨Nat.le_of_ble_eq_true rfl, Nat.le_of_ble_eq_true rfl⟩ dJ2_init_12 (fun q1 => ?_)
  refine v_perm (ws' := [(q1, .inl (dd 2, 16, .inl (fun _ => 0)))] ++ [(x, .inr (12, [.null, .int 0, .int 0, .int 0]))]) List.perm_append_comm ?_
  refine v_eq (ws' := [(q1, .inl (dd 2, 16, .inl (fun _ => 0))), (x, .inr (12, [.null, .int 0, .int 0, .int 0]))]) rfl rfl rfl ?_
  refine v_put (pc := 14) X in_J3 tyJ3 tyJ3_ok nmJ3 1 rfl rfl 0 (by decide) q278 (fun y h => h) rfl rfl rfl (Nat.le_of_ble_eq_true rfl) dJ2_init_14 (ws' := [(q1, .inl (dd 2, 16, .inl (fun _ => 0))), (x, .inr (12, [.ref q1, .int 0, .int 0, .int 0]))]) rfl ?_
  refine v_aload_n (pc := 17) X dJ2_init_17 rfl 0 rfl ?_
  refine v_iconst (pc := 18) (v := nI 0) X dJ2_init_18 rfl ?_
  refine v_put (pc := 19) X in_J3 tyJ3 tyJ3_ok nmJ3 1 rfl rfl 1 (by decide) q279 (fun y h => h) rfl rfl rfl (Nat.le_of_ble_eq_true rfl) dJ2_init_19 (ws' := [(q1, .inl (dd 2, 16, .inl (fun _ => 0))), (x, .inr (12, [.ref q1, .int (nI 0), .int 0, .int 0]))]) rfl ?_
  refine v_goto (pc := 22) X 38 dJ2_init_22 (by decide) ?_
  refine v_perm (ws' := [(x, .inr (12, [.ref q1, .int (nI 0), .int 0, .int 0])), (q1, .inl (dd 2, 16, .inl (fun _ => 0)))]) ((mv_perm 0 _).trans (mv_perm 1 _)) ?_
  refine v_widen (k := 1) (n := 16) (Nat.le_of_ble_eq_true rfl) (Nat.le_of_ble_eq_true rfl) ?_
  exact v_vret (pc := 38) X hr dJ2_init_38 ⟨rfl, _, rfl⟩
theorem hdJ3_init : yJ3_init.name = "<init>" ∧ yJ3_init.cls ≠ "java/lang/invoke/MethodHandle" ∧ yJ3_init.cls ≠ "java/lang/invoke/VarHandle" ∧ (parseMethodDescriptor yJ3_init.desc).map (fun d => d.parameters.length) = some 0 := by decide +kernel
set_option maxHeartbeats 4000000 in
theorem c_J3_init {l_ : Launch} {D : va_G} {dd : Nat → ClassId} {x : Nat}  : MW l_ D dd yJ3_init cJ3_init 1 none 2 1 16 70 [.ref x] ([(x, .inr (12, [.null, .int 0, .int 0, .int 0]))]) (fun r w => r = none ∧ ∃ va, w = [(x, .inr (12, [.ref va, .int (nI 0), .int 0, .int (nI 0)])), (va, .inl (dd 2, 16, .inl (fun _ => 0)))]) := by
  refine MW.intro (by decide) (Nat.le_of_ble_eq_true rfl) (fun p_ e_ s_ m_ as_ bl_ me_ c_ A_ X hr hnm => ?_)
  have X : VX p_ s_ m_ as_ me_ c_ cJ3_init 1 RJ3 D dd A_ := X
  refine v_eq (loc' := [(0, .ref x)]) rfl rfl rfl ?_
  refine v_aload_n (pc := 0) X dJ3_init_0 rfl 0 rfl ?_
  refine v_bipush (pc := 1) (v := nI 16) X dJ3_init_1 rfl ?_
  refine v_frame (pc := 3) X (wr := []) (perm_nil _) (r_I X c_J2_init q267 q97 q265 q266 hdJ2_init ⟨Nat.le_of_ble_eq_true rfl, Nat.le_of_ble_eq_true rfl⟩ rfl rfl (Nat.le_of_ble_eq_true rfl) dJ3_init_3 ⟨Nat.le_of_ble_eq_true rfl, Nat.le_of_ble_eq_true rfl⟩) (fun v3 w3 h3 => ?_)
  obtain ⟨rfl, va, rfl⟩ := h3
  refine v_eq (ws' := [(x, .inr (12, [.ref va, .int (nI 0), .int 0, .int (nI 0)])), (va, .inl (dd 2, 16, .inl (fun _ => 0)))]) rfl rfl rfl ?_
  refine v_widen (k := 1) (n := 16) (Nat.le_of_ble_eq_true rfl) (Nat.le_of_ble_eq_true rfl) ?_
  exact v_vret (pc := 6) X hr dJ3_init_6 ⟨rfl, _, rfl⟩
theorem SbI.new : SbI 0 16 (fun _ => 0) [] := ⟨Or.inl ⟨rfl, fun i c h => by cases h⟩, BF.zero _, by decide, by decide⟩

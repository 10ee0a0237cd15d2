theorem v_same {p : Program} {l : Launch} {e : Env} {R : Room} {s : State} {m : MethodId} {args : Array Value} {below : List Frame} {meth : Method} {c : Code} {D : va_G} {A : Nat → Prop} {nL cells slots : Nat} {Q : State → Prop} {ws : va_W} {pc : Nat} {loc : List (Nat × Value)} {st : List Value} {a : Nat} {x y : va_E} (h1 : (a, x) ∈ ws) (h2 : (a, y) ∈ ws) (k : x = y → V p l e R s m args below meth c D A nL cells slots Q ws pc loc st) : V p l e R s m args below meth c D A nL cells slots Q ws pc loc st := by
  intro H locs ls hP hD hS hl
  obtain ⟨i, hi⟩ := List.getElem?_of_mem h1
  obtain ⟨j, hj⟩ := List.getElem?_of_mem h2
  have e := hD.1 i j _ _ hi hj rfl
  subst e
  have := Option.some.inj (hi.symm.trans hj)
  injection this with _ e2
  exact k e2 H locs ls hP hD hS hl
theorem bt_inj {a b : Nat} (ha : a < 256) (hb : b < 256) (h : bt a = bt b) : a = b := by
  have e := and_bt a ha
  rw [h, and_bt b hb] at e
  exact ((nI_eq (by omega) (by omega)).mp e).symm
theorem L1Is.eq {f g : Nat → Int32} {t u : List Nat} (h : L1Is f t) (h2 : L1Is g u) (hl : t.length = u.length) (hfg : ∀ i, i < t.length → f i = g i) : t = u := by
  apply List.ext_getElem hl
  intro i h3 h4
  have e1 := h i _ (List.getElem?_eq_getElem h3)
  have e2 := h2 i _ (List.getElem?_eq_getElem h4)
  exact bt_inj e1.2 e2.2 (by rw [← e1.1, ← e2.1]; exact hfg i h3)
theorem L1Is.ne {f g : Nat → Int32} {t u : List Nat} (h : L1Is f t) (h2 : L1Is g u) {i : Nat} (h3 : i < t.length) (hne : ¬ f i = g i) : ¬ t = u := by
  intro e
  subst e
  exact hne ((h i _ (List.getElem?_eq_getElem h3)).1.trans (h2 i _ (List.getElem?_eq_getElem h3)).1.symm)
/-- the number by which texts are sorted into a switch -/
def hsh (t : List Nat) : Int32 := t.foldl (fun h c => nI 31 * h + nI c) (nI 0)
theorem hsh_s {t : List Nat} {k c : Nat} (h : t[k]? = some c) : hsh (t.take (k + 1)) = nI 31 * hsh (t.take k) + nI c := by
  rw [List.take_add_one, h]
  unfold hsh
  rw [List.foldl_append]
  rfl
theorem hsh_1 : ∀ c, c < 256 → hsh [c] = nI c := by decide +kernel
abbrev SwP (t u : List Nat) : Prop := u <+: t
theorem sw_iff {f g : Nat → Int32} {t u : List Nat} (h : L1Is f t) (h2 : L1Is g u) (hl : u.length ≤ t.length) : SwP t u ↔ ∀ i, i < u.length → f i = g i := by
  show u <+: t ↔ _
  rw [List.prefix_iff_eq_take]
  constructor
  · intro e i hi
    have h4 := List.getElem?_eq_getElem hi
    have h3 : t[i]? = some u[i] := by
      have : u[i]? = (t.take u.length)[i]? := by rw [← e]
      rw [List.getElem?_take_of_lt hi] at this
      rw [← this]; exact h4
    exact (h i _ h3).1.trans (h2 i _ h4).1.symm
  · intro hfg
    have hT : L1Is f (t.take u.length) := fun i c hi => by
      have hlt := (List.getElem?_eq_some_iff.mp hi).1
      rw [List.length_take] at hlt
      rw [List.getElem?_take_of_lt (by omega)] at hi
      exact h i c hi
    exact (L1Is.eq hT h2 (by rw [List.length_take]; omega) (fun i hi => hfg i (by rw [List.length_take] at hi; omega))).symm
theorem sw_len {t u : List Nat} (h : t.length < u.length) : ¬ SwP t u := fun z => by
  have := z.length_le
  omega
theorem sw_wide {f : Nat → Int32} {t u : List Nat} (h : L1Is f t) (hw : ∃ c ∈ u, 256 ≤ c) : ¬ SwP t u := fun z => by
  obtain ⟨c, hc, h2⟩ := hw
  obtain ⟨i, hi⟩ := List.getElem?_of_mem (z.subset hc)
  have := (h i c hi).2
  omega
theorem le_sub {a b : Nat} (ha : a < 1000000) (hb : b < 1000000) : nI 0 ≤ nI a - nI b ↔ b ≤ a := by
  rw [Int32.le_iff_toInt_le, subI2 ha hb, zI]
  omega
theorem hdJ4_coder : yJ4_coder.cls = RJ4 ∧ yJ4_coder.cls ≠ "java/lang/invoke/MethodHandle" ∧ yJ4_coder.cls ≠ "java/lang/invoke/VarHandle" ∧ (parseMethodDescriptor yJ4_coder.desc).map (fun d => d.parameters.length) = some 0 := by decide +kernel
set_option maxHeartbeats 4000000 in
theorem c_J4_coder_0 {l_ : Launch} {D : va_G} {dd : Nat → ClassId} {q va : Nat} {hs hz : Int32} {ws : va_W} (hq : (q, .inr (13, [.ref va, .int (nI 0), .int hs, .int hz])) ∈ ws) : MW l_ D dd yJ4_coder cJ4_coder 1 (some (.byte)) 0 0 0 0 [.ref q] (ws) (RI (fun r => nI 0 = r) ws) := by
  refine MW.intro (by decide) (Nat.le_of_ble_eq_true rfl) (fun p_ e_ s_ m_ as_ bl_ me_ c_ A_ X hr hnm => ?_)
  have X : VX p_ s_ m_ as_ me_ c_ cJ4_coder 1 RJ4 D dd A_ := X
  refine v_eq (loc' := [(0, .ref q)]) rfl rfl rfl ?_
  refine v_gets (pc := 0) X (List.mem_of_getElem? (l := zS) (i := 0) rfl) q607 (fun y h => h) dJ4_coder_0 ?_
  refine v_top (y := nI 1) rfl ?_
  refine v_if_eqN (pc := 3) X (by omega) 13 dJ4_coder_3 (by decide) (fun h3 => absurd h3 (by decide)) (fun h3 => ?_)
  refine v_aload_n (pc := 6) X dJ4_coder_6 rfl 0 rfl ?_
  refine v_getM (pc := 7) X in_J4 hq rfl 1 (by decide) q738 (fun y h => h) rfl dJ4_coder_7 ?_
  refine v_goto (pc := 10) X 14 dJ4_coder_10 (by decide) ?_
  exact v_zret (pc := 14) X hr rfl dJ4_coder_14 ⟨⟨_, rfl, rfl⟩, rfl⟩
set_option maxHeartbeats 4000000 in
theorem c_J4_coder_1 {l_ : Launch} {D : va_G} {dd : Nat → ClassId} {q va : Nat} {hs hz : Int32} {ws : va_W} (hq : (q, .inr (13, [.ref va, .int (nI 1), .int hs, .int hz])) ∈ ws) : MW l_ D dd yJ4_coder cJ4_coder 1 (some (.byte)) 0 0 0 0 [.ref q] (ws) (RI (fun r => nI 1 = r) ws) := by
  refine MW.intro (by decide) (Nat.le_of_ble_eq_true rfl) (fun p_ e_ s_ m_ as_ bl_ me_ c_ A_ X hr hnm => ?_)
  have X : VX p_ s_ m_ as_ me_ c_ cJ4_coder 1 RJ4 D dd A_ := X
  refine v_eq (loc' := [(0, .ref q)]) rfl rfl rfl ?_
  refine v_gets (pc := 0) X (List.mem_of_getElem? (l := zS) (i := 0) rfl) q607 (fun y h => h) dJ4_coder_0 ?_
  refine v_top (y := nI 1) rfl ?_
  refine v_if_eqN (pc := 3) X (by omega) 13 dJ4_coder_3 (by decide) (fun h3 => absurd h3 (by decide)) (fun h3 => ?_)
  refine v_aload_n (pc := 6) X dJ4_coder_6 rfl 0 rfl ?_
  refine v_getM (pc := 7) X in_J4 hq rfl 1 (by decide) q738 (fun y h => h) rfl dJ4_coder_7 ?_
  refine v_goto (pc := 10) X 14 dJ4_coder_10 (by decide) ?_
  exact v_zret (pc := 14) X hr rfl dJ4_coder_14 ⟨⟨_, rfl, rfl⟩, rfl⟩
theorem hdJ4_length : yJ4_length.cls = RJ4 ∧ yJ4_length.cls ≠ "java/lang/invoke/MethodHandle" ∧ yJ4_length.cls ≠ "java/lang/invoke/VarHandle" ∧ (parseMethodDescriptor yJ4_length.desc).map (fun d => d.parameters.length) = some 0 := by decide +kernel
set_option maxHeartbeats 4000000 in
theorem c_J4_length_0 {l_ : Launch} {D : va_G} {dd : Nat → ClassId} {q va : Nat} {hs hz : Int32} {ws : va_W} {n : Nat} {f : Nat → Int32} (hq : (q, .inr (13, [.ref va, .int (nI 0), .int hs, .int hz])) ∈ ws) (hva : (va, .inl (dd 2, n, .inl f)) ∈ ws) (hn : n < 2 ^ 30) : MW l_ D dd yJ4_length cJ4_length 1 (some .int) 1 0 0 30 [.ref q] (ws) (RI (fun r => nI (n / (0 + 1)) = r) ws) := by
  refine MW.intro (by decide) (Nat.le_of_ble_eq_true rfl) (fun p_ e_ s_ m_ as_ bl_ me_ c_ A_ X hr hnm => ?_)
  have X : VX p_ s_ m_ as_ me_ c_ cJ4_length 1 RJ4 D dd A_ := X
  refine v_eq (loc' := [(0, .ref q)]) rfl rfl rfl ?_
  refine v_aload_n (pc := 0) X dJ4_length_0 rfl 0 rfl ?_
  refine v_getM (pc := 1) X in_J4 hq rfl 0 (by decide) q737 (fun y h => h) rfl dJ4_length_1 ?_
  refine v_alenM (pc := 4) X 2 hva rfl dJ4_length_4 ?_
  refine v_top (y := nI n) rfl ?_
  refine v_aload_n (pc := 5) X dJ4_length_5 rfl 0 rfl ?_
  refine v_read (pc := 6) X ⟨[], perm_nil _⟩ (r_V X (c_J4_coder_0 hq) hq rfl rfl (lw_V q603 q604 q605 q99 q606) hdJ4_coder ⟨Nat.le_of_ble_eq_true rfl, Nat.le_of_ble_eq_true rfl⟩ rfl rfl (Nat.le_of_ble_eq_true rfl) dJ4_length_6 ⟨Nat.le_of_ble_eq_true rfl, Nat.le_of_ble_eq_true rfl⟩) (fun r6 h6 => ?_)
  subst h6
  refine v_ishr (pc := 9) X dJ4_length_9 ?_
  refine v_top (y := (nI (n / (0 + 1)))) (sr_co (by omega) (by decide)) ?_
  exact v_iret (pc := 10) X hr dJ4_length_10 ⟨⟨_, rfl, rfl⟩, rfl⟩
set_option maxHeartbeats 4000000 in
theorem c_J4_length_1 {l_ : Launch} {D : va_G} {dd : Nat → ClassId} {q va : Nat} {hs hz : Int32} {ws : va_W} {n : Nat} {f : Nat → Int32} (hq : (q, .inr (13, [.ref va, .int (nI 1), .int hs, .int hz])) ∈ ws) (hva : (va, .inl (dd 2, n, .inl f)) ∈ ws) (hn : n < 2 ^ 30) : MW l_ D dd yJ4_length cJ4_length 1 (some .int) 1 0 0 30 [.ref q] (ws) (RI (fun r => nI (n / (1 + 1)) = r) ws) := by
  refine MW.intro (by decide) (Nat.le_of_ble_eq_true rfl) (fun p_ e_ s_ m_ as_ bl_ me_ c_ A_ X hr hnm => ?_)
  have X : VX p_ s_ m_ as_ me_ c_ cJ4_length 1 RJ4 D dd A_ := X
  refine v_eq (loc' := [(0, .ref q)]) rfl rfl rfl ?_
  refine v_aload_n (pc := 0) X dJ4_length_0 rfl 0 rfl ?_
  refine v_getM (pc := 1) X in_J4 hq rfl 0 (by decide) q737 (fun y h => h) rfl dJ4_length_1 ?_
  refine v_alenM (pc := 4) X 2 hva rfl dJ4_length_4 ?_
  refine v_top (y := nI n) rfl ?_
  refine v_aload_n (pc := 5) X dJ4_length_5 rfl 0 rfl ?_
  refine v_read (pc := 6) X ⟨[], perm_nil _⟩ (r_V X (c_J4_coder_1 hq) hq rfl rfl (lw_V q603 q604 q605 q99 q606) hdJ4_coder ⟨Nat.le_of_ble_eq_true rfl, Nat.le_of_ble_eq_true rfl⟩ rfl rfl (Nat.le_of_ble_eq_true rfl) dJ4_length_6 ⟨Nat.le_of_ble_eq_true rfl, Nat.le_of_ble_eq_true rfl⟩) (fun r6 h6 => ?_)
  subst h6
  refine v_ishr (pc := 9) X dJ4_length_9 ?_
  refine v_top (y := (nI (n / (1 + 1)))) (sr_co (by omega) (by decide)) ?_
  exact v_iret (pc := 10) X hr dJ4_length_10 ⟨⟨_, rfl, rfl⟩, rfl⟩
theorem hdJ4_isLatin1 : yJ4_isLatin1.cls = RJ4 ∧ yJ4_isLatin1.cls ≠ "java/lang/invoke/MethodHandle" ∧ yJ4_isLatin1.cls ≠ "java/lang/invoke/VarHandle" ∧ (parseMethodDescriptor yJ4_isLatin1.desc).map (fun d => d.parameters.length) = some 0 := by decide +kernel
set_option maxHeartbeats 4000000 in
theorem c_J4_isLatin1 {l_ : Launch} {D : va_G} {dd : Nat → ClassId} {q va : Nat} {hs hz : Int32} {ws : va_W} (hq : (q, .inr (13, [.ref va, .int (nI 0), .int hs, .int hz])) ∈ ws) : MW l_ D dd yJ4_isLatin1 cJ4_isLatin1 1 (some .boolean) 0 0 0 0 [.ref q] (ws) (RI (fun r => bI True = r) ws) := by
  refine MW.intro (by decide) (Nat.le_of_ble_eq_true rfl) (fun p_ e_ s_ m_ as_ bl_ me_ c_ A_ X hr hnm => ?_)
  have X : VX p_ s_ m_ as_ me_ c_ cJ4_isLatin1 1 RJ4 D dd A_ := X
  refine v_eq (loc' := [(0, .ref q)]) rfl rfl rfl ?_
  refine v_gets (pc := 0) X (List.mem_of_getElem? (l := zS) (i := 0) rfl) q607 (fun y h => h) dJ4_isLatin1_0 ?_
  refine v_top (y := nI 1) rfl ?_
  refine v_if_eqN (pc := 3) X (by omega) 17 dJ4_isLatin1_3 (by decide) (fun h3 => absurd h3 (by decide)) (fun h3 => ?_)
  refine v_aload_n (pc := 6) X dJ4_isLatin1_6 rfl 0 rfl ?_
  refine v_getM (pc := 7) X in_J4 hq rfl 1 (by decide) q738 (fun y h => h) rfl dJ4_isLatin1_7 ?_
  refine v_if_neN (pc := 10) X (by omega) 17 dJ4_isLatin1_10 (by decide) (fun h10 => absurd rfl h10) (fun h10 => ?_)
  refine v_iconst (pc := 13) (v := nI 1) X dJ4_isLatin1_13 rfl ?_
  refine v_goto (pc := 14) X 18 dJ4_isLatin1_14 (by decide) ?_
  exact v_zret (pc := 18) X hr rfl dJ4_isLatin1_18 ⟨⟨_, rfl, rfl⟩, rfl⟩
theorem hdJ20_equals : yJ20_equals.cls ≠ "java/lang/invoke/MethodHandle" ∧ yJ20_equals.cls ≠ "java/lang/invoke/VarHandle" ∧ (parseMethodDescriptor yJ20_equals.desc).map (fun d => d.parameters.length) = some 2 := by decide +kernel
set_option maxHeartbeats 4000000 in
theorem c_J20_equals {l_ : Launch} {D : va_G} {dd : Nat → ClassId} {va vb n m : Nat} {f g : Nat → Int32} {t u : List Nat} {ws : va_W} (hva : (va, .inl (dd 2, n, .inl f)) ∈ ws) (hvb : (vb, .inl (dd 2, m, .inl g)) ∈ ws) (hT : L1Is f t) (hU : L1Is g u) (hn : n = t.length) (hm : m = u.length) (hl : n < 1000) (hl2 : m < 1000) : MW l_ D dd yJ20_equals cJ20_equals 3 (some .boolean) 0 0 0 0 [.ref va, .ref vb] (ws) (RI (fun r => bI (t = u) = r) ws) := by
  refine MW.intro (by decide) (Nat.le_of_ble_eq_true rfl) (fun p_ e_ s_ m_ as_ bl_ me_ c_ A_ X hr hnm => ?_)
  have X : VX p_ s_ m_ as_ me_ c_ cJ20_equals 3 RJ20 D dd A_ := X
  refine v_eq (loc' := [(0, .ref va), (1, .ref vb)]) rfl rfl rfl ?_
  refine v_aload_n (pc := 0) X dJ20_equals_0 rfl 0 rfl ?_
  refine v_alenM (pc := 1) X 2 hva rfl dJ20_equals_1 ?_
  refine v_top (y := nI n) rfl ?_
  refine v_aload_n (pc := 2) X dJ20_equals_2 rfl 1 rfl ?_
  refine v_alenM (pc := 3) X 2 hvb rfl dJ20_equals_3 ?_
  refine v_top (y := nI m) rfl ?_
  refine v_ic_neN (pc := 4) X (by omega) (by omega) 34 dJ20_equals_4 (by decide) (fun h4 => ?_) (fun h4 => ?_)
  · refine v_iconst (pc := 34) (v := nI 0) X dJ20_equals_34 rfl ?_
    exact v_zret (pc := 35) X hr rfl dJ20_equals_35 ⟨⟨_, rfl, bI_f (fun z => by rw [z] at hn; omega)⟩, rfl⟩
  · refine v_iconst (pc := 7) (v := nI 0) X dJ20_equals_7 rfl ?_
    refine v_istore_n (pc := 8) (loc' := [(2, .int (nI 0)), (0, .ref va), (1, .ref vb)]) X dJ20_equals_8 rfl (by decide) rfl ?_
    refine v_sub [1, 2, 0] rfl ?_
    refine v_loop1 (S := Nat) (fun k => fl [ws]) (fun k => [(0, .ref va), (1, .ref vb), (2, .int (nI k))]) (fun k => k ≤ n ∧ ∀ i, i < k → f i = g i) (fun k => n - k) (fun k hI9 ih9 => ?_) 0 ⟨Nat.zero_le _, fun i h => by omega⟩
    obtain ⟨hk1, hk2⟩ := hI9
    refine v_iload_n (pc := 9) X dJ20_equals_9 rfl 2 rfl ?_
    refine v_aload_n (pc := 10) X dJ20_equals_10 rfl 0 rfl ?_
    refine v_alenM (pc := 11) X 2 hva rfl dJ20_equals_11 ?_
    refine v_top (y := nI n) rfl ?_
    refine v_ic_geN (pc := 12) X (by omega) (by omega) 32 dJ20_equals_12 (by decide) (fun h12 => ?_) (fun h12 => ?_)
    · refine v_iconst (pc := 32) (v := nI 1) X dJ20_equals_32 rfl ?_
      exact v_zret (pc := 33) X hr rfl dJ20_equals_33 ⟨⟨_, rfl, bI_t (L1Is.eq hT hU (by omega) (fun i hi => hk2 i (by omega)))⟩, rfl⟩
    · refine v_aload_n (pc := 15) X dJ20_equals_15 rfl 0 rfl ?_
      refine v_iload_n (pc := 16) X dJ20_equals_16 rfl 2 rfl ?_
      refine v_bald (pc := 17) X hva rfl (by omega) (by omega) dJ20_equals_17 ?_
      refine v_aload_n (pc := 18) X dJ20_equals_18 rfl 1 rfl ?_
      refine v_iload_n (pc := 19) X dJ20_equals_19 rfl 2 rfl ?_
      refine v_bald (pc := 20) X hvb rfl (by omega) (by omega) dJ20_equals_20 ?_
      refine v_ic_eq (pc := 21) X 26 dJ20_equals_21 (by decide) (fun h21 => ?_) (fun h21 => ?_)
      · refine v_iinc (pc := 26) (v := (nI (k + 1))) (loc' := [(2, .int (nI (k + 1))), (0, .ref va), (1, .ref vb)]) X dJ20_equals_26 2 rfl (nI_add _ 1) (by decide) rfl ?_
        refine v_goto (pc := 29) X 9 dJ20_equals_29 (by decide) ?_
        refine v_sub [1, 2, 0] rfl ?_
        exact ih9 (k + 1) ⟨by omega, fun i hi => by (by_cases e : i = k); (subst e; exact h21); (exact hk2 i (by omega))⟩ (by omega)
      · refine v_iconst (pc := 24) (v := nI 0) X dJ20_equals_24 rfl ?_
        exact v_zret (pc := 25) X hr rfl dJ20_equals_25 ⟨⟨_, rfl, bI_f (L1Is.ne hT hU (by omega) h21)⟩, rfl⟩
theorem hdJ19_mismatch : yJ19_mismatch.cls ≠ "java/lang/invoke/MethodHandle" ∧ yJ19_mismatch.cls ≠ "java/lang/invoke/VarHandle" ∧ (parseMethodDescriptor yJ19_mismatch.desc).map (fun d => d.parameters.length) = some 5 := by decide +kernel
set_option maxHeartbeats 4000000 in
theorem c_J19_mismatch {l_ : Launch} {D : va_G} {dd : Nat → ClassId} {va vb n m L : Nat} {f g : Nat → Int32} {ws : va_W} (hva : (va, .inl (dd 2, n, .inl f)) ∈ ws) (hvb : (vb, .inl (dd 2, m, .inl g)) ∈ ws) (hl : L ≤ n) (hl2 : L ≤ m) (h7 : L ≤ 7) (hn : n < 1000) (hm : m < 1000) : MW l_ D dd yJ19_mismatch cJ19_mismatch 8 (some .int) 0 0 0 0 [.ref va, .int (nI 0), .ref vb, .int (nI 0), .int (nI L)] (ws) (RI (fun r => ∃ o : Option Nat, r = oI o ∧ (∀ k, o = some k → k < 1000) ∧ (o = none ↔ ∀ i, i < L → f i = g i)) ws) := by
  refine MW.intro (by decide) (Nat.le_of_ble_eq_true rfl) (fun p_ e_ s_ m_ as_ bl_ me_ c_ A_ X hr hnm => ?_)
  have X : VX p_ s_ m_ as_ me_ c_ cJ19_mismatch 8 RJ19 D dd A_ := X
  refine v_eq (loc' := [(0, .ref va), (1, .int (nI 0)), (2, .ref vb), (3, .int (nI 0)), (4, .int (nI L))]) rfl rfl rfl ?_
  refine v_iconst (pc := 0) (v := nI 0) X dJ19_mismatch_0 rfl ?_
  refine v_istore (pc := 1) (loc' := [(5, .int (nI 0)), (0, .ref va), (1, .int (nI 0)), (2, .ref vb), (3, .int (nI 0)), (4, .int (nI L))]) X dJ19_mismatch_1 (by decide) rfl ?_
  refine v_iload (pc := 3) X dJ19_mismatch_3 5 rfl ?_
  refine v_bipush (pc := 5) (v := nI 7) X dJ19_mismatch_5 rfl ?_
  refine v_ic_leN (pc := 7) X (by omega) (by omega) 70 dJ19_mismatch_7 (by decide) (fun h7_ => ?_) (fun h7_ => absurd h7_ (by omega))
  refine v_sub [1, 2, 3, 4, 5, 0] rfl ?_
  refine v_loop1 (S := Nat) (fun k => fl [ws]) (fun k => [(0, .ref va), (1, .int (nI 0)), (2, .ref vb), (3, .int (nI 0)), (4, .int (nI L)), (5, .int (nI k))]) (fun k => k ≤ L ∧ ∀ i, i < k → f i = g i) (fun k => L - k) (fun k hI70 ih70 => ?_) 0 ⟨Nat.zero_le _, fun i h => by omega⟩
  obtain ⟨hk1, hk2⟩ := hI70
  refine v_iload (pc := 70) X dJ19_mismatch_70 5 rfl ?_
  refine v_iload (pc := 72) X dJ19_mismatch_72 4 rfl ?_
  refine v_ic_geN (pc := 74) X (by omega) (by omega) 101 dJ19_mismatch_74 (by decide) (fun h74 => ?_) (fun h74 => ?_)
  · refine v_iconst (pc := 101) (v := -1) X dJ19_mismatch_101 rfl ?_
    exact v_iret (pc := 102) X hr dJ19_mismatch_102 ⟨⟨_, rfl, none, rfl, fun k z => (by cases z), ⟨fun _ i hi => hk2 i (by omega), fun _ => rfl⟩⟩, rfl⟩
  · refine v_aload_n (pc := 77) X dJ19_mismatch_77 rfl 0 rfl ?_
    refine v_iload_n (pc := 78) X dJ19_mismatch_78 rfl 1 rfl ?_
    refine v_iload (pc := 79) X dJ19_mismatch_79 5 rfl ?_
    refine v_iaddN (pc := 81) X dJ19_mismatch_81 ?_
    refine v_bald (pc := 82) X hva rfl (by omega) (by omega) dJ19_mismatch_82 ?_
    refine v_aload_n (pc := 83) X dJ19_mismatch_83 rfl 2 rfl ?_
    refine v_iload_n (pc := 84) X dJ19_mismatch_84 rfl 3 rfl ?_
    refine v_iload (pc := 85) X dJ19_mismatch_85 5 rfl ?_
    refine v_iaddN (pc := 87) X dJ19_mismatch_87 ?_
    refine v_bald (pc := 88) X hvb rfl (by omega) (by omega) dJ19_mismatch_88 ?_
    refine v_ic_eq (pc := 89) X 95 dJ19_mismatch_89 (by decide) (fun h89 => ?_) (fun h89 => ?_)
    · refine v_iinc (pc := 95) (v := (nI (k + 1))) (loc' := [(5, .int (nI (k + 1))), (0, .ref va), (1, .int (nI 0)), (2, .ref vb), (3, .int (nI 0)), (4, .int (nI L))]) X dJ19_mismatch_95 5 rfl (nI_add _ 1) (by decide) rfl ?_
      refine v_goto (pc := 98) X 70 dJ19_mismatch_98 (by decide) ?_
      refine v_sub [1, 2, 3, 4, 5, 0] rfl ?_
      exact ih70 (k + 1) ⟨by omega, fun i hi => by (by_cases e : i = k); (subst e; simpa using h89); (exact hk2 i (by omega))⟩ (by omega)
    · refine v_iload (pc := 92) X dJ19_mismatch_92 5 rfl ?_
      exact v_iret (pc := 94) X hr dJ19_mismatch_94 ⟨⟨_, rfl, some k, rfl, fun j z => by cases z; omega, ⟨fun z => (by cases z), fun z => absurd (z k (by omega)) (by simpa using h89)⟩⟩, rfl⟩
theorem oneg {o : Option Nat} (hb : ∀ k, o = some k → k < 1000) (h : ¬ 0 ≤ oI o) : o = none := by
  cases o with
  | none => rfl
  | some k =>
    have := hb k rfl
    exact absurd (show (0 : Int32) ≤ nI k from nI_ge0 (by omega)) h
theorem hdJ4_startsWith_2 : yJ4_startsWith_2.cls = RJ4 ∧ yJ4_startsWith_2.cls ≠ "java/lang/invoke/MethodHandle" ∧ yJ4_startsWith_2.cls ≠ "java/lang/invoke/VarHandle" ∧ (parseMethodDescriptor yJ4_startsWith_2.desc).map (fun d => d.parameters.length) = some 2 := by decide +kernel
set_option maxHeartbeats 4000000 in
theorem c_J4_startsWith_2_0 {l_ : Launch} {D : va_G} {dd : Nat → ClassId} {q va p vb : Nat} {hs hz hs2 hz2 : Int32} {f g : Nat → Int32} {t u : List Nat} {ws : va_W} (hq : (q, .inr (13, [.ref va, .int (nI 0), .int hs, .int hz])) ∈ ws) (hva : (va, .inl (dd 2, t.length, .inl f)) ∈ ws) (hp : (p, .inr (13, [.ref vb, .int (nI 0), .int hs2, .int hz2])) ∈ ws) (hvb : (vb, .inl (dd 2, u.length, .inl g)) ∈ ws) (hT : L1Is f t) (hU : L1Is g u) (ht : t.length ≤ 6) (hu : u.length ≤ 50) : MW l_ D dd yJ4_startsWith_2 cJ4_startsWith_2 8 (some .boolean) 2 0 0 60 [.ref q, .ref p, .int (nI 0)] (ws) (RI (fun r => bI (SwP t u) = r) ws) := by
  refine MW.intro (by decide) (Nat.le_of_ble_eq_true rfl) (fun p_ e_ s_ m_ as_ bl_ me_ c_ A_ X hr hnm => ?_)
  have X : VX p_ s_ m_ as_ me_ c_ cJ4_startsWith_2 8 RJ4 D dd A_ := X
  refine v_eq (loc' := [(0, .ref q), (1, .ref p), (2, .int (nI 0))]) rfl rfl rfl ?_
  refine v_iload_n (pc := 0) X dJ4_startsWith_2_0 rfl 2 rfl ?_
  refine v_if_lt (pc := 1) X 17 dJ4_startsWith_2_1 (by decide) (fun h1 => absurd h1 (by decide)) (fun h1 => ?_)
  refine v_iload_n (pc := 4) X dJ4_startsWith_2_4 rfl 2 rfl ?_
  refine v_aload_n (pc := 5) X dJ4_startsWith_2_5 rfl 0 rfl ?_
  refine v_read (pc := 6) X ⟨[], perm_nil _⟩ (r_V X (c_J4_length_0 (n := t.length) hq hva (by omega)) hq rfl rfl (lw_V q1658 q600 q601 q99 q602) hdJ4_length ⟨Nat.le_of_ble_eq_true rfl, Nat.le_of_ble_eq_true rfl⟩ rfl rfl (Nat.le_of_ble_eq_true rfl) dJ4_startsWith_2_6 ⟨Nat.le_of_ble_eq_true rfl, Nat.le_of_ble_eq_true rfl⟩) (fun r6 h6 => ?_)
  subst h6
  refine v_aload_n (pc := 9) X dJ4_startsWith_2_9 rfl 1 rfl ?_
  refine v_read (pc := 10) X ⟨[], perm_nil _⟩ (r_V X (c_J4_length_0 (n := u.length) hp hvb (by omega)) hp rfl rfl (lw_V q1658 q600 q601 q99 q602) hdJ4_length ⟨Nat.le_of_ble_eq_true rfl, Nat.le_of_ble_eq_true rfl⟩ rfl rfl (Nat.le_of_ble_eq_true rfl) dJ4_startsWith_2_10 ⟨Nat.le_of_ble_eq_true rfl, Nat.le_of_ble_eq_true rfl⟩) (fun r10 h10 => ?_)
  subst h10
  refine v_top (y := nI u.length) (by congr 1; omega) ?_
  refine v_top2 (y := nI t.length) (by congr 1; omega) ?_
  refine v_isub (pc := 13) X dJ4_startsWith_2_13 ?_
  refine v_ic_le (pc := 14) X 19 dJ4_startsWith_2_14 (by decide) (fun h14 => ?_) (fun h14 => ?_)
  · have hle := (le_sub (by omega) (by omega)).mp h14
    refine v_aload_n (pc := 19) X dJ4_startsWith_2_19 rfl 0 rfl ?_
    refine v_getM (pc := 20) X in_J4 hq rfl 0 (by decide) q737 (fun y h => h) rfl dJ4_startsWith_2_20 ?_
    refine v_astore_n (pc := 23) (loc' := [(3, .ref va), (0, .ref q), (1, .ref p), (2, .int (nI 0))]) X dJ4_startsWith_2_23 rfl (by decide) rfl ?_
    refine v_aload_n (pc := 24) X dJ4_startsWith_2_24 rfl 2 rfl ?_
    refine v_getM (pc := 25) X in_J4 hp rfl 0 (by decide) q737 (fun y h => h) rfl dJ4_startsWith_2_25 ?_
    refine v_astore (pc := 28) (loc' := [(4, .ref vb), (3, .ref va), (0, .ref q), (1, .ref p), (2, .int (nI 0))]) X dJ4_startsWith_2_28 (by decide) rfl ?_
    refine v_iconst (pc := 30) (v := nI 0) X dJ4_startsWith_2_30 rfl ?_
    refine v_istore (pc := 31) (loc' := [(5, .int (nI 0)), (4, .ref vb), (3, .ref va), (0, .ref q), (1, .ref p), (2, .int (nI 0))]) X dJ4_startsWith_2_31 (by decide) rfl ?_
    refine v_aload (pc := 33) X dJ4_startsWith_2_33 1 rfl ?_
    refine v_alenM (pc := 35) X 2 hvb rfl dJ4_startsWith_2_35 ?_
    refine v_top (y := nI u.length) rfl ?_
    refine v_istore (pc := 36) (loc' := [(6, .int (nI u.length)), (5, .int (nI 0)), (4, .ref vb), (3, .ref va), (0, .ref q), (1, .ref p), (2, .int (nI 0))]) X dJ4_startsWith_2_36 (by decide) rfl ?_
    refine v_aload_n (pc := 38) X dJ4_startsWith_2_38 rfl 4 rfl ?_
    refine v_read (pc := 39) X ⟨[], perm_nil _⟩ (r_V X (c_J4_coder_0 hq) hq rfl rfl (lw_V q603 q604 q605 q99 q606) hdJ4_coder ⟨Nat.le_of_ble_eq_true rfl, Nat.le_of_ble_eq_true rfl⟩ rfl rfl (Nat.le_of_ble_eq_true rfl) dJ4_startsWith_2_39 ⟨Nat.le_of_ble_eq_true rfl, Nat.le_of_ble_eq_true rfl⟩) (fun r39 h39 => ?_)
    subst h39
    refine v_istore (pc := 42) (loc' := [(7, .int (nI 0)), (6, .int (nI u.length)), (5, .int (nI 0)), (4, .ref vb), (3, .ref va), (0, .ref q), (1, .ref p), (2, .int (nI 0))]) X dJ4_startsWith_2_42 (by decide) rfl ?_
    refine v_iload (pc := 44) X dJ4_startsWith_2_44 0 rfl ?_
    refine v_aload_n (pc := 46) X dJ4_startsWith_2_46 rfl 6 rfl ?_
    refine v_read (pc := 47) X ⟨[], perm_nil _⟩ (r_V X (c_J4_coder_0 hp) hp rfl rfl (lw_V q603 q604 q605 q99 q606) hdJ4_coder ⟨Nat.le_of_ble_eq_true rfl, Nat.le_of_ble_eq_true rfl⟩ rfl rfl (Nat.le_of_ble_eq_true rfl) dJ4_startsWith_2_47 ⟨Nat.le_of_ble_eq_true rfl, Nat.le_of_ble_eq_true rfl⟩) (fun r47 h47 => ?_)
    subst h47
    refine v_ic_neN (pc := 50) X (by omega) (by omega) 82 dJ4_startsWith_2_50 (by decide) (fun h50 => absurd rfl h50) (fun h50 => ?_)
    refine v_iload (pc := 53) X dJ4_startsWith_2_53 0 rfl ?_
    refine v_iconst (pc := 55) (v := nI 1) X dJ4_startsWith_2_55 rfl ?_
    refine v_ic_neN (pc := 56) X (by omega) (by omega) 63 dJ4_startsWith_2_56 (by decide) (fun h56 => ?_) (fun h56 => absurd h56 (by decide))
    refine v_aload_n (pc := 63) X dJ4_startsWith_2_63 rfl 4 rfl ?_
    refine v_iload_n (pc := 64) X dJ4_startsWith_2_64 rfl 7 rfl ?_
    refine v_aload (pc := 65) X dJ4_startsWith_2_65 3 rfl ?_
    refine v_iconst (pc := 67) (v := nI 0) X dJ4_startsWith_2_67 rfl ?_
    refine v_iload (pc := 68) X dJ4_startsWith_2_68 1 rfl ?_
    refine v_read (pc := 70) X ⟨[], perm_nil _⟩ (r_S X (c_J19_mismatch (L := u.length) hva hvb (by omega) (by omega) (by omega) (by omega) (by omega)) (lw_S q1659 q1660 q122 q1661) hdJ19_mismatch ⟨Nat.le_of_ble_eq_true rfl, Nat.le_of_ble_eq_true rfl⟩ rfl rfl (Nat.le_of_ble_eq_true rfl) dJ4_startsWith_2_70 ⟨Nat.le_of_ble_eq_true rfl, Nat.le_of_ble_eq_true rfl⟩) (fun r70 h70 => ?_)
    obtain ⟨o, rfl, hob, hon⟩ := h70
    refine v_if_ge (pc := 73) X 80 dJ4_startsWith_2_73 (by decide) (fun h73 => ?_) (fun h73 => ?_)
    · refine v_iconst (pc := 80) (v := nI 0) X dJ4_startsWith_2_80 rfl ?_
      exact v_zret (pc := 81) X hr rfl dJ4_startsWith_2_81 ⟨⟨_, rfl, bI_f (fun z => by have e := hon.mpr ((sw_iff hT hU hle).mp z); rw [e] at h73; exact absurd h73 (by decide))⟩, rfl⟩
    · refine v_iconst (pc := 76) (v := nI 1) X dJ4_startsWith_2_76 rfl ?_
      refine v_goto (pc := 77) X 81 dJ4_startsWith_2_77 (by decide) ?_
      exact v_zret (pc := 81) X hr rfl dJ4_startsWith_2_81 ⟨⟨_, rfl, bI_t ((sw_iff hT hU hle).mpr (hon.mp (oneg hob h73)))⟩, rfl⟩
  · refine v_iconst (pc := 17) (v := nI 0) X dJ4_startsWith_2_17 rfl ?_
    exact v_zret (pc := 18) X hr rfl dJ4_startsWith_2_18 ⟨⟨_, rfl, bI_f (sw_len (by have : ¬ u.length ≤ t.length := fun z => h14 ((le_sub (by omega) (by omega)).mpr z); omega))⟩, rfl⟩
theorem hdJ4_startsWith : yJ4_startsWith.cls = RJ4 ∧ yJ4_startsWith.cls ≠ "java/lang/invoke/MethodHandle" ∧ yJ4_startsWith.cls ≠ "java/lang/invoke/VarHandle" ∧ (parseMethodDescriptor yJ4_startsWith.desc).map (fun d => d.parameters.length) = some 1 := by decide +kernel
set_option maxHeartbeats 4000000 in
theorem c_J4_startsWith_0 {l_ : Launch} {D : va_G} {dd : Nat → ClassId} {q va p vb : Nat} {hs hz hs2 hz2 : Int32} {f g : Nat → Int32} {t u : List Nat} {ws : va_W} (hq : (q, .inr (13, [.ref va, .int (nI 0), .int hs, .int hz])) ∈ ws) (hva : (va, .inl (dd 2, t.length, .inl f)) ∈ ws) (hp : (p, .inr (13, [.ref vb, .int (nI 0), .int hs2, .int hz2])) ∈ ws) (hvb : (vb, .inl (dd 2, u.length, .inl g)) ∈ ws) (hT : L1Is f t) (hU : L1Is g u) (ht : t.length ≤ 6) (hu : u.length ≤ 50) : MW l_ D dd yJ4_startsWith cJ4_startsWith 2 (some .boolean) 3 0 0 110 [.ref q, .ref p] (ws) (RI (fun r => bI (SwP t u) = r) ws) := by
  refine MW.intro (by decide) (Nat.le_of_ble_eq_true rfl) (fun p_ e_ s_ m_ as_ bl_ me_ c_ A_ X hr hnm => ?_)
  have X : VX p_ s_ m_ as_ me_ c_ cJ4_startsWith 2 RJ4 D dd A_ := X
  refine v_eq (loc' := [(0, .ref q), (1, .ref p)]) rfl rfl rfl ?_
  refine v_aload_n (pc := 0) X dJ4_startsWith_0 rfl 0 rfl ?_
  refine v_aload_n (pc := 1) X dJ4_startsWith_1 rfl 1 rfl ?_
  refine v_iconst (pc := 2) (v := nI 0) X dJ4_startsWith_2 rfl ?_
  refine v_read (pc := 3) X ⟨[], perm_nil _⟩ (r_V X (c_J4_startsWith_2_0 hq hva hp hvb hT hU ht hu) hq rfl rfl (lw_V q1654 q1655 q1656 q99 q1657) hdJ4_startsWith_2 ⟨Nat.le_of_ble_eq_true rfl, Nat.le_of_ble_eq_true rfl⟩ rfl rfl (Nat.le_of_ble_eq_true rfl) dJ4_startsWith_3 ⟨Nat.le_of_ble_eq_true rfl, Nat.le_of_ble_eq_true rfl⟩) (fun r3 h3 => ?_)
  subst h3
  exact v_zret (pc := 6) X hr (nzb _) dJ4_startsWith_6 ⟨⟨_, rfl, rfl⟩, rfl⟩
set_option maxHeartbeats 4000000 in
theorem c_J4_startsWith_2_1 {l_ : Launch} {D : va_G} {dd : Nat → ClassId} {q va p vb : Nat} {hs hz hs2 hz2 : Int32} {f g : Nat → Int32} {t u : List Nat} {ws : va_W} (hq : (q, .inr (13, [.ref va, .int (nI 0), .int hs, .int hz])) ∈ ws) (hva : (va, .inl (dd 2, t.length, .inl f)) ∈ ws) (hp : (p, .inr (13, [.ref vb, .int (nI 1), .int hs2, .int hz2])) ∈ ws) (hvb : (vb, .inl (dd 2, (1 + 1) * u.length, .inl g)) ∈ ws) (hT : L1Is f t) (hU : ∃ c ∈ u, 256 ≤ c) (ht : t.length ≤ 6) (hu : u.length ≤ 50) : MW l_ D dd yJ4_startsWith_2 cJ4_startsWith_2 8 (some .boolean) 2 0 0 60 [.ref q, .ref p, .int (nI 0)] (ws) (RI (fun r => bI (SwP t u) = r) ws) := by
  refine MW.intro (by decide) (Nat.le_of_ble_eq_true rfl) (fun p_ e_ s_ m_ as_ bl_ me_ c_ A_ X hr hnm => ?_)
  have X : VX p_ s_ m_ as_ me_ c_ cJ4_startsWith_2 8 RJ4 D dd A_ := X
  refine v_eq (loc' := [(0, .ref q), (1, .ref p), (2, .int (nI 0))]) rfl rfl rfl ?_
  refine v_iload_n (pc := 0) X dJ4_startsWith_2_0 rfl 2 rfl ?_
  refine v_if_lt (pc := 1) X 17 dJ4_startsWith_2_1 (by decide) (fun h1 => absurd h1 (by decide)) (fun h1 => ?_)
  refine v_iload_n (pc := 4) X dJ4_startsWith_2_4 rfl 2 rfl ?_
  refine v_aload_n (pc := 5) X dJ4_startsWith_2_5 rfl 0 rfl ?_
  refine v_read (pc := 6) X ⟨[], perm_nil _⟩ (r_V X (c_J4_length_0 (n := t.length) hq hva (by omega)) hq rfl rfl (lw_V q1658 q600 q601 q99 q602) hdJ4_length ⟨Nat.le_of_ble_eq_true rfl, Nat.le_of_ble_eq_true rfl⟩ rfl rfl (Nat.le_of_ble_eq_true rfl) dJ4_startsWith_2_6 ⟨Nat.le_of_ble_eq_true rfl, Nat.le_of_ble_eq_true rfl⟩) (fun r6 h6 => ?_)
  subst h6
  refine v_aload_n (pc := 9) X dJ4_startsWith_2_9 rfl 1 rfl ?_
  refine v_read (pc := 10) X ⟨[], perm_nil _⟩ (r_V X (c_J4_length_1 (n := (1 + 1) * u.length) hp hvb (by omega)) hp rfl rfl (lw_V q1658 q600 q601 q99 q602) hdJ4_length ⟨Nat.le_of_ble_eq_true rfl, Nat.le_of_ble_eq_true rfl⟩ rfl rfl (Nat.le_of_ble_eq_true rfl) dJ4_startsWith_2_10 ⟨Nat.le_of_ble_eq_true rfl, Nat.le_of_ble_eq_true rfl⟩) (fun r10 h10 => ?_)
  subst h10
  refine v_top (y := nI u.length) (by congr 1; omega) ?_
  refine v_top2 (y := nI t.length) (by congr 1; omega) ?_
  refine v_isub (pc := 13) X dJ4_startsWith_2_13 ?_
  refine v_ic_le (pc := 14) X 19 dJ4_startsWith_2_14 (by decide) (fun h14 => ?_) (fun h14 => ?_)
  · have hle := (le_sub (by omega) (by omega)).mp h14
    refine v_aload_n (pc := 19) X dJ4_startsWith_2_19 rfl 0 rfl ?_
    refine v_getM (pc := 20) X in_J4 hq rfl 0 (by decide) q737 (fun y h => h) rfl dJ4_startsWith_2_20 ?_
    refine v_astore_n (pc := 23) (loc' := [(3, .ref va), (0, .ref q), (1, .ref p), (2, .int (nI 0))]) X dJ4_startsWith_2_23 rfl (by decide) rfl ?_
    refine v_aload_n (pc := 24) X dJ4_startsWith_2_24 rfl 2 rfl ?_
    refine v_getM (pc := 25) X in_J4 hp rfl 0 (by decide) q737 (fun y h => h) rfl dJ4_startsWith_2_25 ?_
    refine v_astore (pc := 28) (loc' := [(4, .ref vb), (3, .ref va), (0, .ref q), (1, .ref p), (2, .int (nI 0))]) X dJ4_startsWith_2_28 (by decide) rfl ?_
    refine v_iconst (pc := 30) (v := nI 0) X dJ4_startsWith_2_30 rfl ?_
    refine v_istore (pc := 31) (loc' := [(5, .int (nI 0)), (4, .ref vb), (3, .ref va), (0, .ref q), (1, .ref p), (2, .int (nI 0))]) X dJ4_startsWith_2_31 (by decide) rfl ?_
    refine v_aload (pc := 33) X dJ4_startsWith_2_33 1 rfl ?_
    refine v_alenM (pc := 35) X 2 hvb rfl dJ4_startsWith_2_35 ?_
    refine v_top (y := nI ((1 + 1) * u.length)) rfl ?_
    refine v_istore (pc := 36) (loc' := [(6, .int (nI ((1 + 1) * u.length))), (5, .int (nI 0)), (4, .ref vb), (3, .ref va), (0, .ref q), (1, .ref p), (2, .int (nI 0))]) X dJ4_startsWith_2_36 (by decide) rfl ?_
    refine v_aload_n (pc := 38) X dJ4_startsWith_2_38 rfl 4 rfl ?_
    refine v_read (pc := 39) X ⟨[], perm_nil _⟩ (r_V X (c_J4_coder_0 hq) hq rfl rfl (lw_V q603 q604 q605 q99 q606) hdJ4_coder ⟨Nat.le_of_ble_eq_true rfl, Nat.le_of_ble_eq_true rfl⟩ rfl rfl (Nat.le_of_ble_eq_true rfl) dJ4_startsWith_2_39 ⟨Nat.le_of_ble_eq_true rfl, Nat.le_of_ble_eq_true rfl⟩) (fun r39 h39 => ?_)
    subst h39
    refine v_istore (pc := 42) (loc' := [(7, .int (nI 0)), (6, .int (nI ((1 + 1) * u.length))), (5, .int (nI 0)), (4, .ref vb), (3, .ref va), (0, .ref q), (1, .ref p), (2, .int (nI 0))]) X dJ4_startsWith_2_42 (by decide) rfl ?_
    refine v_iload (pc := 44) X dJ4_startsWith_2_44 0 rfl ?_
    refine v_aload_n (pc := 46) X dJ4_startsWith_2_46 rfl 6 rfl ?_
    refine v_read (pc := 47) X ⟨[], perm_nil _⟩ (r_V X (c_J4_coder_1 hp) hp rfl rfl (lw_V q603 q604 q605 q99 q606) hdJ4_coder ⟨Nat.le_of_ble_eq_true rfl, Nat.le_of_ble_eq_true rfl⟩ rfl rfl (Nat.le_of_ble_eq_true rfl) dJ4_startsWith_2_47 ⟨Nat.le_of_ble_eq_true rfl, Nat.le_of_ble_eq_true rfl⟩) (fun r47 h47 => ?_)
    subst h47
    refine v_ic_neN (pc := 50) X (by omega) (by omega) 82 dJ4_startsWith_2_50 (by decide) (fun h50 => ?_) (fun h50 => absurd h50 (by decide))
    refine v_iload (pc := 82) X dJ4_startsWith_2_82 0 rfl ?_
    refine v_if_neN (pc := 84) X (by omega) 89 dJ4_startsWith_2_84 (by decide) (fun h84 => absurd rfl h84) (fun h84 => ?_)
    refine v_iconst (pc := 87) (v := nI 0) X dJ4_startsWith_2_87 rfl ?_
    exact v_zret (pc := 88) X hr rfl dJ4_startsWith_2_88 ⟨⟨_, rfl, bI_f (sw_wide hT hU)⟩, rfl⟩
  · refine v_iconst (pc := 17) (v := nI 0) X dJ4_startsWith_2_17 rfl ?_
    exact v_zret (pc := 18) X hr rfl dJ4_startsWith_2_18 ⟨⟨_, rfl, bI_f (sw_len (by have : ¬ u.length ≤ t.length := fun z => h14 ((le_sub (by omega) (by omega)).mpr z); omega))⟩, rfl⟩
set_option maxHeartbeats 4000000 in
theorem c_J4_startsWith_1 {l_ : Launch} {D : va_G} {dd : Nat → ClassId} {q va p vb : Nat} {hs hz hs2 hz2 : Int32} {f g : Nat → Int32} {t u : List Nat} {ws : va_W} (hq : (q, .inr (13, [.ref va, .int (nI 0), .int hs, .int hz])) ∈ ws) (hva : (va, .inl (dd 2, t.length, .inl f)) ∈ ws) (hp : (p, .inr (13, [.ref vb, .int (nI 1), .int hs2, .int hz2])) ∈ ws) (hvb : (vb, .inl (dd 2, (1 + 1) * u.length, .inl g)) ∈ ws) (hT : L1Is f t) (hU : ∃ c ∈ u, 256 ≤ c) (ht : t.length ≤ 6) (hu : u.length ≤ 50) : MW l_ D dd yJ4_startsWith cJ4_startsWith 2 (some .boolean) 3 0 0 110 [.ref q, .ref p] (ws) (RI (fun r => bI (SwP t u) = r) ws) := by
  refine MW.intro (by decide) (Nat.le_of_ble_eq_true rfl) (fun p_ e_ s_ m_ as_ bl_ me_ c_ A_ X hr hnm => ?_)
  have X : VX p_ s_ m_ as_ me_ c_ cJ4_startsWith 2 RJ4 D dd A_ := X
  refine v_eq (loc' := [(0, .ref q), (1, .ref p)]) rfl rfl rfl ?_
  refine v_aload_n (pc := 0) X dJ4_startsWith_0 rfl 0 rfl ?_
  refine v_aload_n (pc := 1) X dJ4_startsWith_1 rfl 1 rfl ?_
  refine v_iconst (pc := 2) (v := nI 0) X dJ4_startsWith_2 rfl ?_
  refine v_read (pc := 3) X ⟨[], perm_nil _⟩ (r_V X (c_J4_startsWith_2_1 hq hva hp hvb hT hU ht hu) hq rfl rfl (lw_V q1654 q1655 q1656 q99 q1657) hdJ4_startsWith_2 ⟨Nat.le_of_ble_eq_true rfl, Nat.le_of_ble_eq_true rfl⟩ rfl rfl (Nat.le_of_ble_eq_true rfl) dJ4_startsWith_3 ⟨Nat.le_of_ble_eq_true rfl, Nat.le_of_ble_eq_true rfl⟩) (fun r3 h3 => ?_)
  subst h3
  exact v_zret (pc := 6) X hr (nzb _) dJ4_startsWith_6 ⟨⟨_, rfl, rfl⟩, rfl⟩

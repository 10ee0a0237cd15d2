theorem TbIs.ext {co : Nat} {f g : Nat → Int32} {t : List Nat} {n : Nat} (h : TbIs co f t) (hl : (co + 1) * t.length ≤ n) (hfg : ∀ i, i < n → g i = f i) : TbIs co g t := by
  rcases h with ⟨rfl, h⟩ | ⟨rfl, h⟩
  · refine Or.inl ⟨rfl, fun i c hi => ?_⟩
    have := (List.getElem?_eq_some_iff.mp hi).1
    rw [hfg i (by omega)]; exact h i c hi
  · refine Or.inr ⟨rfl, fun i c hi => ?_⟩
    have := (List.getElem?_eq_some_iff.mp hi).1
    rw [hfg _ (by omega), hfg _ (by omega)]; exact h i c hi
theorem sub_le0 {a b : Nat} (ha : a < 1000000) (hb : b < 1000000) : nI a - nI b ≤ 0 ↔ a ≤ b := by
  rw [Int32.le_iff_toInt_le, subI2 ha hb]
  show (a : Int) - b ≤ 0 ↔ _
  omega
/-- a builder's inside -/
def SbI (co n : Nat) (f : Nat → Int32) (t : List Nat) : Prop := TbIs co f t ∧ BF f n ∧ (co + 1) * t.length ≤ n ∧ n ≤ (co + 1) * 190
theorem SbI.co {co n : Nat} {f : Nat → Int32} {t : List Nat} (h : SbI co n f t) : co ≤ 1 := by rcases h.1.co with e | e <;> omega
theorem hdJ19_newLength : yJ19_newLength.cls ≠ "java/lang/invoke/MethodHandle" ∧ yJ19_newLength.cls ≠ "java/lang/invoke/VarHandle" ∧ (parseMethodDescriptor yJ19_newLength.desc).map (fun d => d.parameters.length) = some 3 := by decide +kernel
set_option maxHeartbeats 4000000 in
theorem c_J19_newLength {l_ : Launch} {D : va_G} {dd : Nat → ClassId} {o a b : Nat} (h0 : 0 < o + max a b) (h1 : o + max a b ≤ 1000000) : MW l_ D dd yJ19_newLength cJ19_newLength 4 (some .int) 1 0 0 25 [.int (nI o), .int (nI a), .int (nI b)] ([]) (RI (fun r => (nI (o + max a b)) = r) []) := by
  refine MW.intro (by decide) (Nat.le_of_ble_eq_true rfl) (fun p_ e_ s_ m_ as_ bl_ me_ c_ A_ X hr hnm => ?_)
  have X : VX p_ s_ m_ as_ me_ c_ cJ19_newLength 4 RJ19 D dd A_ := X
  refine v_eq (loc' := [(0, .int (nI o)), (1, .int (nI a)), (2, .int (nI b))]) rfl rfl rfl ?_
  refine v_iload_n (pc := 0) X dJ19_newLength_0 rfl 0 rfl ?_
  refine v_iload_n (pc := 1) X dJ19_newLength_1 rfl 1 rfl ?_
  refine v_iload_n (pc := 2) X dJ19_newLength_2 rfl 2 rfl ?_
  refine v_maxN (pc := 3) X q550 (by omega) (by omega) ⟨Nat.le_of_ble_eq_true rfl, Nat.le_of_ble_eq_true rfl⟩ (Nat.le_of_ble_eq_true rfl) ⟨Nat.le_of_ble_eq_true rfl, Nat.le_of_ble_eq_true rfl⟩ dJ19_newLength_3 ?_
  refine v_iaddN (pc := 6) X dJ19_newLength_6 ?_
  refine v_istore_n (pc := 7) (loc' := [(3, .int (nI (o + (max a b)))), (0, .int (nI o)), (1, .int (nI a)), (2, .int (nI b))]) X dJ19_newLength_7 rfl (by decide) rfl ?_
  refine v_iconst (pc := 8) (v := nI 0) X dJ19_newLength_8 rfl ?_
  refine v_iload_n (pc := 9) X dJ19_newLength_9 rfl 0 rfl ?_
  refine v_ic_geN (pc := 10) X (by omega) (by omega) 21 dJ19_newLength_10 (by decide) (fun h10 => absurd h10 (by omega)) (fun h10 => ?_)
  refine v_iload_n (pc := 13) X dJ19_newLength_13 rfl 0 rfl ?_
  refine v_ldc (pc := 14) X q553 dJ19_newLength_14 ?_
  refine v_top (y := nI 2147483639) rfl ?_
  refine v_ic_gtN (pc := 16) X (by omega) (by omega) 21 dJ19_newLength_16 (by decide) (fun h16 => absurd h16 (by omega)) (fun h16 => ?_)
  refine v_iload_n (pc := 19) X dJ19_newLength_19 rfl 0 rfl ?_
  exact v_iret (pc := 20) X hr dJ19_newLength_20 ⟨⟨_, rfl, rfl⟩, rfl⟩
theorem hdJ10_copyOf_3 : yJ10_copyOf_3.cls ≠ "java/lang/invoke/MethodHandle" ∧ yJ10_copyOf_3.cls ≠ "java/lang/invoke/VarHandle" ∧ (parseMethodDescriptor yJ10_copyOf_3.desc).map (fun d => d.parameters.length) = some 2 := by decide +kernel
set_option maxHeartbeats 4000000 in
theorem c_J10_copyOf_3 {l_ : Launch} {D : va_G} {dd : Nat → ClassId} {va n m : Nat} {f : Nat → Int32} (hB : BF f n) (h : n < m) (hm : m ≤ 1000) : MW l_ D dd yJ10_copyOf_3 cJ10_copyOf_3 3 (some (.array .byte)) 1 1 m 40 [.ref va, .int (nI m)] ([(va, .inl (dd 2, n, .inl f))]) (fun r w => ∃ q, r = some (.ref q) ∧ w = [(q, .inl (dd 2, m, .inl (va_cpy f (fun _ => 0) 0 0 n))), (va, .inl (dd 2, n, .inl f))]) := by
  refine MW.intro (by decide) (Nat.le_of_ble_eq_true rfl) (fun p_ e_ s_ m_ as_ bl_ me_ c_ A_ X hr hnm => ?_)
  have X : VX p_ s_ m_ as_ me_ c_ cJ10_copyOf_3 3 RJ10 D dd A_ := X
  refine v_eq (loc' := [(0, .ref va), (1, .int (nI m))]) rfl rfl rfl ?_
  refine v_iload_n (pc := 0) X dJ10_copyOf_3_0 rfl 1 rfl ?_
  refine v_aload_n (pc := 1) X dJ10_copyOf_3_1 rfl 0 rfl ?_
  refine v_alenM (pc := 2) X 2 (List.mem_of_getElem? (i := 0) rfl) rfl dJ10_copyOf_3_2 ?_
  refine v_top (y := nI n) rfl ?_
  refine v_ic_neN (pc := 3) X (by omega) (by omega) 14 dJ10_copyOf_3_3 (by decide) (fun h3 => ?_) (fun h3 => absurd h3 (by omega))
  refine v_iload_n (pc := 14) X dJ10_copyOf_3_14 rfl 1 rfl ?_
  refine v_newa (pc := 15) (atype := .byte) (ty := .byte) (N := m) X 2 rfl (fun _ _ h => h) q292 rfl (m, .inl (fun _ => 0)) (fun _ => rfl) rfl (by omega) (by show _ * 1 ≤ _; omega) ⟨by dsimp only; omega, by dsimp only; omega⟩ dJ10_copyOf_3_15 (fun q1 => ?_)
  refine v_perm (ws' := [(q1, .inl (dd 2, m, .inl (fun _ => 0)))] ++ [(va, .inl (dd 2, n, .inl f))]) List.perm_append_comm ?_
  refine v_eq (ws' := [(q1, .inl (dd 2, m, .inl (fun _ => 0))), (va, .inl (dd 2, n, .inl f))]) rfl rfl rfl ?_
  refine v_astore_n (pc := 17) (loc' := [(2, .ref q1), (0, .ref va), (1, .int (nI m))]) X dJ10_copyOf_3_17 rfl (by decide) rfl ?_
  refine v_aload_n (pc := 18) X dJ10_copyOf_3_18 rfl 1 rfl ?_
  refine v_iconst (pc := 19) (v := nI 0) X dJ10_copyOf_3_19 rfl ?_
  refine v_aload_n (pc := 20) X dJ10_copyOf_3_20 rfl 0 rfl ?_
  refine v_iconst (pc := 21) (v := nI 0) X dJ10_copyOf_3_21 rfl ?_
  refine v_aload_n (pc := 22) X dJ10_copyOf_3_22 rfl 1 rfl ?_
  refine v_alenM (pc := 23) X 2 (List.mem_of_getElem? (i := 1) rfl) rfl dJ10_copyOf_3_23 ?_
  refine v_top (y := nI n) rfl ?_
  refine v_iload_n (pc := 24) X dJ10_copyOf_3_24 rfl 2 rfl ?_
  refine v_minN (pc := 25) X q456 (by omega) (by omega) ⟨by dsimp only; omega, by dsimp only; omega⟩ (Nat.le_of_ble_eq_true rfl) ⟨by dsimp only; omega, by dsimp only; omega⟩ dJ10_copyOf_3_25 ?_
  refine v_top (y := (nI n)) (by rw [Nat.min_eq_left (by omega)]) ?_
  refine v_copyi (pc := 28) X q459 q108 1 0 2 rfl rfl rfl rfl (by omega) (by omega) ⟨by omega, by omega, by omega⟩ (fun i hi => by rw [Nat.zero_add]; exact hB _ (by omega)) (Nat.le_of_ble_eq_true rfl) (Nat.le_of_ble_eq_true rfl) (Nat.le_of_ble_eq_true rfl) dJ10_copyOf_3_28 (ws' := [(q1, .inl (dd 2, m, .inl (va_cpy f (fun _ => 0) 0 0 n))), (va, .inl (dd 2, n, .inl f))]) rfl ?_
  refine v_aload_n (pc := 31) X dJ10_copyOf_3_31 rfl 0 rfl ?_
  refine v_widen (k := 1) (n := m) (by omega) (by omega) ?_
  exact v_aret (pc := 32) X hr (Or.inr ⟨_, rfl⟩) dJ10_copyOf_3_32 ⟨_, rfl, rfl⟩
theorem hdJ2_getValue : yJ2_getValue.cls ≠ "java/lang/invoke/MethodHandle" ∧ yJ2_getValue.cls ≠ "java/lang/invoke/VarHandle" ∧ (parseMethodDescriptor yJ2_getValue.desc).map (fun d => d.parameters.length) = some 0 := by decide +kernel
set_option maxHeartbeats 4000000 in
theorem c_J2_getValue {l_ : Launch} {D : va_G} {dd : Nat → ClassId} {x va cnt : Nat} {ml : Int32} {ws : va_W} {co : Nat} (hx : (x, .inr (12, [.ref va, .int (nI co), .int ml, .int (nI cnt)])) ∈ ws) : MW l_ D dd yJ2_getValue cJ2_getValue 1 (some (.array .byte)) 0 0 0 0 [.ref x] (ws) (RA va ws) := by
  refine MW.intro (by decide) (Nat.le_of_ble_eq_true rfl) (fun p_ e_ s_ m_ as_ bl_ me_ c_ A_ X hr hnm => ?_)
  have X : VX p_ s_ m_ as_ me_ c_ cJ2_getValue 1 RJ2 D dd A_ := X
  refine v_eq (loc' := [(0, .ref x)]) rfl rfl rfl ?_
  refine v_aload_n (pc := 0) X dJ2_getValue_0 rfl 0 rfl ?_
  refine v_getM (pc := 1) X in_J3 hx rfl 0 (by decide) q278 (fun y h => h) rfl dJ2_getValue_1 ?_
  exact v_aret (pc := 4) X hr (Or.inr ⟨_, rfl⟩) dJ2_getValue_4 ⟨rfl, rfl⟩
theorem hdJ2_length_su : yJ2_length.name ≠ "<init>" ∧ (parseMethodDescriptor yJ2_length.desc).map (fun d => d.parameters.length) = some 0 := by decide +kernel
set_option maxHeartbeats 4000000 in
theorem c_J2_length {l_ : Launch} {D : va_G} {dd : Nat → ClassId} {x va cnt : Nat} {ml : Int32} {ws : va_W} {co : Nat} (hx : (x, .inr (12, [.ref va, .int (nI co), .int ml, .int (nI cnt)])) ∈ ws) : MW l_ D dd yJ2_length cJ2_length 1 (some .int) 0 0 0 0 [.ref x] (ws) (RI (fun r => nI cnt = r) ws) := by
  refine MW.intro (by decide) (Nat.le_of_ble_eq_true rfl) (fun p_ e_ s_ m_ as_ bl_ me_ c_ A_ X hr hnm => ?_)
  have X : VX p_ s_ m_ as_ me_ c_ cJ2_length 1 RJ2 D dd A_ := X
  refine v_eq (loc' := [(0, .ref x)]) rfl rfl rfl ?_
  refine v_aload_n (pc := 0) X dJ2_length_0 rfl 0 rfl ?_
  refine v_getM (pc := 1) X in_J3 hx rfl 3 (by decide) q282 (fun y h => h) rfl dJ2_length_1 ?_
  exact v_iret (pc := 4) X hr dJ2_length_4 ⟨⟨_, rfl, rfl⟩, rfl⟩
theorem hdJ2_length : yJ2_length.cls ≠ "java/lang/invoke/MethodHandle" ∧ yJ2_length.cls ≠ "java/lang/invoke/VarHandle" ∧ (parseMethodDescriptor yJ2_length.desc).map (fun d => d.parameters.length) = some 0 := by decide +kernel
theorem hdJ3_length : yJ3_length.cls = RJ3 ∧ yJ3_length.cls ≠ "java/lang/invoke/MethodHandle" ∧ yJ3_length.cls ≠ "java/lang/invoke/VarHandle" ∧ (parseMethodDescriptor yJ3_length.desc).map (fun d => d.parameters.length) = some 0 := by decide +kernel
set_option maxHeartbeats 4000000 in
theorem c_J3_length {l_ : Launch} {D : va_G} {dd : Nat → ClassId} {x va cnt : Nat} {ml : Int32} {ws : va_W} {co : Nat} (hx : (x, .inr (12, [.ref va, .int (nI co), .int ml, .int (nI cnt)])) ∈ ws) : MW l_ D dd yJ3_length cJ3_length 1 (some .int) 1 0 0 25 [.ref x] (ws) (RI (fun r => nI cnt = r) ws) := by
  refine MW.intro (by decide) (Nat.le_of_ble_eq_true rfl) (fun p_ e_ s_ m_ as_ bl_ me_ c_ A_ X hr hnm => ?_)
  have X : VX p_ s_ m_ as_ me_ c_ cJ3_length 1 RJ3 D dd A_ := X
  refine v_eq (loc' := [(0, .ref x)]) rfl rfl rfl ?_
  refine v_aload_n (pc := 0) X dJ3_length_0 rfl 0 rfl ?_
  refine v_read (pc := 1) X ⟨[], perm_nil _⟩ (r_SU X (c_J2_length hx) hx rfl (lw_SU q691 q687 q291 q686 q97 q692) hdJ2_length_su ⟨Nat.le_of_ble_eq_true rfl, Nat.le_of_ble_eq_true rfl⟩ rfl rfl (Nat.le_of_ble_eq_true rfl) dJ3_length_1 ⟨Nat.le_of_ble_eq_true rfl, Nat.le_of_ble_eq_true rfl⟩) (fun r1 h1 => ?_)
  subst h1
  exact v_iret (pc := 4) X hr dJ3_length_4 ⟨⟨_, rfl, rfl⟩, rfl⟩
theorem hdJ2_isLatin1 : yJ2_isLatin1.cls ≠ "java/lang/invoke/MethodHandle" ∧ yJ2_isLatin1.cls ≠ "java/lang/invoke/VarHandle" ∧ (parseMethodDescriptor yJ2_isLatin1.desc).map (fun d => d.parameters.length) = some 0 := by decide +kernel
set_option maxHeartbeats 4000000 in
theorem c_J2_isLatin1 {l_ : Launch} {D : va_G} {dd : Nat → ClassId} {x va cnt : Nat} {ml : Int32} {ws : va_W} {co : Nat} (hx : (x, .inr (12, [.ref va, .int (nI co), .int ml, .int (nI cnt)])) ∈ ws) (hco : co ≤ 1) : MW l_ D dd yJ2_isLatin1 cJ2_isLatin1 1 (some .boolean) 0 0 0 0 [.ref x] (ws) (RI (fun r => bI (co = 0) = r) ws) := by
  refine MW.intro (by decide) (Nat.le_of_ble_eq_true rfl) (fun p_ e_ s_ m_ as_ bl_ me_ c_ A_ X hr hnm => ?_)
  have X : VX p_ s_ m_ as_ me_ c_ cJ2_isLatin1 1 RJ2 D dd A_ := X
  refine v_eq (loc' := [(0, .ref x)]) rfl rfl rfl ?_
  refine v_gets (pc := 0) X (List.mem_of_getElem? (l := zS) (i := 0) rfl) q269 (fun y h => h) dJ2_isLatin1_0 ?_
  refine v_top (y := nI 1) rfl ?_
  refine v_if_eqN (pc := 3) X (by omega) 17 dJ2_isLatin1_3 (by decide) (fun h3 => absurd h3 (by decide)) (fun h3 => ?_)
  refine v_aload_n (pc := 6) X dJ2_isLatin1_6 rfl 0 rfl ?_
  refine v_getM (pc := 7) X in_J3 hx rfl 1 (by decide) q279 (fun y h => h) rfl dJ2_isLatin1_7 ?_
  refine v_if_neN (pc := 10) X (by omega) 17 dJ2_isLatin1_10 (by decide) (fun h10 => ?_) (fun h10 => ?_)
  · refine v_iconst (pc := 17) (v := nI 0) X dJ2_isLatin1_17 rfl ?_
    exact v_zret (pc := 18) X hr rfl dJ2_isLatin1_18 ⟨⟨_, rfl, bI_f (by omega)⟩, rfl⟩
  · refine v_iconst (pc := 13) (v := nI 1) X dJ2_isLatin1_13 rfl ?_
    refine v_goto (pc := 14) X 18 dJ2_isLatin1_14 (by decide) ?_
    exact v_zret (pc := 18) X hr rfl dJ2_isLatin1_18 ⟨⟨_, rfl, bI_t (by omega)⟩, rfl⟩
theorem hdJ2_newCapacity : yJ2_newCapacity.cls ≠ "java/lang/invoke/MethodHandle" ∧ yJ2_newCapacity.cls ≠ "java/lang/invoke/VarHandle" ∧ (parseMethodDescriptor yJ2_newCapacity.desc).map (fun d => d.parameters.length) = some 1 := by decide +kernel
set_option maxHeartbeats 4000000 in
theorem c_J2_newCapacity_0 {l_ : Launch} {D : va_G} {dd : Nat → ClassId} {x va cnt : Nat} {ml : Int32} {ws : va_W} {n min : Nat} {f : Nat → Int32} (hx : (x, .inr (12, [.ref va, .int (nI 0), .int ml, .int (nI cnt)])) ∈ ws) (hva : (va, .inl (dd 2, n, .inl f)) ∈ ws) (hn : n ≤ 1000) (hmin : min ≤ 200) (hlt : n < (0 + 1) * min) : MW l_ D dd yJ2_newCapacity cJ2_newCapacity 6 (some .int) 2 0 0 60 [.ref x, .int (nI min)] (ws) (RI (fun r => nI ((n + max ((0 + 1) * min - n) (n + (0 + 1) * 2)) / (0 + 1)) = r) ws) := by
  refine MW.intro (by decide) (Nat.le_of_ble_eq_true rfl) (fun p_ e_ s_ m_ as_ bl_ me_ c_ A_ X hr hnm => ?_)
  have X : VX p_ s_ m_ as_ me_ c_ cJ2_newCapacity 6 RJ2 D dd A_ := X
  refine v_eq (loc' := [(0, .ref x), (1, .int (nI min))]) rfl rfl rfl ?_
  refine v_aload_n (pc := 0) X dJ2_newCapacity_0 rfl 0 rfl ?_
  refine v_getM (pc := 1) X in_J3 hx rfl 0 (by decide) q278 (fun y h => h) rfl dJ2_newCapacity_1 ?_
  refine v_alenM (pc := 4) X 2 hva rfl dJ2_newCapacity_4 ?_
  refine v_top (y := nI n) rfl ?_
  refine v_istore_n (pc := 5) (loc' := [(2, .int (nI n)), (0, .ref x), (1, .int (nI min))]) X dJ2_newCapacity_5 rfl (by decide) rfl ?_
  refine v_iload_n (pc := 6) X dJ2_newCapacity_6 rfl 2 rfl ?_
  refine v_aload_n (pc := 7) X dJ2_newCapacity_7 rfl 1 rfl ?_
  refine v_getM (pc := 8) X in_J3 hx rfl 1 (by decide) q279 (fun y h => h) rfl dJ2_newCapacity_8 ?_
  refine v_ishl (pc := 11) X dJ2_newCapacity_11 ?_
  refine v_top (y := (nI ((0 + 1) * min))) (sl_co (by decide)) ?_
  refine v_istore_n (pc := 12) (loc' := [(3, .int (nI ((0 + 1) * min))), (2, .int (nI n)), (0, .ref x), (1, .int (nI min))]) X dJ2_newCapacity_12 rfl (by decide) rfl ?_
  refine v_iload_n (pc := 13) X dJ2_newCapacity_13 rfl 0 rfl ?_
  refine v_iload_n (pc := 14) X dJ2_newCapacity_14 rfl 1 rfl ?_
  refine v_isubN (pc := 15) X (by omega) dJ2_newCapacity_15 ?_
  refine v_istore (pc := 16) (loc' := [(4, .int (nI (((0 + 1) * min) - n))), (3, .int (nI ((0 + 1) * min))), (2, .int (nI n)), (0, .ref x), (1, .int (nI min))]) X dJ2_newCapacity_16 (by decide) rfl ?_
  refine v_iload_n (pc := 18) X dJ2_newCapacity_18 rfl 2 rfl ?_
  refine v_iload (pc := 19) X dJ2_newCapacity_19 0 rfl ?_
  refine v_iload_n (pc := 21) X dJ2_newCapacity_21 rfl 2 rfl ?_
  refine v_iconst (pc := 22) (v := nI 2) X dJ2_newCapacity_22 rfl ?_
  refine v_aload_n (pc := 23) X dJ2_newCapacity_23 rfl 3 rfl ?_
  refine v_getM (pc := 24) X in_J3 hx rfl 1 (by decide) q279 (fun y h => h) rfl dJ2_newCapacity_24 ?_
  refine v_ishl (pc := 27) X dJ2_newCapacity_27 ?_
  refine v_top (y := (nI ((0 + 1) * 2))) (sl_co (by decide)) ?_
  refine v_iaddN (pc := 28) X dJ2_newCapacity_28 ?_
  refine v_read (pc := 29) X ⟨_, List.Perm.refl ([] ++ _)⟩ (r_S X (c_J19_newLength (o := n) (a := ((0 + 1) * min) - n) (b := n + ((0 + 1) * 2)) (by omega) (by omega)) (lw_S q547 q548 q122 q549) hdJ19_newLength ⟨Nat.le_of_ble_eq_true rfl, Nat.le_of_ble_eq_true rfl⟩ rfl rfl (Nat.le_of_ble_eq_true rfl) dJ2_newCapacity_29 ⟨Nat.le_of_ble_eq_true rfl, Nat.le_of_ble_eq_true rfl⟩) (fun r29 h29 => ?_)
  subst h29
  refine v_istore (pc := 32) (loc' := [(5, .int (nI (n + max (((0 + 1) * min) - n) (n + ((0 + 1) * 2))))), (4, .int (nI (((0 + 1) * min) - n))), (3, .int (nI ((0 + 1) * min))), (2, .int (nI n)), (0, .ref x), (1, .int (nI min))]) X dJ2_newCapacity_32 (by decide) rfl ?_
  refine v_iload (pc := 34) X dJ2_newCapacity_34 0 rfl ?_
  refine v_ldc (pc := 36) X q557 dJ2_newCapacity_36 ?_
  refine v_top (y := nI 2147483647) rfl ?_
  refine v_ic_neN (pc := 38) X (by omega) (by omega) 51 dJ2_newCapacity_38 (by decide) (fun h38 => ?_) (fun h38 => absurd h38 (by omega))
  refine v_iload (pc := 51) X dJ2_newCapacity_51 0 rfl ?_
  refine v_aload_n (pc := 53) X dJ2_newCapacity_53 rfl 4 rfl ?_
  refine v_getM (pc := 54) X in_J3 hx rfl 1 (by decide) q279 (fun y h => h) rfl dJ2_newCapacity_54 ?_
  refine v_ishr (pc := 57) X dJ2_newCapacity_57 ?_
  refine v_top (y := (nI ((n + max ((0 + 1) * min - n) (n + (0 + 1) * 2)) / (0 + 1)))) (sr_co (by omega) (by decide)) ?_
  exact v_iret (pc := 58) X hr dJ2_newCapacity_58 ⟨⟨_, rfl, rfl⟩, rfl⟩
set_option maxHeartbeats 4000000 in
theorem c_J2_newCapacity_1 {l_ : Launch} {D : va_G} {dd : Nat → ClassId} {x va cnt : Nat} {ml : Int32} {ws : va_W} {n min : Nat} {f : Nat → Int32} (hx : (x, .inr (12, [.ref va, .int (nI 1), .int ml, .int (nI cnt)])) ∈ ws) (hva : (va, .inl (dd 2, n, .inl f)) ∈ ws) (hn : n ≤ 1000) (hmin : min ≤ 200) (hlt : n < (1 + 1) * min) : MW l_ D dd yJ2_newCapacity cJ2_newCapacity 6 (some .int) 2 0 0 60 [.ref x, .int (nI min)] (ws) (RI (fun r => nI ((n + max ((1 + 1) * min - n) (n + (1 + 1) * 2)) / (1 + 1)) = r) ws) := by
  refine MW.intro (by decide) (Nat.le_of_ble_eq_true rfl) (fun p_ e_ s_ m_ as_ bl_ me_ c_ A_ X hr hnm => ?_)
  have X : VX p_ s_ m_ as_ me_ c_ cJ2_newCapacity 6 RJ2 D dd A_ := X
  refine v_eq (loc' := [(0, .ref x), (1, .int (nI min))]) rfl rfl rfl ?_
  refine v_aload_n (pc := 0) X dJ2_newCapacity_0 rfl 0 rfl ?_
  refine v_getM (pc := 1) X in_J3 hx rfl 0 (by decide) q278 (fun y h => h) rfl dJ2_newCapacity_1 ?_
  refine v_alenM (pc := 4) X 2 hva rfl dJ2_newCapacity_4 ?_
  refine v_top (y := nI n) rfl ?_
  refine v_istore_n (pc := 5) (loc' := [(2, .int (nI n)), (0, .ref x), (1, .int (nI min))]) X dJ2_newCapacity_5 rfl (by decide) rfl ?_
  refine v_iload_n (pc := 6) X dJ2_newCapacity_6 rfl 2 rfl ?_
  refine v_aload_n (pc := 7) X dJ2_newCapacity_7 rfl 1 rfl ?_
  refine v_getM (pc := 8) X in_J3 hx rfl 1 (by decide) q279 (fun y h => h) rfl dJ2_newCapacity_8 ?_
  refine v_ishl (pc := 11) X dJ2_newCapacity_11 ?_
  refine v_top (y := (nI ((1 + 1) * min))) (sl_co (by decide)) ?_
  refine v_istore_n (pc := 12) (loc' := [(3, .int (nI ((1 + 1) * min))), (2, .int (nI n)), (0, .ref x), (1, .int (nI min))]) X dJ2_newCapacity_12 rfl (by decide) rfl ?_
  refine v_iload_n (pc := 13) X dJ2_newCapacity_13 rfl 0 rfl ?_
  refine v_iload_n (pc := 14) X dJ2_newCapacity_14 rfl 1 rfl ?_
  refine v_isubN (pc := 15) X (by omega) dJ2_newCapacity_15 ?_
  refine v_istore (pc := 16) (loc' := [(4, .int (nI (((1 + 1) * min) - n))), (3, .int (nI ((1 + 1) * min))), (2, .int (nI n)), (0, .ref x), (1, .int (nI min))]) X dJ2_newCapacity_16 (by decide) rfl ?_
  refine v_iload_n (pc := 18) X dJ2_newCapacity_18 rfl 2 rfl ?_
  refine v_iload (pc := 19) X dJ2_newCapacity_19 0 rfl ?_
  refine v_iload_n (pc := 21) X dJ2_newCapacity_21 rfl 2 rfl ?_
  refine v_iconst (pc := 22) (v := nI 2) X dJ2_newCapacity_22 rfl ?_
  refine v_aload_n (pc := 23) X dJ2_newCapacity_23 rfl 3 rfl ?_
  refine v_getM (pc := 24) X in_J3 hx rfl 1 (by decide) q279 (fun y h => h) rfl dJ2_newCapacity_24 ?_
  refine v_ishl (pc := 27) X dJ2_newCapacity_27 ?_
  refine v_top (y := (nI ((1 + 1) * 2))) (sl_co (by decide)) ?_
  refine v_iaddN (pc := 28) X dJ2_newCapacity_28 ?_
  refine v_read (pc := 29) X ⟨_, List.Perm.refl ([] ++ _)⟩ (r_S X (c_J19_newLength (o := n) (a := ((1 + 1) * min) - n) (b := n + ((1 + 1) * 2)) (by omega) (by omega)) (lw_S q547 q548 q122 q549) hdJ19_newLength ⟨Nat.le_of_ble_eq_true rfl, Nat.le_of_ble_eq_true rfl⟩ rfl rfl (Nat.le_of_ble_eq_true rfl) dJ2_newCapacity_29 ⟨Nat.le_of_ble_eq_true rfl, Nat.le_of_ble_eq_true rfl⟩) (fun r29 h29 => ?_)
  subst h29
  refine v_istore (pc := 32) (loc' := [(5, .int (nI (n + max (((1 + 1) * min) - n) (n + ((1 + 1) * 2))))), (4, .int (nI (((1 + 1) * min) - n))), (3, .int (nI ((1 + 1) * min))), (2, .int (nI n)), (0, .ref x), (1, .int (nI min))]) X dJ2_newCapacity_32 (by decide) rfl ?_
  refine v_iload (pc := 34) X dJ2_newCapacity_34 0 rfl ?_
  refine v_ldc (pc := 36) X q557 dJ2_newCapacity_36 ?_
  refine v_top (y := nI 2147483647) rfl ?_
  refine v_ic_neN (pc := 38) X (by omega) (by omega) 51 dJ2_newCapacity_38 (by decide) (fun h38 => ?_) (fun h38 => absurd h38 (by omega))
  refine v_iload (pc := 51) X dJ2_newCapacity_51 0 rfl ?_
  refine v_aload_n (pc := 53) X dJ2_newCapacity_53 rfl 4 rfl ?_
  refine v_getM (pc := 54) X in_J3 hx rfl 1 (by decide) q279 (fun y h => h) rfl dJ2_newCapacity_54 ?_
  refine v_ishr (pc := 57) X dJ2_newCapacity_57 ?_
  refine v_top (y := (nI ((n + max ((1 + 1) * min - n) (n + (1 + 1) * 2)) / (1 + 1)))) (sr_co (by omega) (by decide)) ?_
  exact v_iret (pc := 58) X hr dJ2_newCapacity_58 ⟨⟨_, rfl, rfl⟩, rfl⟩
theorem c_J2_newCapacity {l_ : Launch} {D : va_G} {dd : Nat → ClassId} {co : Nat} {x va cnt : Nat} {ml : Int32} {ws : va_W} {n min : Nat} {f : Nat → Int32} (hco : co ≤ 1) (hx : (x, .inr (12, [.ref va, .int (nI co), .int ml, .int (nI cnt)])) ∈ ws) (hva : (va, .inl (dd 2, n, .inl f)) ∈ ws) (hn : n ≤ 1000) (hmin : min ≤ 200) (hlt : n < (co + 1) * min) : MW l_ D dd yJ2_newCapacity cJ2_newCapacity 6 (some .int) 2 0 0 60 [.ref x, .int (nI min)] (ws) (RI (fun r => nI ((n + max ((co + 1) * min - n) (n + (co + 1) * 2)) / (co + 1)) = r) ws) := by
  rcases (show co = 0 ∨ co = 1 by omega) with rfl | rfl
  · exact c_J2_newCapacity_0 hx hva hn hmin hlt
  · exact c_J2_newCapacity_1 hx hva hn hmin hlt
theorem hdJ2_ensureCapacityInternal : yJ2_ensureCapacityInternal.cls ≠ "java/lang/invoke/MethodHandle" ∧ yJ2_ensureCapacityInternal.cls ≠ "java/lang/invoke/VarHandle" ∧ (parseMethodDescriptor yJ2_ensureCapacityInternal.desc).map (fun d => d.parameters.length) = some 1 := by decide +kernel
set_option maxHeartbeats 4000000 in
theorem c_J2_ensureCapacityInternal_0 {l_ : Launch} {D : va_G} {dd : Nat → ClassId} {x va cnt n min : Nat} {ml : Int32} {f : Nat → Int32} (hB : BF f n) (hn : n ≤ (0 + 1) * 190) (hmin : min ≤ 91) : MW l_ D dd yJ2_ensureCapacityInternal cJ2_ensureCapacityInternal 3 none 3 1 380 100 [.ref x, .int (nI min)] ([(x, .inr (12, [.ref va, .int (nI 0), .int ml, .int (nI cnt)])), (va, .inl (dd 2, n, .inl f))]) (fun r w => r = none ∧ ∃ va2 n2 f2, w = [(x, .inr (12, [.ref va2, .int (nI 0), .int ml, .int (nI cnt)])), (va2, .inl (dd 2, n2, .inl f2))] ∧ (∀ i, i < n → f2 i = f i) ∧ BF f2 n2 ∧ n ≤ n2 ∧ (0 + 1) * min ≤ n2 ∧ n2 ≤ (0 + 1) * 190) := by
  refine MW.intro (by decide) (Nat.le_of_ble_eq_true rfl) (fun p_ e_ s_ m_ as_ bl_ me_ c_ A_ X hr hnm => ?_)
  have X : VX p_ s_ m_ as_ me_ c_ cJ2_ensureCapacityInternal 3 RJ2 D dd A_ := X
  refine v_eq (loc' := [(0, .ref x), (1, .int (nI min))]) rfl rfl rfl ?_
  refine v_aload_n (pc := 0) X dJ2_ensureCapacityInternal_0 rfl 0 rfl ?_
  refine v_getM (pc := 1) X in_J3 (List.mem_of_getElem? (i := 0) rfl) rfl 0 (by decide) q278 (fun y h => h) rfl dJ2_ensureCapacityInternal_1 ?_
  refine v_alenM (pc := 4) X 2 (List.mem_of_getElem? (i := 1) rfl) rfl dJ2_ensureCapacityInternal_4 ?_
  refine v_top (y := nI n) rfl ?_
  refine v_aload_n (pc := 5) X dJ2_ensureCapacityInternal_5 rfl 0 rfl ?_
  refine v_getM (pc := 6) X in_J3 (List.mem_of_getElem? (i := 0) rfl) rfl 1 (by decide) q279 (fun y h => h) rfl dJ2_ensureCapacityInternal_6 ?_
  refine v_ishr (pc := 9) X dJ2_ensureCapacityInternal_9 ?_
  refine v_top (y := (nI (n / (0 + 1)))) (sr_co (by omega) (by decide)) ?_
  refine v_istore_n (pc := 10) (loc' := [(2, .int (nI (n / (0 + 1)))), (0, .ref x), (1, .int (nI min))]) X dJ2_ensureCapacityInternal_10 rfl (by decide) rfl ?_
  refine v_iload_n (pc := 11) X dJ2_ensureCapacityInternal_11 rfl 2 rfl ?_
  refine v_iload_n (pc := 12) X dJ2_ensureCapacityInternal_12 rfl 0 rfl ?_
  refine v_isub (pc := 13) X dJ2_ensureCapacityInternal_13 ?_
  refine v_if_le (pc := 14) X 38 dJ2_ensureCapacityInternal_14 (by decide) (fun h14 => ?_) (fun h14 => ?_)
  · have hq := (sub_le0 (by omega) (by omega)).mp h14
    refine v_widen (k := 1) (n := 380) (by omega) (by omega) ?_
    exact v_vret (pc := 38) X hr dJ2_ensureCapacityInternal_38 ⟨rfl, _, _, _, rfl, fun _ _ => rfl, hB, Nat.le_refl _, by omega, by omega⟩
  · have hq : ¬ min ≤ n / (0 + 1) := fun z => h14 ((sub_le0 (by omega) (by omega)).mpr z)
    have hM1 := Nat.le_max_left ((0 + 1) * min - n) (n + (0 + 1) * 2)
    have hM2 := Nat.le_max_right ((0 + 1) * min - n) (n + (0 + 1) * 2)
    have hM3 : max ((0 + 1) * min - n) (n + (0 + 1) * 2) ≤ (0 + 1) * 194 := Nat.max_le.mpr ⟨by omega, by omega⟩
    have hM4 : max ((0 + 1) * min - n) (n + (0 + 1) * 2) ≤ (0 + 1) * 93 := Nat.max_le.mpr ⟨by omega, by omega⟩
    refine v_aload_n (pc := 17) X dJ2_ensureCapacityInternal_17 rfl 1 rfl ?_
    refine v_aload_n (pc := 18) X dJ2_ensureCapacityInternal_18 rfl 1 rfl ?_
    refine v_getM (pc := 19) X in_J3 (List.mem_of_getElem? (i := 0) rfl) rfl 0 (by decide) q278 (fun y h => h) rfl dJ2_ensureCapacityInternal_19 ?_
    refine v_aload_n (pc := 22) X dJ2_ensureCapacityInternal_22 rfl 1 rfl ?_
    refine v_iload_n (pc := 23) X dJ2_ensureCapacityInternal_23 rfl 2 rfl ?_
    refine v_read (pc := 24) X ⟨[], perm_nil _⟩ (r_P X (c_J2_newCapacity_0 (min := min) (List.mem_of_getElem? (i := 0) rfl) (List.mem_of_getElem? (i := 1) rfl) (by omega) (by omega) (by omega)) (List.mem_of_getElem? (i := 0) rfl) rfl q544 (lw_P q543 q2442 q545 q97 q546) hdJ2_newCapacity ⟨by dsimp only; omega, by dsimp only; omega⟩ rfl rfl (Nat.le_of_ble_eq_true rfl) dJ2_ensureCapacityInternal_24 ⟨by dsimp only; omega, by dsimp only; omega⟩) (fun r24 h24 => ?_)
    subst h24
    refine v_aload_n (pc := 27) X dJ2_ensureCapacityInternal_27 rfl 1 rfl ?_
    refine v_getM (pc := 28) X in_J3 (List.mem_of_getElem? (i := 0) rfl) rfl 1 (by decide) q279 (fun y h => h) rfl dJ2_ensureCapacityInternal_28 ?_
    refine v_ishl (pc := 31) X dJ2_ensureCapacityInternal_31 ?_
    refine v_top (y := (nI ((0 + 1) * ((n + max ((0 + 1) * min - n) (n + (0 + 1) * 2)) / (0 + 1))))) (sl_co (by decide)) ?_
    refine v_frame (pc := 32) X (wr := [(x, .inr (12, [.ref va, .int (nI 0), .int ml, .int (nI cnt)]))]) (mv_perm 1 _) (r_S X (c_J10_copyOf_3 hB (by omega) (by omega)) (lw_S q558 q559 q106 q560) hdJ10_copyOf_3 ⟨by dsimp only; omega, by dsimp only; omega⟩ rfl rfl (Nat.le_of_ble_eq_true rfl) dJ2_ensureCapacityInternal_32 ⟨by dsimp only; omega, by dsimp only; omega⟩) (fun v32 w32 h32 => ?_)
    obtain ⟨q1, rfl, rfl⟩ := h32
    refine v_eq (ws' := [(q1, .inl (dd 2, (0 + 1) * ((n + max ((0 + 1) * min - n) (n + (0 + 1) * 2)) / (0 + 1)), .inl (va_cpy f (fun _ => 0) 0 0 n))), (va, .inl (dd 2, n, .inl f)), (x, .inr (12, [.ref va, .int (nI 0), .int ml, .int (nI cnt)]))]) rfl rfl rfl ?_
    refine v_put (pc := 35) X in_J3 tyJ3 tyJ3_ok nmJ3 2 rfl rfl 0 (by decide) q278 (fun y h => h) rfl rfl rfl (Nat.le_of_ble_eq_true rfl) dJ2_ensureCapacityInternal_35 (ws' := [(q1, .inl (dd 2, (0 + 1) * ((n + max ((0 + 1) * min - n) (n + (0 + 1) * 2)) / (0 + 1)), .inl (va_cpy f (fun _ => 0) 0 0 n))), (va, .inl (dd 2, n, .inl f)), (x, .inr (12, [.ref q1, .int (nI 0), .int ml, .int (nI cnt)]))]) rfl ?_
    refine v_perm (ws' := [(q1, .inl (dd 2, (0 + 1) * ((n + max ((0 + 1) * min - n) (n + (0 + 1) * 2)) / (0 + 1)), .inl (va_cpy f (fun _ => 0) 0 0 n))), (x, .inr (12, [.ref q1, .int (nI 0), .int ml, .int (nI cnt)])), (va, .inl (dd 2, n, .inl f))]) (((mv_perm 1 _).trans (mv_perm 2 _)).trans (mv_perm 2 _)) ?_
    refine v_less (ws' := [(q1, .inl (dd 2, (0 + 1) * ((n + max ((0 + 1) * min - n) (n + (0 + 1) * 2)) / (0 + 1)), .inl (va_cpy f (fun _ => 0) 0 0 n))), (x, .inr (12, [.ref q1, .int (nI 0), .int ml, .int (nI cnt)]))]) (List.sublist_append_left ([(q1, .inl (dd 2, (0 + 1) * ((n + max ((0 + 1) * min - n) (n + (0 + 1) * 2)) / (0 + 1)), .inl (va_cpy f (fun _ => 0) 0 0 n))), (x, .inr (12, [.ref q1, .int (nI 0), .int ml, .int (nI cnt)]))] : va_W) _) ?_
    refine v_perm (ws' := [(x, .inr (12, [.ref q1, .int (nI 0), .int ml, .int (nI cnt)])), (q1, .inl (dd 2, (0 + 1) * ((n + max ((0 + 1) * min - n) (n + (0 + 1) * 2)) / (0 + 1)), .inl (va_cpy f (fun _ => 0) 0 0 n)))]) ((mv_perm 0 _).trans (mv_perm 1 _)) ?_
    refine v_widen (k := 1) (n := 380) (by omega) (by omega) ?_
    exact v_vret (pc := 38) X hr dJ2_ensureCapacityInternal_38 ⟨rfl, _, _, _, rfl, fun i hi => by (unfold va_cpy; rw [if_pos (by omega)]; congr 1; omega), hB.cpy (BF.zero _) 0 0 n (by omega), by omega, by omega, by omega⟩
set_option maxHeartbeats 4000000 in
theorem c_J2_ensureCapacityInternal_1 {l_ : Launch} {D : va_G} {dd : Nat → ClassId} {x va cnt n min : Nat} {ml : Int32} {f : Nat → Int32} (hB : BF f n) (hn : n ≤ (1 + 1) * 190) (hmin : min ≤ 91) : MW l_ D dd yJ2_ensureCapacityInternal cJ2_ensureCapacityInternal 3 none 3 1 380 100 [.ref x, .int (nI min)] ([(x, .inr (12, [.ref va, .int (nI 1), .int ml, .int (nI cnt)])), (va, .inl (dd 2, n, .inl f))]) (fun r w => r = none ∧ ∃ va2 n2 f2, w = [(x, .inr (12, [.ref va2, .int (nI 1), .int ml, .int (nI cnt)])), (va2, .inl (dd 2, n2, .inl f2))] ∧ (∀ i, i < n → f2 i = f i) ∧ BF f2 n2 ∧ n ≤ n2 ∧ (1 + 1) * min ≤ n2 ∧ n2 ≤ (1 + 1) * 190) := by
  refine MW.intro (by decide) (Nat.le_of_ble_eq_true rfl) (fun p_ e_ s_ m_ as_ bl_ me_ c_ A_ X hr hnm => ?_)
  have X : VX p_ s_ m_ as_ me_ c_ cJ2_ensureCapacityInternal 3 RJ2 D dd A_ := X
  refine v_eq (loc' := [(0, .ref x), (1, .int (nI min))]) rfl rfl rfl ?_
  refine v_aload_n (pc := 0) X dJ2_ensureCapacityInternal_0 rfl 0 rfl ?_
  refine v_getM (pc := 1) X in_J3 (List.mem_of_getElem? (i := 0) rfl) rfl 0 (by decide) q278 (fun y h => h) rfl dJ2_ensureCapacityInternal_1 ?_
  refine v_alenM (pc := 4) X 2 (List.mem_of_getElem? (i := 1) rfl) rfl dJ2_ensureCapacityInternal_4 ?_
  refine v_top (y := nI n) rfl ?_
  refine v_aload_n (pc := 5) X dJ2_ensureCapacityInternal_5 rfl 0 rfl ?_
  refine v_getM (pc := 6) X in_J3 (List.mem_of_getElem? (i := 0) rfl) rfl 1 (by decide) q279 (fun y h => h) rfl dJ2_ensureCapacityInternal_6 ?_
  refine v_ishr (pc := 9) X dJ2_ensureCapacityInternal_9 ?_
  refine v_top (y := (nI (n / (1 + 1)))) (sr_co (by omega) (by decide)) ?_
  refine v_istore_n (pc := 10) (loc' := [(2, .int (nI (n / (1 + 1)))), (0, .ref x), (1, .int (nI min))]) X dJ2_ensureCapacityInternal_10 rfl (by decide) rfl ?_
  refine v_iload_n (pc := 11) X dJ2_ensureCapacityInternal_11 rfl 2 rfl ?_
  refine v_iload_n (pc := 12) X dJ2_ensureCapacityInternal_12 rfl 0 rfl ?_
  refine v_isub (pc := 13) X dJ2_ensureCapacityInternal_13 ?_
  refine v_if_le (pc := 14) X 38 dJ2_ensureCapacityInternal_14 (by decide) (fun h14 => ?_) (fun h14 => ?_)
  · have hq := (sub_le0 (by omega) (by omega)).mp h14
    refine v_widen (k := 1) (n := 380) (by omega) (by omega) ?_
    exact v_vret (pc := 38) X hr dJ2_ensureCapacityInternal_38 ⟨rfl, _, _, _, rfl, fun _ _ => rfl, hB, Nat.le_refl _, by omega, by omega⟩
  · have hq : ¬ min ≤ n / (1 + 1) := fun z => h14 ((sub_le0 (by omega) (by omega)).mpr z)
    have hM1 := Nat.le_max_left ((1 + 1) * min - n) (n + (1 + 1) * 2)
    have hM2 := Nat.le_max_right ((1 + 1) * min - n) (n + (1 + 1) * 2)
    have hM3 : max ((1 + 1) * min - n) (n + (1 + 1) * 2) ≤ (1 + 1) * 194 := Nat.max_le.mpr ⟨by omega, by omega⟩
    have hM4 : max ((1 + 1) * min - n) (n + (1 + 1) * 2) ≤ (1 + 1) * 93 := Nat.max_le.mpr ⟨by omega, by omega⟩
    refine v_aload_n (pc := 17) X dJ2_ensureCapacityInternal_17 rfl 1 rfl ?_
    refine v_aload_n (pc := 18) X dJ2_ensureCapacityInternal_18 rfl 1 rfl ?_
    refine v_getM (pc := 19) X in_J3 (List.mem_of_getElem? (i := 0) rfl) rfl 0 (by decide) q278 (fun y h => h) rfl dJ2_ensureCapacityInternal_19 ?_
    refine v_aload_n (pc := 22) X dJ2_ensureCapacityInternal_22 rfl 1 rfl ?_
    refine v_iload_n (pc := 23) X dJ2_ensureCapacityInternal_23 rfl 2 rfl ?_
    refine v_read (pc := 24) X ⟨[], perm_nil _⟩ (r_P X (c_J2_newCapacity_1 (min := min) (List.mem_of_getElem? (i := 0) rfl) (List.mem_of_getElem? (i := 1) rfl) (by omega) (by omega) (by omega)) (List.mem_of_getElem? (i := 0) rfl) rfl q544 (lw_P q543 q2442 q545 q97 q546) hdJ2_newCapacity ⟨by dsimp only; omega, by dsimp only; omega⟩ rfl rfl (Nat.le_of_ble_eq_true rfl) dJ2_ensureCapacityInternal_24 ⟨by dsimp only; omega, by dsimp only; omega⟩) (fun r24 h24 => ?_)
    subst h24
    refine v_aload_n (pc := 27) X dJ2_ensureCapacityInternal_27 rfl 1 rfl ?_
    refine v_getM (pc := 28) X in_J3 (List.mem_of_getElem? (i := 0) rfl) rfl 1 (by decide) q279 (fun y h => h) rfl dJ2_ensureCapacityInternal_28 ?_
    refine v_ishl (pc := 31) X dJ2_ensureCapacityInternal_31 ?_
    refine v_top (y := (nI ((1 + 1) * ((n + max ((1 + 1) * min - n) (n + (1 + 1) * 2)) / (1 + 1))))) (sl_co (by decide)) ?_
    refine v_frame (pc := 32) X (wr := [(x, .inr (12, [.ref va, .int (nI 1), .int ml, .int (nI cnt)]))]) (mv_perm 1 _) (r_S X (c_J10_copyOf_3 hB (by omega) (by omega)) (lw_S q558 q559 q106 q560) hdJ10_copyOf_3 ⟨by dsimp only; omega, by dsimp only; omega⟩ rfl rfl (Nat.le_of_ble_eq_true rfl) dJ2_ensureCapacityInternal_32 ⟨by dsimp only; omega, by dsimp only; omega⟩) (fun v32 w32 h32 => ?_)
    obtain ⟨q1, rfl, rfl⟩ := h32
    refine v_eq (ws' := [(q1, .inl (dd 2, (1 + 1) * ((n + max ((1 + 1) * min - n) (n + (1 + 1) * 2)) / (1 + 1)), .inl (va_cpy f (fun _ => 0) 0 0 n))), (va, .inl (dd 2, n, .inl f)), (x, .inr (12, [.ref va, .int (nI 1), .int ml, .int (nI cnt)]))]) rfl rfl rfl ?_
    refine v_put (pc := 35) X in_J3 tyJ3 tyJ3_ok nmJ3 2 rfl rfl 0 (by decide) q278 (fun y h => h) rfl rfl rfl (Nat.le_of_ble_eq_true rfl) dJ2_ensureCapacityInternal_35 (ws' := [(q1, .inl (dd 2, (1 + 1) * ((n + max ((1 + 1) * min - n) (n + (1 + 1) * 2)) / (1 + 1)), .inl (va_cpy f (fun _ => 0) 0 0 n))), (va, .inl (dd 2, n, .inl f)), (x, .inr (12, [.ref q1, .int (nI 1), .int ml, .int (nI cnt)]))]) rfl ?_
    refine v_perm (ws' := [(q1, .inl (dd 2, (1 + 1) * ((n + max ((1 + 1) * min - n) (n + (1 + 1) * 2)) / (1 + 1)), .inl (va_cpy f (fun _ => 0) 0 0 n))), (x, .inr (12, [.ref q1, .int (nI 1), .int ml, .int (nI cnt)])), (va, .inl (dd 2, n, .inl f))]) (((mv_perm 1 _).trans (mv_perm 2 _)).trans (mv_perm 2 _)) ?_
    refine v_less (ws' := [(q1, .inl (dd 2, (1 + 1) * ((n + max ((1 + 1) * min - n) (n + (1 + 1) * 2)) / (1 + 1)), .inl (va_cpy f (fun _ => 0) 0 0 n))), (x, .inr (12, [.ref q1, .int (nI 1), .int ml, .int (nI cnt)]))]) (List.sublist_append_left ([(q1, .inl (dd 2, (1 + 1) * ((n + max ((1 + 1) * min - n) (n + (1 + 1) * 2)) / (1 + 1)), .inl (va_cpy f (fun _ => 0) 0 0 n))), (x, .inr (12, [.ref q1, .int (nI 1), .int ml, .int (nI cnt)]))] : va_W) _) ?_
    refine v_perm (ws' := [(x, .inr (12, [.ref q1, .int (nI 1), .int ml, .int (nI cnt)])), (q1, .inl (dd 2, (1 + 1) * ((n + max ((1 + 1) * min - n) (n + (1 + 1) * 2)) / (1 + 1)), .inl (va_cpy f (fun _ => 0) 0 0 n)))]) ((mv_perm 0 _).trans (mv_perm 1 _)) ?_
    refine v_widen (k := 1) (n := 380) (by omega) (by omega) ?_
    exact v_vret (pc := 38) X hr dJ2_ensureCapacityInternal_38 ⟨rfl, _, _, _, rfl, fun i hi => by (unfold va_cpy; rw [if_pos (by omega)]; congr 1; omega), hB.cpy (BF.zero _) 0 0 n (by omega), by omega, by omega, by omega⟩
theorem c_J2_ensureCapacityInternal {l_ : Launch} {D : va_G} {dd : Nat → ClassId} {co : Nat} {x va cnt n min : Nat} {ml : Int32} {f : Nat → Int32} (hco : co ≤ 1) (hB : BF f n) (hn : n ≤ (co + 1) * 190) (hmin : min ≤ 91) : MW l_ D dd yJ2_ensureCapacityInternal cJ2_ensureCapacityInternal 3 none 3 1 380 100 [.ref x, .int (nI min)] ([(x, .inr (12, [.ref va, .int (nI co), .int ml, .int (nI cnt)])), (va, .inl (dd 2, n, .inl f))]) (fun r w => r = none ∧ ∃ va2 n2 f2, w = [(x, .inr (12, [.ref va2, .int (nI co), .int ml, .int (nI cnt)])), (va2, .inl (dd 2, n2, .inl f2))] ∧ (∀ i, i < n → f2 i = f i) ∧ BF f2 n2 ∧ n ≤ n2 ∧ (co + 1) * min ≤ n2 ∧ n2 ≤ (co + 1) * 190) := by
  rcases (show co = 0 ∨ co = 1 by omega) with rfl | rfl
  · exact c_J2_ensureCapacityInternal_0 hB hn hmin
  · exact c_J2_ensureCapacityInternal_1 hB hn hmin
set_option maxHeartbeats 4000000 in
theorem c_J2_ensureNG_0 {l_ : Launch} {D : va_G} {dd : Nat → ClassId} {x va cnt : Nat} {ml : Int32} {ws : va_W} {n min : Nat} {f : Nat → Int32} (hx : (x, .inr (12, [.ref va, .int (nI 0), .int ml, .int (nI cnt)])) ∈ ws) (hva : (va, .inl (dd 2, n, .inl f)) ∈ ws) (hn : n ≤ 1000) (hmin : min ≤ 200) (hng : (0 + 1) * min ≤ n) : MW l_ D dd yJ2_ensureCapacityInternal cJ2_ensureCapacityInternal 3 none 3 0 0 100 [.ref x, .int (nI min)] (ws) (RV ws) := by
  refine MW.intro (by decide) (Nat.le_of_ble_eq_true rfl) (fun p_ e_ s_ m_ as_ bl_ me_ c_ A_ X hr hnm => ?_)
  have X : VX p_ s_ m_ as_ me_ c_ cJ2_ensureCapacityInternal 3 RJ2 D dd A_ := X
  refine v_eq (loc' := [(0, .ref x), (1, .int (nI min))]) rfl rfl rfl ?_
  refine v_aload_n (pc := 0) X dJ2_ensureCapacityInternal_0 rfl 0 rfl ?_
  refine v_getM (pc := 1) X in_J3 hx rfl 0 (by decide) q278 (fun y h => h) rfl dJ2_ensureCapacityInternal_1 ?_
  refine v_alenM (pc := 4) X 2 hva rfl dJ2_ensureCapacityInternal_4 ?_
  refine v_top (y := nI n) rfl ?_
  refine v_aload_n (pc := 5) X dJ2_ensureCapacityInternal_5 rfl 0 rfl ?_
  refine v_getM (pc := 6) X in_J3 hx rfl 1 (by decide) q279 (fun y h => h) rfl dJ2_ensureCapacityInternal_6 ?_
  refine v_ishr (pc := 9) X dJ2_ensureCapacityInternal_9 ?_
  refine v_top (y := (nI (n / (0 + 1)))) (sr_co (by omega) (by decide)) ?_
  refine v_istore_n (pc := 10) (loc' := [(2, .int (nI (n / (0 + 1)))), (0, .ref x), (1, .int (nI min))]) X dJ2_ensureCapacityInternal_10 rfl (by decide) rfl ?_
  refine v_iload_n (pc := 11) X dJ2_ensureCapacityInternal_11 rfl 2 rfl ?_
  refine v_iload_n (pc := 12) X dJ2_ensureCapacityInternal_12 rfl 0 rfl ?_
  refine v_isub (pc := 13) X dJ2_ensureCapacityInternal_13 ?_
  refine v_if_le (pc := 14) X 38 dJ2_ensureCapacityInternal_14 (by decide) (fun h14 => ?_) (fun h14 => absurd ((sub_le0 (by omega) (by omega)).mpr (by omega)) h14)
  exact v_vret (pc := 38) X hr dJ2_ensureCapacityInternal_38 ⟨rfl, rfl⟩
set_option maxHeartbeats 4000000 in
theorem c_J2_ensureNG_1 {l_ : Launch} {D : va_G} {dd : Nat → ClassId} {x va cnt : Nat} {ml : Int32} {ws : va_W} {n min : Nat} {f : Nat → Int32} (hx : (x, .inr (12, [.ref va, .int (nI 1), .int ml, .int (nI cnt)])) ∈ ws) (hva : (va, .inl (dd 2, n, .inl f)) ∈ ws) (hn : n ≤ 1000) (hmin : min ≤ 200) (hng : (1 + 1) * min ≤ n) : MW l_ D dd yJ2_ensureCapacityInternal cJ2_ensureCapacityInternal 3 none 3 0 0 100 [.ref x, .int (nI min)] (ws) (RV ws) := by
  refine MW.intro (by decide) (Nat.le_of_ble_eq_true rfl) (fun p_ e_ s_ m_ as_ bl_ me_ c_ A_ X hr hnm => ?_)
  have X : VX p_ s_ m_ as_ me_ c_ cJ2_ensureCapacityInternal 3 RJ2 D dd A_ := X
  refine v_eq (loc' := [(0, .ref x), (1, .int (nI min))]) rfl rfl rfl ?_
  refine v_aload_n (pc := 0) X dJ2_ensureCapacityInternal_0 rfl 0 rfl ?_
  refine v_getM (pc := 1) X in_J3 hx rfl 0 (by decide) q278 (fun y h => h) rfl dJ2_ensureCapacityInternal_1 ?_
  refine v_alenM (pc := 4) X 2 hva rfl dJ2_ensureCapacityInternal_4 ?_
  refine v_top (y := nI n) rfl ?_
  refine v_aload_n (pc := 5) X dJ2_ensureCapacityInternal_5 rfl 0 rfl ?_
  refine v_getM (pc := 6) X in_J3 hx rfl 1 (by decide) q279 (fun y h => h) rfl dJ2_ensureCapacityInternal_6 ?_
  refine v_ishr (pc := 9) X dJ2_ensureCapacityInternal_9 ?_
  refine v_top (y := (nI (n / (1 + 1)))) (sr_co (by omega) (by decide)) ?_
  refine v_istore_n (pc := 10) (loc' := [(2, .int (nI (n / (1 + 1)))), (0, .ref x), (1, .int (nI min))]) X dJ2_ensureCapacityInternal_10 rfl (by decide) rfl ?_
  refine v_iload_n (pc := 11) X dJ2_ensureCapacityInternal_11 rfl 2 rfl ?_
  refine v_iload_n (pc := 12) X dJ2_ensureCapacityInternal_12 rfl 0 rfl ?_
  refine v_isub (pc := 13) X dJ2_ensureCapacityInternal_13 ?_
  refine v_if_le (pc := 14) X 38 dJ2_ensureCapacityInternal_14 (by decide) (fun h14 => ?_) (fun h14 => absurd ((sub_le0 (by omega) (by omega)).mpr (by omega)) h14)
  exact v_vret (pc := 38) X hr dJ2_ensureCapacityInternal_38 ⟨rfl, rfl⟩

def BF (f : Nat → Int32) (n : Nat) : Prop := ∀ i, i < n → fits .byte (.int (f i)) = true
theorem fits_bt (c : Nat) : fits .byte (.int (bt c)) = true := by
  have h : ∀ c, c < 256 → fits .byte (.int (bt c)) = true := by decide +kernel
  have e : bt c = bt (c % 256) := by unfold bt; rw [i8_mod]
  rw [e]; exact h _ (Nat.mod_lt _ (by decide))
theorem BF.up {f : Nat → Int32} {n : Nat} (h : BF f n) (k c : Nat) : BF (upd f k (bt c)) n := by
  intro i hi
  unfold upd
  split
  · exact fits_bt c
  · exact h i hi
theorem BF.zero (n : Nat) : BF (fun _ => 0) n := fun _ _ => rfl
theorem BF.cpy {f g : Nat → Int32} {n m : Nat} (h : BF f n) (hg : BF g m) (sp dp k : Nat) (hk : sp + k ≤ n) : BF (va_cpy f g sp dp k) m := by
  intro i hi
  unfold va_cpy
  split
  · exact h _ (by omega)
  · exact hg i hi
theorem hdJ17_checkIndex : yJ17_checkIndex.cls ≠ "java/lang/invoke/MethodHandle" ∧ yJ17_checkIndex.cls ≠ "java/lang/invoke/VarHandle" ∧ (parseMethodDescriptor yJ17_checkIndex.desc).map (fun d => d.parameters.length) = some 3 := by decide +kernel
set_option maxHeartbeats 4000000 in
theorem c_J17_checkIndex_0 {l_ : Launch} {D : va_G} {dd : Nat → ClassId} {i n : Nat} (h : i < n) (hn : n < 2 ^ 31) : MW l_ D dd yJ17_checkIndex cJ17_checkIndex 3 (some .int) 0 0 0 0 [.int (nI i), .int (nI n), .null] ([]) (RI (fun r => (nI i) = r) []) := by
  refine MW.intro (by decide) (Nat.le_of_ble_eq_true rfl) (fun p_ e_ s_ m_ as_ bl_ me_ c_ A_ X hr hnm => ?_)
  have X : VX p_ s_ m_ as_ me_ c_ cJ17_checkIndex 3 RJ17 D dd A_ := X
  refine v_eq (loc' := [(0, .int (nI i)), (1, .int (nI n)), (2, .null)]) rfl rfl rfl ?_
  refine v_iload_n (pc := 0) X dJ17_checkIndex_0 rfl 0 rfl ?_
  refine v_if_lt (pc := 1) X 9 dJ17_checkIndex_1 (by decide) (fun h1 => absurd h1 (nI_nn (by omega))) (fun h1 => ?_)
  refine v_iload_n (pc := 4) X dJ17_checkIndex_4 rfl 0 rfl ?_
  refine v_iload_n (pc := 5) X dJ17_checkIndex_5 rfl 1 rfl ?_
  refine v_ic_ltN (pc := 6) X (by omega) (by omega) 16 dJ17_checkIndex_6 (by decide) (fun h6 => ?_) (fun h6 => absurd h (by omega))
  refine v_iload_n (pc := 16) X dJ17_checkIndex_16 rfl 0 rfl ?_
  exact v_iret (pc := 17) X hr dJ17_checkIndex_17 ⟨⟨_, rfl, rfl⟩, rfl⟩
set_option maxHeartbeats 4000000 in
theorem c_J17_checkIndex_1 {l_ : Launch} {D : va_G} {dd : Nat → ClassId} {i n : Nat} {fm : Nat} (h : i < n) (hn : n < 2 ^ 31) : MW l_ D dd yJ17_checkIndex cJ17_checkIndex 3 (some .int) 0 0 0 0 [.int (nI i), .int (nI n), .ref fm] ([]) (RI (fun r => (nI i) = r) []) := by
  refine MW.intro (by decide) (Nat.le_of_ble_eq_true rfl) (fun p_ e_ s_ m_ as_ bl_ me_ c_ A_ X hr hnm => ?_)
  have X : VX p_ s_ m_ as_ me_ c_ cJ17_checkIndex 3 RJ17 D dd A_ := X
  refine v_eq (loc' := [(0, .int (nI i)), (1, .int (nI n)), (2, .ref fm)]) rfl rfl rfl ?_
  refine v_iload_n (pc := 0) X dJ17_checkIndex_0 rfl 0 rfl ?_
  refine v_if_lt (pc := 1) X 9 dJ17_checkIndex_1 (by decide) (fun h1 => absurd h1 (nI_nn (by omega))) (fun h1 => ?_)
  refine v_iload_n (pc := 4) X dJ17_checkIndex_4 rfl 0 rfl ?_
  refine v_iload_n (pc := 5) X dJ17_checkIndex_5 rfl 1 rfl ?_
  refine v_ic_ltN (pc := 6) X (by omega) (by omega) 16 dJ17_checkIndex_6 (by decide) (fun h6 => ?_) (fun h6 => absurd h (by omega))
  refine v_iload_n (pc := 16) X dJ17_checkIndex_16 rfl 0 rfl ?_
  exact v_iret (pc := 17) X hr dJ17_checkIndex_17 ⟨⟨_, rfl, rfl⟩, rfl⟩
theorem c_J17_checkIndex {l_ : Launch} {D : va_G} {dd : Nat → ClassId} {i n : Nat} {fm : Option Nat} (h : i < n) (hn : n < 2 ^ 31) : MW l_ D dd yJ17_checkIndex cJ17_checkIndex 3 (some .int) 0 0 0 0 [.int (nI i), .int (nI n), va_rf fm] ([]) (RI (fun r => (nI i) = r) []) := by
  cases fm
  · exact c_J17_checkIndex_0 h hn
  · exact c_J17_checkIndex_1 h hn
theorem hdJ4_checkIndex : yJ4_checkIndex.cls ≠ "java/lang/invoke/MethodHandle" ∧ yJ4_checkIndex.cls ≠ "java/lang/invoke/VarHandle" ∧ (parseMethodDescriptor yJ4_checkIndex.desc).map (fun d => d.parameters.length) = some 2 := by decide +kernel
set_option maxHeartbeats 4000000 in
theorem c_J4_checkIndex {l_ : Launch} {D : va_G} {dd : Nat → ClassId} {i n : Nat} (h : i < n) (hn : n < 2 ^ 31) : MW l_ D dd yJ4_checkIndex cJ4_checkIndex 2 none 1 0 0 25 [.int (nI i), .int (nI n)] ([]) (RV []) := by
  refine MW.intro (by decide) (Nat.le_of_ble_eq_true rfl) (fun p_ e_ s_ m_ as_ bl_ me_ c_ A_ X hr hnm => ?_)
  have X : VX p_ s_ m_ as_ me_ c_ cJ4_checkIndex 2 RJ4 D dd A_ := X
  refine v_eq (loc' := [(0, .int (nI i)), (1, .int (nI n))]) rfl rfl rfl ?_
  refine v_iload_n (pc := 0) X dJ4_checkIndex_0 rfl 0 rfl ?_
  refine v_iload_n (pc := 1) X dJ4_checkIndex_1 rfl 1 rfl ?_
  refine v_getsq (pc := 2) (ref := "") X q585 dJ4_checkIndex_2 (fun r1 => ?_)
  refine v_read (pc := 5) X ⟨_, List.Perm.refl ([] ++ _)⟩ (r_S X (c_J17_checkIndex (i := i) (n := n) (by omega) (by omega)) (lw_S q819 q820 q116 q821) hdJ17_checkIndex ⟨Nat.le_of_ble_eq_true rfl, Nat.le_of_ble_eq_true rfl⟩ rfl rfl (Nat.le_of_ble_eq_true rfl) dJ4_checkIndex_5 ⟨Nat.le_of_ble_eq_true rfl, Nat.le_of_ble_eq_true rfl⟩) (fun r5 h5 => ?_)
  subst h5
  refine v_pop (pc := 8) X dJ4_checkIndex_8 rfl ?_
  exact v_vret (pc := 9) X hr dJ4_checkIndex_9 ⟨rfl, rfl⟩
theorem hdJ5_length : yJ5_length.cls ≠ "java/lang/invoke/MethodHandle" ∧ yJ5_length.cls ≠ "java/lang/invoke/VarHandle" ∧ (parseMethodDescriptor yJ5_length.desc).map (fun d => d.parameters.length) = some 1 := by decide +kernel
set_option maxHeartbeats 4000000 in
theorem c_J5_length {l_ : Launch} {D : va_G} {dd : Nat → ClassId} {va n : Nat} {f : Nat → Int32} {ws : va_W} (hn : n < 2 ^ 30) (hva : (va, .inl (dd 2, n, .inl f)) ∈ ws) : MW l_ D dd yJ5_length cJ5_length 1 (some .int) 0 0 0 0 [.ref va] (ws) (RI (fun r => nI (n / 2) = r) ws) := by
  refine MW.intro (by decide) (Nat.le_of_ble_eq_true rfl) (fun p_ e_ s_ m_ as_ bl_ me_ c_ A_ X hr hnm => ?_)
  have X : VX p_ s_ m_ as_ me_ c_ cJ5_length 1 RJ5 D dd A_ := X
  refine v_eq (loc' := [(0, .ref va)]) rfl rfl rfl ?_
  refine v_aload_n (pc := 0) X dJ5_length_0 rfl 0 rfl ?_
  refine v_alenM (pc := 1) X 2 hva rfl dJ5_length_1 ?_
  refine v_top (y := nI n) rfl ?_
  refine v_iconst (pc := 2) (v := nI 1) X dJ5_length_2 rfl ?_
  refine v_ishr (pc := 3) X dJ5_length_3 ?_
  refine v_top (y := (nI (n / 2))) (sr_1 (by omega)) ?_
  exact v_iret (pc := 4) X hr dJ5_length_4 ⟨⟨_, rfl, rfl⟩, rfl⟩
theorem hdJ5_checkIndex : yJ5_checkIndex.cls ≠ "java/lang/invoke/MethodHandle" ∧ yJ5_checkIndex.cls ≠ "java/lang/invoke/VarHandle" ∧ (parseMethodDescriptor yJ5_checkIndex.desc).map (fun d => d.parameters.length) = some 2 := by decide +kernel
set_option maxHeartbeats 4000000 in
theorem c_J5_checkIndex {l_ : Launch} {D : va_G} {dd : Nat → ClassId} {va n : Nat} {f : Nat → Int32} {ws : va_W} {i : Nat} (h : i < n / 2) (hn : n < 2 ^ 30) (hva : (va, .inl (dd 2, n, .inl f)) ∈ ws) : MW l_ D dd yJ5_checkIndex cJ5_checkIndex 2 none 2 0 0 60 [.int (nI i), .ref va] (ws) (RV ws) := by
  refine MW.intro (by decide) (Nat.le_of_ble_eq_true rfl) (fun p_ e_ s_ m_ as_ bl_ me_ c_ A_ X hr hnm => ?_)
  have X : VX p_ s_ m_ as_ me_ c_ cJ5_checkIndex 2 RJ5 D dd A_ := X
  refine v_eq (loc' := [(0, .int (nI i)), (1, .ref va)]) rfl rfl rfl ?_
  refine v_iload_n (pc := 0) X dJ5_checkIndex_0 rfl 0 rfl ?_
  refine v_aload_n (pc := 1) X dJ5_checkIndex_1 rfl 1 rfl ?_
  refine v_read (pc := 2) X ⟨[], perm_nil _⟩ (r_S X (c_J5_length (n := n) (by omega) hva) (lw_S q579 q580 q100 q581) hdJ5_length ⟨Nat.le_of_ble_eq_true rfl, Nat.le_of_ble_eq_true rfl⟩ rfl rfl (Nat.le_of_ble_eq_true rfl) dJ5_checkIndex_2 ⟨Nat.le_of_ble_eq_true rfl, Nat.le_of_ble_eq_true rfl⟩) (fun r2 h2 => ?_)
  subst h2
  refine v_readV (pc := 5) X ⟨_, List.Perm.refl ([] ++ _)⟩ (r_S X (c_J4_checkIndex (i := i) (n := n / 2) (by omega) (by omega)) (lw_S q816 q817 q99 q818) hdJ4_checkIndex ⟨Nat.le_of_ble_eq_true rfl, Nat.le_of_ble_eq_true rfl⟩ rfl rfl (Nat.le_of_ble_eq_true rfl) dJ5_checkIndex_5 ⟨Nat.le_of_ble_eq_true rfl, Nat.le_of_ble_eq_true rfl⟩) ?_
  exact v_vret (pc := 8) X hr dJ5_checkIndex_8 ⟨rfl, rfl⟩
theorem hdJ17_checkFromIndexSize : yJ17_checkFromIndexSize.cls ≠ "java/lang/invoke/MethodHandle" ∧ yJ17_checkFromIndexSize.cls ≠ "java/lang/invoke/VarHandle" ∧ (parseMethodDescriptor yJ17_checkFromIndexSize.desc).map (fun d => d.parameters.length) = some 4 := by decide +kernel
set_option maxHeartbeats 4000000 in
theorem c_J17_checkFromIndexSize_0 {l_ : Launch} {D : va_G} {dd : Nat → ClassId} {o l n : Nat} (ho : o < 2 ^ 30) (hl : l < 2 ^ 30) (hn : n < 2 ^ 30) (h : o + l ≤ n) : MW l_ D dd yJ17_checkFromIndexSize cJ17_checkFromIndexSize 4 (some .int) 0 0 0 0 [.int (nI o), .int (nI l), .int (nI n), .null] ([]) (RI (fun r => (nI o) = r) []) := by
  refine MW.intro (by decide) (Nat.le_of_ble_eq_true rfl) (fun p_ e_ s_ m_ as_ bl_ me_ c_ A_ X hr hnm => ?_)
  have X : VX p_ s_ m_ as_ me_ c_ cJ17_checkFromIndexSize 4 RJ17 D dd A_ := X
  refine v_eq (loc' := [(0, .int (nI o)), (1, .int (nI l)), (2, .int (nI n)), (3, .null)]) rfl rfl rfl ?_
  refine v_iload_n (pc := 0) X dJ17_checkFromIndexSize_0 rfl 2 rfl ?_
  refine v_iload_n (pc := 1) X dJ17_checkFromIndexSize_1 rfl 0 rfl ?_
  refine v_ior (pc := 2) X dJ17_checkFromIndexSize_2 ?_
  refine v_iload_n (pc := 3) X dJ17_checkFromIndexSize_3 rfl 1 rfl ?_
  refine v_ior (pc := 4) X dJ17_checkFromIndexSize_4 ?_
  refine v_if_lt (pc := 5) X 15 dJ17_checkFromIndexSize_5 (by decide) (fun h5 => absurd h5 (or3_nn hn ho hl)) (fun h5 => ?_)
  refine v_iload_n (pc := 8) X dJ17_checkFromIndexSize_8 rfl 1 rfl ?_
  refine v_iload_n (pc := 9) X dJ17_checkFromIndexSize_9 rfl 2 rfl ?_
  refine v_iload_n (pc := 10) X dJ17_checkFromIndexSize_10 rfl 0 rfl ?_
  refine v_isubN (pc := 11) X (by omega) dJ17_checkFromIndexSize_11 ?_
  refine v_ic_leN (pc := 12) X (by omega) (by omega) 23 dJ17_checkFromIndexSize_12 (by decide) (fun h12 => ?_) (fun h12 => absurd h12 (by omega))
  refine v_iload_n (pc := 23) X dJ17_checkFromIndexSize_23 rfl 0 rfl ?_
  exact v_iret (pc := 24) X hr dJ17_checkFromIndexSize_24 ⟨⟨_, rfl, rfl⟩, rfl⟩
set_option maxHeartbeats 4000000 in
theorem c_J17_checkFromIndexSize_1 {l_ : Launch} {D : va_G} {dd : Nat → ClassId} {o l n : Nat} {fm : Nat} (ho : o < 2 ^ 30) (hl : l < 2 ^ 30) (hn : n < 2 ^ 30) (h : o + l ≤ n) : MW l_ D dd yJ17_checkFromIndexSize cJ17_checkFromIndexSize 4 (some .int) 0 0 0 0 [.int (nI o), .int (nI l), .int (nI n), .ref fm] ([]) (RI (fun r => (nI o) = r) []) := by
  refine MW.intro (by decide) (Nat.le_of_ble_eq_true rfl) (fun p_ e_ s_ m_ as_ bl_ me_ c_ A_ X hr hnm => ?_)
  have X : VX p_ s_ m_ as_ me_ c_ cJ17_checkFromIndexSize 4 RJ17 D dd A_ := X
  refine v_eq (loc' := [(0, .int (nI o)), (1, .int (nI l)), (2, .int (nI n)), (3, .ref fm)]) rfl rfl rfl ?_
  refine v_iload_n (pc := 0) X dJ17_checkFromIndexSize_0 rfl 2 rfl ?_
  refine v_iload_n (pc := 1) X dJ17_checkFromIndexSize_1 rfl 0 rfl ?_
  refine v_ior (pc := 2) X dJ17_checkFromIndexSize_2 ?_
  refine v_iload_n (pc := 3) X dJ17_checkFromIndexSize_3 rfl 1 rfl ?_
  refine v_ior (pc := 4) X dJ17_checkFromIndexSize_4 ?_
  refine v_if_lt (pc := 5) X 15 dJ17_checkFromIndexSize_5 (by decide) (fun h5 => absurd h5 (or3_nn hn ho hl)) (fun h5 => ?_)
  refine v_iload_n (pc := 8) X dJ17_checkFromIndexSize_8 rfl 1 rfl ?_
  refine v_iload_n (pc := 9) X dJ17_checkFromIndexSize_9 rfl 2 rfl ?_
  refine v_iload_n (pc := 10) X dJ17_checkFromIndexSize_10 rfl 0 rfl ?_
  refine v_isubN (pc := 11) X (by omega) dJ17_checkFromIndexSize_11 ?_
  refine v_ic_leN (pc := 12) X (by omega) (by omega) 23 dJ17_checkFromIndexSize_12 (by decide) (fun h12 => ?_) (fun h12 => absurd h12 (by omega))
  refine v_iload_n (pc := 23) X dJ17_checkFromIndexSize_23 rfl 0 rfl ?_
  exact v_iret (pc := 24) X hr dJ17_checkFromIndexSize_24 ⟨⟨_, rfl, rfl⟩, rfl⟩
theorem c_J17_checkFromIndexSize {l_ : Launch} {D : va_G} {dd : Nat → ClassId} {o l n : Nat} {fm : Option Nat} (ho : o < 2 ^ 30) (hl : l < 2 ^ 30) (hn : n < 2 ^ 30) (h : o + l ≤ n) : MW l_ D dd yJ17_checkFromIndexSize cJ17_checkFromIndexSize 4 (some .int) 0 0 0 0 [.int (nI o), .int (nI l), .int (nI n), va_rf fm] ([]) (RI (fun r => (nI o) = r) []) := by
  cases fm
  · exact c_J17_checkFromIndexSize_0 ho hl hn h
  · exact c_J17_checkFromIndexSize_1 ho hl hn h
theorem hdJ4_checkBoundsOffCount : yJ4_checkBoundsOffCount.cls ≠ "java/lang/invoke/MethodHandle" ∧ yJ4_checkBoundsOffCount.cls ≠ "java/lang/invoke/VarHandle" ∧ (parseMethodDescriptor yJ4_checkBoundsOffCount.desc).map (fun d => d.parameters.length) = some 3 := by decide +kernel
set_option maxHeartbeats 4000000 in
theorem c_J4_checkBoundsOffCount {l_ : Launch} {D : va_G} {dd : Nat → ClassId} {o l n : Nat} (ho : o < 2 ^ 30) (hl : l < 2 ^ 30) (hn : n < 2 ^ 30) (h : o + l ≤ n) : MW l_ D dd yJ4_checkBoundsOffCount cJ4_checkBoundsOffCount 3 (some .int) 1 0 0 25 [.int (nI o), .int (nI l), .int (nI n)] ([]) (RI (fun r => (nI o) = r) []) := by
  refine MW.intro (by decide) (Nat.le_of_ble_eq_true rfl) (fun p_ e_ s_ m_ as_ bl_ me_ c_ A_ X hr hnm => ?_)
  have X : VX p_ s_ m_ as_ me_ c_ cJ4_checkBoundsOffCount 3 RJ4 D dd A_ := X
  refine v_eq (loc' := [(0, .int (nI o)), (1, .int (nI l)), (2, .int (nI n))]) rfl rfl rfl ?_
  refine v_iload_n (pc := 0) X dJ4_checkBoundsOffCount_0 rfl 0 rfl ?_
  refine v_iload_n (pc := 1) X dJ4_checkBoundsOffCount_1 rfl 1 rfl ?_
  refine v_iload_n (pc := 2) X dJ4_checkBoundsOffCount_2 rfl 2 rfl ?_
  refine v_getsq (pc := 3) (ref := "") X q585 dJ4_checkBoundsOffCount_3 (fun r1 => ?_)
  refine v_read (pc := 6) X ⟨_, List.Perm.refl ([] ++ _)⟩ (r_S X (c_J17_checkFromIndexSize (o := o) (l := l) (n := n) (by omega) (by omega) (by omega) (by omega)) (lw_S q633 q634 q116 q635) hdJ17_checkFromIndexSize ⟨Nat.le_of_ble_eq_true rfl, Nat.le_of_ble_eq_true rfl⟩ rfl rfl (Nat.le_of_ble_eq_true rfl) dJ4_checkBoundsOffCount_6 ⟨Nat.le_of_ble_eq_true rfl, Nat.le_of_ble_eq_true rfl⟩) (fun r6 h6 => ?_)
  subst h6
  exact v_iret (pc := 9) X hr dJ4_checkBoundsOffCount_9 ⟨⟨_, rfl, rfl⟩, rfl⟩
theorem hdJ5_checkBoundsOffCount : yJ5_checkBoundsOffCount.cls ≠ "java/lang/invoke/MethodHandle" ∧ yJ5_checkBoundsOffCount.cls ≠ "java/lang/invoke/VarHandle" ∧ (parseMethodDescriptor yJ5_checkBoundsOffCount.desc).map (fun d => d.parameters.length) = some 3 := by decide +kernel
set_option maxHeartbeats 4000000 in
theorem c_J5_checkBoundsOffCount {l_ : Launch} {D : va_G} {dd : Nat → ClassId} {va n : Nat} {f : Nat → Int32} {ws : va_W} {o l : Nat} (ho : o < 2 ^ 30) (hl : l < 2 ^ 30) (hn : n < 2 ^ 30) (h : o + l ≤ n / 2) (hva : (va, .inl (dd 2, n, .inl f)) ∈ ws) : MW l_ D dd yJ5_checkBoundsOffCount cJ5_checkBoundsOffCount 3 none 2 0 0 60 [.int (nI o), .int (nI l), .ref va] (ws) (RV ws) := by
  refine MW.intro (by decide) (Nat.le_of_ble_eq_true rfl) (fun p_ e_ s_ m_ as_ bl_ me_ c_ A_ X hr hnm => ?_)
  have X : VX p_ s_ m_ as_ me_ c_ cJ5_checkBoundsOffCount 3 RJ5 D dd A_ := X
  refine v_eq (loc' := [(0, .int (nI o)), (1, .int (nI l)), (2, .ref va)]) rfl rfl rfl ?_
  refine v_iload_n (pc := 0) X dJ5_checkBoundsOffCount_0 rfl 0 rfl ?_
  refine v_iload_n (pc := 1) X dJ5_checkBoundsOffCount_1 rfl 1 rfl ?_
  refine v_aload_n (pc := 2) X dJ5_checkBoundsOffCount_2 rfl 2 rfl ?_
  refine v_read (pc := 3) X ⟨[], perm_nil _⟩ (r_S X (c_J5_length (n := n) (by omega) hva) (lw_S q579 q580 q100 q581) hdJ5_length ⟨Nat.le_of_ble_eq_true rfl, Nat.le_of_ble_eq_true rfl⟩ rfl rfl (Nat.le_of_ble_eq_true rfl) dJ5_checkBoundsOffCount_3 ⟨Nat.le_of_ble_eq_true rfl, Nat.le_of_ble_eq_true rfl⟩) (fun r3 h3 => ?_)
  subst h3
  refine v_read (pc := 6) X ⟨_, List.Perm.refl ([] ++ _)⟩ (r_S X (c_J4_checkBoundsOffCount (o := o) (l := l) (n := n / 2) (by omega) (by omega) (by omega) (by omega)) (lw_S q630 q631 q99 q632) hdJ4_checkBoundsOffCount ⟨Nat.le_of_ble_eq_true rfl, Nat.le_of_ble_eq_true rfl⟩ rfl rfl (Nat.le_of_ble_eq_true rfl) dJ5_checkBoundsOffCount_6 ⟨Nat.le_of_ble_eq_true rfl, Nat.le_of_ble_eq_true rfl⟩) (fun r6 h6 => ?_)
  subst h6
  refine v_pop (pc := 9) X dJ5_checkBoundsOffCount_9 rfl ?_
  exact v_vret (pc := 10) X hr dJ5_checkBoundsOffCount_10 ⟨rfl, rfl⟩
theorem hdJ5_putChar : yJ5_putChar.cls ≠ "java/lang/invoke/MethodHandle" ∧ yJ5_putChar.cls ≠ "java/lang/invoke/VarHandle" ∧ (parseMethodDescriptor yJ5_putChar.desc).map (fun d => d.parameters.length) = some 3 := by decide +kernel
set_option maxHeartbeats 4000000 in
theorem c_J5_putChar {l_ : Launch} {D : va_G} {dd : Nat → ClassId} {va n i c : Nat} {f : Nat → Int32} (hi : 2 * i + 1 < n) (hn : n < 2 ^ 30) (hc : c < 65536) : MW l_ D dd yJ5_putChar cJ5_putChar 3 none 0 0 0 0 [.ref va, .int (nI i), .int (nI c)] ([(va, .inl (dd 2, n, .inl f))]) (fun r w => r = none ∧ w = [(va, .inl (dd 2, n, .inl (upd (upd f (2 * i) (bt (c % 256))) (2 * i + 1) (bt (c / 256)))))]) := by
  refine MW.intro (by decide) (Nat.le_of_ble_eq_true rfl) (fun p_ e_ s_ m_ as_ bl_ me_ c_ A_ X hr hnm => ?_)
  have X : VX p_ s_ m_ as_ me_ c_ cJ5_putChar 3 RJ5 D dd A_ := X
  refine v_eq (loc' := [(0, .ref va), (1, .int (nI i)), (2, .int (nI c))]) rfl rfl rfl ?_
  refine v_gets (pc := 0) X (List.mem_of_getElem? (l := zS) (i := 1) rfl) q593 (fun y h => h) dJ5_putChar_0 ?_
  refine v_top (y := nI 1) rfl ?_
  refine v_if_neN (pc := 3) X (by omega) 28 dJ5_putChar_3 (by decide) (fun h3 => ?_) (fun h3 => absurd h3 (by omega))
  refine v_iload_n (pc := 28) X dJ5_putChar_28 rfl 1 rfl ?_
  refine v_iconst (pc := 29) (v := nI 1) X dJ5_putChar_29 rfl ?_
  refine v_ishl (pc := 30) X dJ5_putChar_30 ?_
  refine v_top (y := (nI (2 * i))) sl_1 ?_
  refine v_istore_n (pc := 31) (loc' := [(1, .int (nI (2 * i))), (0, .ref va), (2, .int (nI c))]) X dJ5_putChar_31 rfl (by decide) rfl ?_
  refine v_aload_n (pc := 32) X dJ5_putChar_32 rfl 1 rfl ?_
  refine v_iload_n (pc := 33) X dJ5_putChar_33 rfl 0 rfl ?_
  refine v_iinc (pc := 34) (v := (nI (2 * i + 1))) (loc' := [(1, .int (nI (2 * i + 1))), (0, .ref va), (2, .int (nI c))]) X dJ5_putChar_34 0 rfl (nI_add _ 1) (by decide) rfl ?_
  refine v_iload_n (pc := 37) X dJ5_putChar_37 rfl 2 rfl ?_
  refine v_gets (pc := 38) X (List.mem_of_getElem? (l := zS) (i := 2) rfl) q595 (fun y h => h) dJ5_putChar_38 ?_
  refine v_top (y := nI 0) rfl ?_
  refine v_ishr (pc := 41) X dJ5_putChar_41 ?_
  refine v_i2b (pc := 42) X dJ5_putChar_42 ?_
  refine v_top (y := (bt (c % 256))) (bt_lo2 hc) ?_
  refine v_bast (pc := 43) X 0 rfl rfl (by omega) (by omega) dJ5_putChar_43 (ws' := [(va, .inl (dd 2, n, .inl (upd f (2 * i) (bt (c % 256)))))]) (by rw [show upd f (2 * i) (vp_nar .byte ((bt (c % 256)))) = upd f (2 * i) (bt (c % 256)) from (by rw [nar_bt _ (by omega)])]; rfl) ?_
  refine v_aload_n (pc := 44) X dJ5_putChar_44 rfl 1 rfl ?_
  refine v_iload_n (pc := 45) X dJ5_putChar_45 rfl 0 rfl ?_
  refine v_iload_n (pc := 46) X dJ5_putChar_46 rfl 2 rfl ?_
  refine v_gets (pc := 47) X (List.mem_of_getElem? (l := zS) (i := 3) rfl) q597 (fun y h => h) dJ5_putChar_47 ?_
  refine v_top (y := nI 8) rfl ?_
  refine v_ishr (pc := 50) X dJ5_putChar_50 ?_
  refine v_i2b (pc := 51) X dJ5_putChar_51 ?_
  refine v_top (y := (bt (c / 256))) (bt_hi2 hc) ?_
  refine v_bast (pc := 52) X 0 rfl rfl (by omega) (by omega) dJ5_putChar_52 (ws' := [(va, .inl (dd 2, n, .inl (upd (upd f (2 * i) (bt (c % 256))) (2 * i + 1) (bt (c / 256)))))]) (by rw [show upd (upd f (2 * i) (bt (c % 256))) (2 * i + 1) (vp_nar .byte ((bt (c / 256)))) = upd (upd f (2 * i) (bt (c % 256))) (2 * i + 1) (bt (c / 256)) from (by rw [nar_bt _ (by omega)])]; rfl) ?_
  exact v_vret (pc := 53) X hr dJ5_putChar_53 ⟨rfl, rfl⟩
theorem hdJ5_getChar : yJ5_getChar.cls ≠ "java/lang/invoke/MethodHandle" ∧ yJ5_getChar.cls ≠ "java/lang/invoke/VarHandle" ∧ (parseMethodDescriptor yJ5_getChar.desc).map (fun d => d.parameters.length) = some 2 := by decide +kernel
set_option maxHeartbeats 4000000 in
theorem c_J5_getChar {l_ : Launch} {D : va_G} {dd : Nat → ClassId} {va n : Nat} {f : Nat → Int32} {ws : va_W} {i c : Nat} (hi : 2 * i + 1 < n) (hn : n < 2 ^ 30) (h1 : f (2 * i) = bt (c % 256)) (h2 : f (2 * i + 1) = bt (c / 256)) (hc : c < 65536) (hva : (va, .inl (dd 2, n, .inl f)) ∈ ws) : MW l_ D dd yJ5_getChar cJ5_getChar 2 (some .char) 0 0 0 0 [.ref va, .int (nI i)] (ws) (RI (fun r => nI c = r) ws) := by
  refine MW.intro (by decide) (Nat.le_of_ble_eq_true rfl) (fun p_ e_ s_ m_ as_ bl_ me_ c_ A_ X hr hnm => ?_)
  have X : VX p_ s_ m_ as_ me_ c_ cJ5_getChar 2 RJ5 D dd A_ := X
  refine v_eq (loc' := [(0, .ref va), (1, .int (nI i))]) rfl rfl rfl ?_
  refine v_gets (pc := 0) X (List.mem_of_getElem? (l := zS) (i := 1) rfl) q593 (fun y h => h) dJ5_getChar_0 ?_
  refine v_top (y := nI 1) rfl ?_
  refine v_if_neN (pc := 3) X (by omega) 28 dJ5_getChar_3 (by decide) (fun h3 => ?_) (fun h3 => absurd h3 (by omega))
  refine v_iload_n (pc := 28) X dJ5_getChar_28 rfl 1 rfl ?_
  refine v_iconst (pc := 29) (v := nI 1) X dJ5_getChar_29 rfl ?_
  refine v_ishl (pc := 30) X dJ5_getChar_30 ?_
  refine v_top (y := (nI (2 * i))) sl_1 ?_
  refine v_istore_n (pc := 31) (loc' := [(1, .int (nI (2 * i))), (0, .ref va)]) X dJ5_getChar_31 rfl (by decide) rfl ?_
  refine v_aload_n (pc := 32) X dJ5_getChar_32 rfl 1 rfl ?_
  refine v_iload_n (pc := 33) X dJ5_getChar_33 rfl 0 rfl ?_
  refine v_iinc (pc := 34) (v := (nI (2 * i + 1))) (loc' := [(1, .int (nI (2 * i + 1))), (0, .ref va)]) X dJ5_getChar_34 0 rfl (nI_add _ 1) (by decide) rfl ?_
  refine v_bald (pc := 37) X hva rfl (by omega) (by omega) dJ5_getChar_37 ?_
  refine v_top (y := (bt (c % 256))) h1 ?_
  refine v_sipush (pc := 38) (v := nI 255) X dJ5_getChar_38 rfl ?_
  refine v_iand (pc := 41) X dJ5_getChar_41 ?_
  refine v_top (y := (nI (c % 256))) (and_bt _ (by omega)) ?_
  refine v_gets (pc := 42) X (List.mem_of_getElem? (l := zS) (i := 2) rfl) q595 (fun y h => h) dJ5_getChar_42 ?_
  refine v_top (y := nI 0) rfl ?_
  refine v_ishl (pc := 45) X dJ5_getChar_45 ?_
  refine v_aload_n (pc := 46) X dJ5_getChar_46 rfl 1 rfl ?_
  refine v_iload_n (pc := 47) X dJ5_getChar_47 rfl 0 rfl ?_
  refine v_bald (pc := 48) X hva rfl (by omega) (by omega) dJ5_getChar_48 ?_
  refine v_top (y := (bt (c / 256))) h2 ?_
  refine v_sipush (pc := 49) (v := nI 255) X dJ5_getChar_49 rfl ?_
  refine v_iand (pc := 52) X dJ5_getChar_52 ?_
  refine v_top (y := (nI (c / 256))) (and_bt _ (by omega)) ?_
  refine v_gets (pc := 53) X (List.mem_of_getElem? (l := zS) (i := 3) rfl) q597 (fun y h => h) dJ5_getChar_53 ?_
  refine v_top (y := nI 8) rfl ?_
  refine v_ishl (pc := 56) X dJ5_getChar_56 ?_
  refine v_ior (pc := 57) X dJ5_getChar_57 ?_
  refine v_i2c (pc := 58) (v := nI c) X dJ5_getChar_58 (by rw [cmb2 (by omega) (by omega), show 256 * (c / 256) + c % 256 = c by omega]) ?_
  exact v_zret (pc := 59) X hr (congrArg Value.int (nar_c hc)) dJ5_getChar_59 ⟨⟨_, rfl, rfl⟩, rfl⟩
theorem hdJ5_putCharSB : yJ5_putCharSB.cls ≠ "java/lang/invoke/MethodHandle" ∧ yJ5_putCharSB.cls ≠ "java/lang/invoke/VarHandle" ∧ (parseMethodDescriptor yJ5_putCharSB.desc).map (fun d => d.parameters.length) = some 3 := by decide +kernel
set_option maxHeartbeats 4000000 in
theorem c_J5_putCharSB {l_ : Launch} {D : va_G} {dd : Nat → ClassId} {va n i c : Nat} {f : Nat → Int32} (hi : 2 * i + 1 < n) (hn : n < 2 ^ 30) (hc : c < 65536) : MW l_ D dd yJ5_putCharSB cJ5_putCharSB 3 none 3 0 0 90 [.ref va, .int (nI i), .int (nI c)] ([(va, .inl (dd 2, n, .inl f))]) (fun r w => r = none ∧ w = [(va, .inl (dd 2, n, .inl (upd (upd f (2 * i) (bt (c % 256))) (2 * i + 1) (bt (c / 256)))))]) := by
  refine MW.intro (by decide) (Nat.le_of_ble_eq_true rfl) (fun p_ e_ s_ m_ as_ bl_ me_ c_ A_ X hr hnm => ?_)
  have X : VX p_ s_ m_ as_ me_ c_ cJ5_putCharSB 3 RJ5 D dd A_ := X
  refine v_eq (loc' := [(0, .ref va), (1, .int (nI i)), (2, .int (nI c))]) rfl rfl rfl ?_
  refine v_iload_n (pc := 0) X dJ5_putCharSB_0 rfl 1 rfl ?_
  refine v_aload_n (pc := 1) X dJ5_putCharSB_1 rfl 0 rfl ?_
  refine v_readV (pc := 2) X ⟨[], perm_nil _⟩ (r_S X (c_J5_checkIndex (i := i) (n := n) (by omega) (by omega) (List.mem_of_getElem? (i := 0) rfl)) (lw_S q813 q814 q100 q815) hdJ5_checkIndex ⟨Nat.le_of_ble_eq_true rfl, Nat.le_of_ble_eq_true rfl⟩ rfl rfl (Nat.le_of_ble_eq_true rfl) dJ5_putCharSB_2 ⟨Nat.le_of_ble_eq_true rfl, Nat.le_of_ble_eq_true rfl⟩) ?_
  refine v_aload_n (pc := 5) X dJ5_putCharSB_5 rfl 0 rfl ?_
  refine v_iload_n (pc := 6) X dJ5_putCharSB_6 rfl 1 rfl ?_
  refine v_iload_n (pc := 7) X dJ5_putCharSB_7 rfl 2 rfl ?_
  refine v_frame (pc := 8) X (wr := []) (perm_nil _) (r_S X (c_J5_putChar (i := i) (c := c) (by omega) (by omega) (by omega)) (lw_S q590 q591 q100 q592) hdJ5_putChar ⟨Nat.le_of_ble_eq_true rfl, Nat.le_of_ble_eq_true rfl⟩ rfl rfl (Nat.le_of_ble_eq_true rfl) dJ5_putCharSB_8 ⟨Nat.le_of_ble_eq_true rfl, Nat.le_of_ble_eq_true rfl⟩) (fun v8 w8 h8 => ?_)
  obtain ⟨rfl, rfl⟩ := h8
  refine v_eq (ws' := [(va, .inl (dd 2, n, .inl (upd (upd f (2 * i) (bt (c % 256))) (2 * i + 1) (bt (c / 256)))))]) rfl rfl rfl ?_
  exact v_vret (pc := 11) X hr dJ5_putCharSB_11 ⟨rfl, rfl⟩
theorem hdJ5_inflate : yJ5_inflate.cls ≠ "java/lang/invoke/MethodHandle" ∧ yJ5_inflate.cls ≠ "java/lang/invoke/VarHandle" ∧ (parseMethodDescriptor yJ5_inflate.desc).map (fun d => d.parameters.length) = some 5 := by decide +kernel
set_option maxHeartbeats 4000000 in
theorem c_J5_inflate {l_ : Launch} {D : va_G} {dd : Nat → ClassId} {va vb n m : Nat} {f g : Nat → Int32} {t : List Nat} (hL : L1Is f t) (hl : t.length ≤ n) (hm : 2 * t.length ≤ m) (hn : n < 2 ^ 20) (hm2 : m < 2 ^ 20) (hG : BF g m) : MW l_ D dd yJ5_inflate cJ5_inflate 6 none 3 0 0 90 [.ref va, .int (nI 0), .ref vb, .int (nI 0), .int (nI t.length)] ([(va, .inl (dd 2, n, .inl f)), (vb, .inl (dd 2, m, .inl g))]) (fun r w => r = none ∧ ∃ g2, w = [(va, .inl (dd 2, n, .inl f)), (vb, .inl (dd 2, m, .inl g2))] ∧ U16Is g2 t ∧ BF g2 m) := by
  refine MW.intro (by decide) (Nat.le_of_ble_eq_true rfl) (fun p_ e_ s_ m_ as_ bl_ me_ c_ A_ X hr hnm => ?_)
  have X : VX p_ s_ m_ as_ me_ c_ cJ5_inflate 6 RJ5 D dd A_ := X
  refine v_eq (loc' := [(0, .ref va), (1, .int (nI 0)), (2, .ref vb), (3, .int (nI 0)), (4, .int (nI t.length))]) rfl rfl rfl ?_
  refine v_iload_n (pc := 0) X dJ5_inflate_0 rfl 3 rfl ?_
  refine v_iload (pc := 1) X dJ5_inflate_1 4 rfl ?_
  refine v_aload_n (pc := 3) X dJ5_inflate_3 rfl 2 rfl ?_
  refine v_readV (pc := 4) X ⟨[], perm_nil _⟩ (r_S X (c_J5_checkBoundsOffCount (o := 0) (l := t.length) (n := m) (by omega) (by omega) (by omega) (by omega) (List.mem_of_getElem? (i := 1) rfl)) (lw_S q627 q628 q100 q629) hdJ5_checkBoundsOffCount ⟨Nat.le_of_ble_eq_true rfl, Nat.le_of_ble_eq_true rfl⟩ rfl rfl (Nat.le_of_ble_eq_true rfl) dJ5_inflate_4 ⟨Nat.le_of_ble_eq_true rfl, Nat.le_of_ble_eq_true rfl⟩) ?_
  refine v_iconst (pc := 7) (v := nI 0) X dJ5_inflate_7 rfl ?_
  refine v_istore (pc := 8) (loc' := [(5, .int (nI 0)), (0, .ref va), (1, .int (nI 0)), (2, .ref vb), (3, .int (nI 0)), (4, .int (nI t.length))]) X dJ5_inflate_8 (by decide) rfl ?_
  refine v_sub [1, 2, 3, 4, 5, 0] rfl ?_
  refine v_loop2 (S := Nat) (T := Nat → Int32) (fun k u => [(va, .inl (dd 2, n, .inl f)), (vb, .inl (dd 2, m, .inl u))]) (fun k u => [(0, .ref va), (1, .int (nI k)), (2, .ref vb), (3, .int (nI k)), (4, .int (nI t.length)), (5, .int (nI k))]) (fun k u => k ≤ t.length ∧ U16Is u (t.take k) ∧ BF u m) (fun k u => t.length - k) (fun k u hI10 ih10 => ?_) 0 g ⟨Nat.zero_le _, fun i c h => by simp at h, hG⟩
  obtain ⟨hk1, hU, hBu⟩ := hI10
  refine v_iload (pc := 10) X dJ5_inflate_10 5 rfl ?_
  refine v_iload (pc := 12) X dJ5_inflate_12 4 rfl ?_
  refine v_ic_geN (pc := 14) X (by omega) (by omega) 41 dJ5_inflate_14 (by decide) (fun h14 => ?_) (fun h14 => ?_)
  · exact v_vret (pc := 41) X hr dJ5_inflate_41 ⟨rfl, _, rfl, by rw [List.take_of_length_le (by omega)] at hU; exact hU, hBu⟩
  · obtain ⟨ch, hch⟩ : ∃ ch, t[k]? = some ch := ⟨_, List.getElem?_eq_getElem (show k < t.length by omega)⟩
    obtain ⟨hf1, hf2⟩ := hL k ch hch
    have htk : t.take (k + 1) = t.take k ++ [ch] := by rw [List.take_add_one, hch]; rfl
    have htl : (t.take k).length = k := by rw [List.length_take]; omega
    have hU2 := hU.push (c := ch) (by omega)
    rw [htl] at hU2
    refine v_aload_n (pc := 17) X dJ5_inflate_17 rfl 2 rfl ?_
    refine v_iload_n (pc := 18) X dJ5_inflate_18 rfl 3 rfl ?_
    refine v_iinc (pc := 19) (v := (nI (k + 1))) (loc' := [(3, .int (nI (k + 1))), (0, .ref va), (1, .int (nI k)), (2, .ref vb), (4, .int (nI t.length)), (5, .int (nI k))]) X dJ5_inflate_19 3 rfl (nI_add _ 1) (by decide) rfl ?_
    refine v_aload_n (pc := 22) X dJ5_inflate_22 rfl 1 rfl ?_
    refine v_iload_n (pc := 23) X dJ5_inflate_23 rfl 2 rfl ?_
    refine v_iinc (pc := 24) (v := (nI (k + 1))) (loc' := [(1, .int (nI (k + 1))), (3, .int (nI (k + 1))), (0, .ref va), (2, .ref vb), (4, .int (nI t.length)), (5, .int (nI k))]) X dJ5_inflate_24 2 rfl (nI_add _ 1) (by decide) rfl ?_
    refine v_bald (pc := 27) X (List.mem_of_getElem? (i := 0) rfl) rfl (by omega) (by omega) dJ5_inflate_27 ?_
    refine v_top (y := (bt ch)) hf1 ?_
    refine v_sipush (pc := 28) (v := nI 255) X dJ5_inflate_28 rfl ?_
    refine v_iand (pc := 31) X dJ5_inflate_31 ?_
    refine v_top (y := (nI ch)) (and_bt _ (by omega)) ?_
    refine v_frame (pc := 32) X (wr := [(va, .inl (dd 2, n, .inl f))]) (mv_perm 1 _) (r_S X (c_J5_putChar (i := k) (c := ch) (by omega) (by omega) (by omega)) (lw_S q590 q591 q100 q592) hdJ5_putChar ⟨Nat.le_of_ble_eq_true rfl, Nat.le_of_ble_eq_true rfl⟩ rfl rfl (Nat.le_of_ble_eq_true rfl) dJ5_inflate_32 ⟨Nat.le_of_ble_eq_true rfl, Nat.le_of_ble_eq_true rfl⟩) (fun v32 w32 h32 => ?_)
    obtain ⟨rfl, rfl⟩ := h32
    refine v_eq (ws' := [(vb, .inl (dd 2, m, .inl (upd (upd u (2 * k) (bt (ch % 256))) (2 * k + 1) (bt (ch / 256))))), (va, .inl (dd 2, n, .inl f))]) rfl rfl rfl ?_
    refine v_iinc (pc := 35) (v := (nI (k + 1))) (loc' := [(5, .int (nI (k + 1))), (1, .int (nI (k + 1))), (3, .int (nI (k + 1))), (0, .ref va), (2, .ref vb), (4, .int (nI t.length))]) X dJ5_inflate_35 5 rfl (nI_add _ 1) (by decide) rfl ?_
    refine v_goto (pc := 38) X 10 dJ5_inflate_38 (by decide) ?_
    refine v_sub [3, 1, 4, 2, 5, 0] rfl ?_
    refine v_perm (ws' := [(va, .inl (dd 2, n, .inl f)), (vb, .inl (dd 2, m, .inl (upd (upd u (2 * k) (bt (ch % 256))) (2 * k + 1) (bt (ch / 256)))))]) ((mv_perm 0 _).trans (mv_perm 1 _)) ?_
    exact ih10 (k + 1) _ ⟨by omega, by rw [htk]; exact hU2, (hBu.up _ _).up _ _⟩ (by omega)
theorem hdJ20_inflate : yJ20_inflate.cls ≠ "java/lang/invoke/MethodHandle" ∧ yJ20_inflate.cls ≠ "java/lang/invoke/VarHandle" ∧ (parseMethodDescriptor yJ20_inflate.desc).map (fun d => d.parameters.length) = some 5 := by decide +kernel
set_option maxHeartbeats 4000000 in
theorem c_J20_inflate {l_ : Launch} {D : va_G} {dd : Nat → ClassId} {va vb n m : Nat} {f g : Nat → Int32} {t : List Nat} (hL : L1Is f t) (hl : t.length ≤ n) (hm : 2 * t.length ≤ m) (hn : n < 2 ^ 20) (hm2 : m < 2 ^ 20) (hG : BF g m) : MW l_ D dd yJ20_inflate cJ20_inflate 5 none 4 0 0 140 [.ref va, .int (nI 0), .ref vb, .int (nI 0), .int (nI t.length)] ([(va, .inl (dd 2, n, .inl f)), (vb, .inl (dd 2, m, .inl g))]) (fun r w => r = none ∧ ∃ g2, w = [(va, .inl (dd 2, n, .inl f)), (vb, .inl (dd 2, m, .inl g2))] ∧ U16Is g2 t ∧ BF g2 m) := by
  refine MW.intro (by decide) (Nat.le_of_ble_eq_true rfl) (fun p_ e_ s_ m_ as_ bl_ me_ c_ A_ X hr hnm => ?_)
  have X : VX p_ s_ m_ as_ me_ c_ cJ20_inflate 5 RJ20 D dd A_ := X
  refine v_eq (loc' := [(0, .ref va), (1, .int (nI 0)), (2, .ref vb), (3, .int (nI 0)), (4, .int (nI t.length))]) rfl rfl rfl ?_
  refine v_aload_n (pc := 0) X dJ20_inflate_0 rfl 0 rfl ?_
  refine v_iload_n (pc := 1) X dJ20_inflate_1 rfl 1 rfl ?_
  refine v_aload_n (pc := 2) X dJ20_inflate_2 rfl 2 rfl ?_
  refine v_iload_n (pc := 3) X dJ20_inflate_3 rfl 3 rfl ?_
  refine v_iload (pc := 4) X dJ20_inflate_4 4 rfl ?_
  refine v_frame (pc := 6) X (wr := []) (perm_nil _) (r_S X (c_J5_inflate hL hl hm hn hm2 hG) (lw_S q624 q625 q100 q626) hdJ5_inflate ⟨Nat.le_of_ble_eq_true rfl, Nat.le_of_ble_eq_true rfl⟩ rfl rfl (Nat.le_of_ble_eq_true rfl) dJ20_inflate_6 ⟨Nat.le_of_ble_eq_true rfl, Nat.le_of_ble_eq_true rfl⟩) (fun v6 w6 h6 => ?_)
  obtain ⟨rfl, g2, rfl, hU, hB2⟩ := h6
  refine v_eq (ws' := [(va, .inl (dd 2, n, .inl f)), (vb, .inl (dd 2, m, .inl g2))]) rfl rfl rfl ?_
  exact v_vret (pc := 9) X hr dJ20_inflate_9 ⟨rfl, _, rfl, hU, hB2⟩
theorem hdJ20_canEncode : yJ20_canEncode.cls ≠ "java/lang/invoke/MethodHandle" ∧ yJ20_canEncode.cls ≠ "java/lang/invoke/VarHandle" ∧ (parseMethodDescriptor yJ20_canEncode.desc).map (fun d => d.parameters.length) = some 1 := by decide +kernel
set_option maxHeartbeats 4000000 in
theorem c_J20_canEncode {l_ : Launch} {D : va_G} {dd : Nat → ClassId} {c : Nat} (hc : c < 65536) : MW l_ D dd yJ20_canEncode cJ20_canEncode 1 (some .boolean) 0 0 0 0 [.int (nI c)] ([]) (RI (fun r => (bI (c < 256)) = r) []) := by
  refine MW.intro (by decide) (Nat.le_of_ble_eq_true rfl) (fun p_ e_ s_ m_ as_ bl_ me_ c_ A_ X hr hnm => ?_)
  have X : VX p_ s_ m_ as_ me_ c_ cJ20_canEncode 1 RJ20 D dd A_ := X
  refine v_eq (loc' := [(0, .int (nI c))]) rfl rfl rfl ?_
  refine v_iload_n (pc := 0) X dJ20_canEncode_0 rfl 0 rfl ?_
  refine v_sipush (pc := 1) (v := nI 255) X dJ20_canEncode_1 rfl ?_
  refine v_ic_gtN (pc := 4) X (by omega) (by omega) 11 dJ20_canEncode_4 (by decide) (fun h4 => ?_) (fun h4 => ?_)
  · refine v_iconst (pc := 11) (v := nI 0) X dJ20_canEncode_11 rfl ?_
    exact v_zret (pc := 12) X hr rfl dJ20_canEncode_12 ⟨⟨_, rfl, bI_f (by omega)⟩, rfl⟩
  · refine v_iconst (pc := 7) (v := nI 1) X dJ20_canEncode_7 rfl ?_
    refine v_goto (pc := 8) X 12 dJ20_canEncode_8 (by decide) ?_
    exact v_zret (pc := 12) X hr rfl dJ20_canEncode_12 ⟨⟨_, rfl, bI_t (by omega)⟩, rfl⟩
theorem hdJ5_newBytesLength : yJ5_newBytesLength.cls ≠ "java/lang/invoke/MethodHandle" ∧ yJ5_newBytesLength.cls ≠ "java/lang/invoke/VarHandle" ∧ (parseMethodDescriptor yJ5_newBytesLength.desc).map (fun d => d.parameters.length) = some 1 := by decide +kernel
set_option maxHeartbeats 4000000 in
theorem c_J5_newBytesLength {l_ : Launch} {D : va_G} {dd : Nat → ClassId} {n : Nat} (h : n < 2 ^ 20) : MW l_ D dd yJ5_newBytesLength cJ5_newBytesLength 1 (some .int) 0 0 0 0 [.int (nI n)] ([]) (RI (fun r => (nI (2 * n)) = r) []) := by
  refine MW.intro (by decide) (Nat.le_of_ble_eq_true rfl) (fun p_ e_ s_ m_ as_ bl_ me_ c_ A_ X hr hnm => ?_)
  have X : VX p_ s_ m_ as_ me_ c_ cJ5_newBytesLength 1 RJ5 D dd A_ := X
  refine v_eq (loc' := [(0, .int (nI n))]) rfl rfl rfl ?_
  refine v_iload_n (pc := 0) X dJ5_newBytesLength_0 rfl 0 rfl ?_
  refine v_if_ge (pc := 1) X 12 dJ5_newBytesLength_1 (by decide) (fun h1 => ?_) (fun h1 => absurd (nI_ge0 (by omega)) h1)
  refine v_iload_n (pc := 12) X dJ5_newBytesLength_12 rfl 0 rfl ?_
  refine v_ldc (pc := 13) X q277 dJ5_newBytesLength_13 ?_
  refine v_top (y := nI 1073741823) rfl ?_
  refine v_ic_ltN (pc := 15) X (by omega) (by omega) 55 dJ5_newBytesLength_15 (by decide) (fun h15 => ?_) (fun h15 => absurd h15 (by omega))
  refine v_iload_n (pc := 55) X dJ5_newBytesLength_55 rfl 0 rfl ?_
  refine v_iconst (pc := 56) (v := nI 1) X dJ5_newBytesLength_56 rfl ?_
  refine v_ishl (pc := 57) X dJ5_newBytesLength_57 ?_
  refine v_top (y := (nI (2 * n))) sl_1 ?_
  exact v_iret (pc := 58) X hr dJ5_newBytesLength_58 ⟨⟨_, rfl, rfl⟩, rfl⟩
theorem hdJ5_newBytesFor : yJ5_newBytesFor.cls ≠ "java/lang/invoke/MethodHandle" ∧ yJ5_newBytesFor.cls ≠ "java/lang/invoke/VarHandle" ∧ (parseMethodDescriptor yJ5_newBytesFor.desc).map (fun d => d.parameters.length) = some 1 := by decide +kernel
set_option maxHeartbeats 4000000 in
theorem c_J5_newBytesFor {l_ : Launch} {D : va_G} {dd : Nat → ClassId} {n : Nat} (h : n < 2 ^ 20) : MW l_ D dd yJ5_newBytesFor cJ5_newBytesFor 1 (some (.array .byte)) 1 1 (2 * n) 30 [.int (nI n)] ([]) (fun r w => ∃ q, r = some (.ref q) ∧ w = [(q, .inl (dd 2, 2 * n, .inl (fun _ => 0)))]) := by
  refine MW.intro (by decide) (Nat.le_of_ble_eq_true rfl) (fun p_ e_ s_ m_ as_ bl_ me_ c_ A_ X hr hnm => ?_)
  have X : VX p_ s_ m_ as_ me_ c_ cJ5_newBytesFor 1 RJ5 D dd A_ := X
  refine v_eq (loc' := [(0, .int (nI n))]) rfl rfl rfl ?_
  refine v_iload_n (pc := 0) X dJ5_newBytesFor_0 rfl 0 rfl ?_
  refine v_read (pc := 1) X ⟨_, List.Perm.refl ([] ++ _)⟩ (r_S X (c_J5_newBytesLength (n := n) (by omega)) (lw_S q274 q275 q100 q276) hdJ5_newBytesLength ⟨Nat.le_of_ble_eq_true rfl, Nat.le_of_ble_eq_true rfl⟩ rfl rfl (Nat.le_of_ble_eq_true rfl) dJ5_newBytesFor_1 ⟨Nat.le_of_ble_eq_true rfl, Nat.le_of_ble_eq_true rfl⟩) (fun r1 h1 => ?_)
  subst h1
  refine v_newa (pc := 4) (atype := .byte) (ty := .byte) (N := 2 * n) X 2 rfl (fun _ _ h => h) q292 rfl (2 * n, .inl (fun _ => 0)) (fun _ => rfl) rfl (by omega) (by show _ * 1 ≤ _; omega) ⟨by dsimp only; omega, by dsimp only; omega⟩ dJ5_newBytesFor_4 (fun q1 => ?_)
  refine v_perm (ws' := [(q1, .inl (dd 2, 2 * n, .inl (fun _ => 0)))] ++ []) List.perm_append_comm ?_
  refine v_eq (ws' := [(q1, .inl (dd 2, 2 * n, .inl (fun _ => 0)))]) rfl rfl rfl ?_
  refine v_widen (k := 1) (n := (2 * n)) (by omega) (by omega) ?_
  exact v_aret (pc := 6) X hr (Or.inr ⟨_, rfl⟩) dJ5_newBytesFor_6 ⟨_, rfl, rfl⟩

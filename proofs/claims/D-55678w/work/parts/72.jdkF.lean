theorem hdJ4_equals : yJ4_equals.cls = RJ4 ∧ yJ4_equals.cls ≠ "java/lang/invoke/MethodHandle" ∧ yJ4_equals.cls ≠ "java/lang/invoke/VarHandle" ∧ (parseMethodDescriptor yJ4_equals.desc).map (fun d => d.parameters.length) = some 1 := by decide +kernel
set_option maxHeartbeats 4000000 in
theorem c_J4_equals {l_ : Launch} {D : va_G} {dd : Nat → ClassId} {q va p vb : Nat} {hs hz hs2 hz2 : Int32} {f g : Nat → Int32} {t u : List Nat} {ws : va_W} (hq : (q, .inr (13, [.ref va, .int (nI 0), .int hs, .int hz])) ∈ ws) (hva : (va, .inl (dd 2, t.length, .inl f)) ∈ ws) (hT : L1Is f t) (hl : t.length < 100) (hp : (p, .inr (13, [.ref vb, .int (nI 0), .int hs2, .int hz2])) ∈ ws) (hvb : (vb, .inl (dd 2, u.length, .inl g)) ∈ ws) (hU : L1Is g u) (hl2 : u.length < 100) : MW l_ D dd yJ4_equals cJ4_equals 3 (some .boolean) 2 0 0 60 [.ref q, .ref p] (ws) (RI (fun r => bI (t = u) = r) ws) := by
  refine MW.intro (by decide) (Nat.le_of_ble_eq_true rfl) (fun p_ e_ s_ m_ as_ bl_ me_ c_ A_ X hr hnm => ?_)
  have X : VX p_ s_ m_ as_ me_ c_ cJ4_equals 3 RJ4 D dd A_ := X
  refine v_eq (loc' := [(0, .ref q), (1, .ref p)]) rfl rfl rfl ?_
  refine v_aload_n (pc := 0) X dJ4_equals_0 rfl 0 rfl ?_
  refine v_aload_n (pc := 1) X dJ4_equals_1 rfl 1 rfl ?_
  refine v_acmp_ne (pc := 2) (rx := some q) (ry := some p) X 7 dJ4_equals_2 (by decide) (fun h2 => ?_) (fun h2 => ?_)
  · refine v_aload_n (pc := 7) X dJ4_equals_7 rfl 1 rfl ?_
    refine v_instS (pc := 8) X hp rfl q1833 dJ4_equals_8 ?_
    refine v_top (y := nI 1) rfl ?_
    refine v_if_eqN (pc := 11) X (by omega) 54 dJ4_equals_11 (by decide) (fun h11 => absurd h11 (by decide)) (fun h11 => ?_)
    refine v_aload_n (pc := 14) X dJ4_equals_14 rfl 1 rfl ?_
    refine v_castS (pc := 15) X hp rfl q1833 dJ4_equals_15 ?_
    refine v_astore_n (pc := 18) (loc' := [(2, .ref p), (0, .ref q), (1, .ref p)]) X dJ4_equals_18 rfl (by decide) rfl ?_
    refine v_gets (pc := 19) X (List.mem_of_getElem? (l := zS) (i := 0) rfl) q607 (fun y h => h) dJ4_equals_19 ?_
    refine v_top (y := nI 1) rfl ?_
    refine v_if_eqN (pc := 22) X (by omega) 36 dJ4_equals_22 (by decide) (fun h22 => absurd h22 (by decide)) (fun h22 => ?_)
    refine v_aload_n (pc := 25) X dJ4_equals_25 rfl 1 rfl ?_
    refine v_getM (pc := 26) X in_J4 hq rfl 1 (by decide) q738 (fun y h => h) rfl dJ4_equals_26 ?_
    refine v_aload_n (pc := 29) X dJ4_equals_29 rfl 0 rfl ?_
    refine v_getM (pc := 30) X in_J4 hp rfl 1 (by decide) q738 (fun y h => h) rfl dJ4_equals_30 ?_
    refine v_ic_neN (pc := 33) X (by omega) (by omega) 54 dJ4_equals_33 (by decide) (fun h33 => absurd rfl h33) (fun h33 => ?_)
    refine v_aload_n (pc := 36) X dJ4_equals_36 rfl 1 rfl ?_
    refine v_getM (pc := 37) X in_J4 hq rfl 0 (by decide) q737 (fun y h => h) rfl dJ4_equals_37 ?_
    refine v_aload_n (pc := 40) X dJ4_equals_40 rfl 0 rfl ?_
    refine v_getM (pc := 41) X in_J4 hp rfl 0 (by decide) q737 (fun y h => h) rfl dJ4_equals_41 ?_
    refine v_read (pc := 44) X ⟨[], perm_nil _⟩ (r_S X (c_J20_equals hva hvb hT hU rfl rfl (by omega) (by omega)) (lw_S q1834 q1835 q123 q1836) hdJ20_equals ⟨Nat.le_of_ble_eq_true rfl, Nat.le_of_ble_eq_true rfl⟩ rfl rfl (Nat.le_of_ble_eq_true rfl) dJ4_equals_44 ⟨Nat.le_of_ble_eq_true rfl, Nat.le_of_ble_eq_true rfl⟩) (fun r44 h44 => ?_)
    subst h44
    refine v_if_eqB (pc := 47) X 54 dJ4_equals_47 (by decide) (fun h47 => ?_) (fun h47 => ?_)
    · refine v_iconst (pc := 54) (v := nI 0) X dJ4_equals_54 rfl ?_
      exact v_zret (pc := 55) X hr rfl dJ4_equals_55 ⟨⟨_, rfl, bI_f h47⟩, rfl⟩
    · refine v_iconst (pc := 50) (v := nI 1) X dJ4_equals_50 rfl ?_
      refine v_goto (pc := 51) X 55 dJ4_equals_51 (by decide) ?_
      exact v_zret (pc := 55) X hr rfl dJ4_equals_55 ⟨⟨_, rfl, bI_t h47⟩, rfl⟩
  · obtain rfl : q = p := Option.some.inj h2
    refine v_same hq hp (fun eS => ?_)
    obtain ⟨rfl, -⟩ : va = vb ∧ hs = hs2 := by cases eS; exact ⟨rfl, rfl⟩
    refine v_same hva hvb (fun eA => ?_)
    have e1 : t.length = u.length ∧ f = g := by injection eA with e2; injection e2 with _ e3; injection e3 with e4 e5; injection e5 with e6; exact ⟨e4, e6⟩
    refine v_iconst (pc := 5) (v := nI 1) X dJ4_equals_5 rfl ?_
    exact v_zret (pc := 6) X hr rfl dJ4_equals_6 ⟨⟨_, rfl, bI_t (L1Is.eq hT hU e1.1 (fun i _ => by rw [e1.2]))⟩, rfl⟩
theorem hdJ19_signedHashCode : yJ19_signedHashCode.cls ≠ "java/lang/invoke/MethodHandle" ∧ yJ19_signedHashCode.cls ≠ "java/lang/invoke/VarHandle" ∧ (parseMethodDescriptor yJ19_signedHashCode.desc).map (fun d => d.parameters.length) = some 4 := by decide +kernel
set_option maxHeartbeats 4000000 in
theorem c_J19_signedHashCode {l_ : Launch} {D : va_G} {dd : Nat → ClassId} {va : Nat} {f : Nat → Int32} {t : List Nat} {ws : va_W} (hva : (va, .inl (dd 2, t.length, .inl f)) ∈ ws) (hT : L1Is f t) (hl : t.length < 100) : MW l_ D dd yJ19_signedHashCode cJ19_signedHashCode 6 (some .int) 0 0 0 0 [.int (nI 0), .ref va, .int (nI 0), .int (nI t.length)] (ws) (RI (fun r => hsh t = r) ws) := by
  refine MW.intro (by decide) (Nat.le_of_ble_eq_true rfl) (fun p_ e_ s_ m_ as_ bl_ me_ c_ A_ X hr hnm => ?_)
  have X : VX p_ s_ m_ as_ me_ c_ cJ19_signedHashCode 6 RJ19 D dd A_ := X
  refine v_eq (loc' := [(0, .int (nI 0)), (1, .ref va), (2, .int (nI 0)), (3, .int (nI t.length))]) rfl rfl rfl ?_
  refine v_iload_n (pc := 0) X dJ19_signedHashCode_0 rfl 2 rfl ?_
  refine v_iload_n (pc := 1) X dJ19_signedHashCode_1 rfl 3 rfl ?_
  refine v_iaddN (pc := 2) X dJ19_signedHashCode_2 ?_
  refine v_istore (pc := 3) (loc' := [(4, .int (nI (0 + t.length))), (0, .int (nI 0)), (1, .ref va), (2, .int (nI 0)), (3, .int (nI t.length))]) X dJ19_signedHashCode_3 (by decide) rfl ?_
  refine v_iload_n (pc := 5) X dJ19_signedHashCode_5 rfl 3 rfl ?_
  refine v_istore (pc := 6) (loc' := [(5, .int (nI 0)), (4, .int (nI (0 + t.length))), (0, .int (nI 0)), (1, .ref va), (2, .int (nI 0)), (3, .int (nI t.length))]) X dJ19_signedHashCode_6 (by decide) rfl ?_
  refine v_sub [2, 3, 4, 5, 1, 0] rfl ?_
  refine v_loop1 (S := Nat) (fun k => fl [ws]) (fun k => [(0, .int (hsh (t.take k))), (1, .ref va), (2, .int (nI 0)), (3, .int (nI t.length)), (4, .int (nI (0 + t.length))), (5, .int (nI k))]) (fun k => k ≤ t.length) (fun k => t.length - k) (fun k hI8 ih8 => ?_) 0 (Nat.zero_le _)
  refine v_iload (pc := 8) X dJ19_signedHashCode_8 5 rfl ?_
  refine v_iload (pc := 10) X dJ19_signedHashCode_10 4 rfl ?_
  refine v_ic_geN (pc := 12) X (by omega) (by omega) 35 dJ19_signedHashCode_12 (by decide) (fun h12 => ?_) (fun h12 => ?_)
  · refine v_iload_n (pc := 35) X dJ19_signedHashCode_35 rfl 0 rfl ?_
    exact v_iret (pc := 36) X hr dJ19_signedHashCode_36 ⟨⟨_, rfl, by rw [List.take_of_length_le (by omega)]⟩, rfl⟩
  · obtain ⟨ch, hch⟩ : ∃ ch, t[k]? = some ch := ⟨_, List.getElem?_eq_getElem (show k < t.length by omega)⟩
    obtain ⟨hf1, hf2⟩ := hT k ch hch
    refine v_bipush (pc := 15) (v := nI 31) X dJ19_signedHashCode_15 rfl ?_
    refine v_iload_n (pc := 17) X dJ19_signedHashCode_17 rfl 0 rfl ?_
    refine v_imul (pc := 18) X dJ19_signedHashCode_18 ?_
    refine v_aload_n (pc := 19) X dJ19_signedHashCode_19 rfl 1 rfl ?_
    refine v_iload (pc := 20) X dJ19_signedHashCode_20 5 rfl ?_
    refine v_bald (pc := 22) X hva rfl (by omega) (by omega) dJ19_signedHashCode_22 ?_
    refine v_top (y := (bt ch)) hf1 ?_
    refine v_sipush (pc := 23) (v := nI 255) X dJ19_signedHashCode_23 rfl ?_
    refine v_iand (pc := 26) X dJ19_signedHashCode_26 ?_
    refine v_top (y := (nI ch)) (and_bt _ hf2) ?_
    refine v_iadd (pc := 27) X dJ19_signedHashCode_27 ?_
    refine v_top (y := (hsh (t.take (k + 1)))) (hsh_s hch).symm ?_
    refine v_istore_n (pc := 28) (loc' := [(0, .int (hsh (t.take (k + 1)))), (1, .ref va), (2, .int (nI 0)), (3, .int (nI t.length)), (4, .int (nI (0 + t.length))), (5, .int (nI k))]) X dJ19_signedHashCode_28 rfl (by decide) rfl ?_
    refine v_iinc (pc := 29) (v := (nI (k + 1))) (loc' := [(5, .int (nI (k + 1))), (0, .int (hsh (t.take (k + 1)))), (1, .ref va), (2, .int (nI 0)), (3, .int (nI t.length)), (4, .int (nI (0 + t.length)))]) X dJ19_signedHashCode_29 5 rfl (nI_add _ 1) (by decide) rfl ?_
    refine v_goto (pc := 32) X 8 dJ19_signedHashCode_32 (by decide) ?_
    refine v_sub [1, 2, 3, 4, 5, 0] rfl ?_
    exact ih8 (k + 1) (by omega) (by omega)
theorem hdJ19_vectorizedHashCode : yJ19_vectorizedHashCode.cls ≠ "java/lang/invoke/MethodHandle" ∧ yJ19_vectorizedHashCode.cls ≠ "java/lang/invoke/VarHandle" ∧ (parseMethodDescriptor yJ19_vectorizedHashCode.desc).map (fun d => d.parameters.length) = some 5 := by decide +kernel
set_option maxHeartbeats 4000000 in
theorem c_J19_vectorizedHashCode {l_ : Launch} {D : va_G} {dd : Nat → ClassId} {va : Nat} {f : Nat → Int32} {t : List Nat} {ws : va_W} (hva : (va, .inl (dd 2, t.length, .inl f)) ∈ ws) (hT : L1Is f t) (hl : t.length < 100) : MW l_ D dd yJ19_vectorizedHashCode cJ19_vectorizedHashCode 5 (some .int) 1 0 0 40 [.ref va, .int (nI 0), .int (nI t.length), .int (nI 0), .int (nI 4)] (ws) (RI (fun r => hsh t = r) ws) := by
  refine MW.intro (by decide) (Nat.le_of_ble_eq_true rfl) (fun p_ e_ s_ m_ as_ bl_ me_ c_ A_ X hr hnm => ?_)
  have X : VX p_ s_ m_ as_ me_ c_ cJ19_vectorizedHashCode 5 RJ19 D dd A_ := X
  refine v_eq (loc' := [(0, .ref va), (1, .int (nI 0)), (2, .int (nI t.length)), (3, .int (nI 0)), (4, .int (nI 4))]) rfl rfl rfl ?_
  refine v_iload (pc := 0) X dJ19_vectorizedHashCode_0 4 rfl ?_
  refine v_tabIn (pc := 2) X 44 dJ19_vectorizedHashCode_2 (by decide) (by decide) rfl (by decide) ?_
  refine v_iload_n (pc := 44) X dJ19_vectorizedHashCode_44 rfl 3 rfl ?_
  refine v_aload_n (pc := 45) X dJ19_vectorizedHashCode_45 rfl 0 rfl ?_
  refine v_castB (pc := 46) X hva q1782 dJ19_vectorizedHashCode_46 ?_
  refine v_iload_n (pc := 49) X dJ19_vectorizedHashCode_49 rfl 1 rfl ?_
  refine v_iload_n (pc := 50) X dJ19_vectorizedHashCode_50 rfl 2 rfl ?_
  refine v_read (pc := 51) X ⟨[], perm_nil _⟩ (r_S X (c_J19_signedHashCode hva hT hl) (lw_S q1783 q1784 q122 q1785) hdJ19_signedHashCode ⟨Nat.le_of_ble_eq_true rfl, Nat.le_of_ble_eq_true rfl⟩ rfl rfl (Nat.le_of_ble_eq_true rfl) dJ19_vectorizedHashCode_51 ⟨Nat.le_of_ble_eq_true rfl, Nat.le_of_ble_eq_true rfl⟩) (fun r51 h51 => ?_)
  subst h51
  refine v_goto (pc := 54) X 157 dJ19_vectorizedHashCode_54 (by decide) ?_
  exact v_iret (pc := 157) X hr dJ19_vectorizedHashCode_157 ⟨⟨_, rfl, rfl⟩, rfl⟩
theorem hdJ20_hashCode : yJ20_hashCode.cls ≠ "java/lang/invoke/MethodHandle" ∧ yJ20_hashCode.cls ≠ "java/lang/invoke/VarHandle" ∧ (parseMethodDescriptor yJ20_hashCode.desc).map (fun d => d.parameters.length) = some 1 := by decide +kernel
set_option maxHeartbeats 4000000 in
theorem c_J20_hashCode {l_ : Launch} {D : va_G} {dd : Nat → ClassId} {va : Nat} {f : Nat → Int32} {t : List Nat} {ws : va_W} (hva : (va, .inl (dd 2, t.length, .inl f)) ∈ ws) (hT : L1Is f t) (hl : t.length < 100) : MW l_ D dd yJ20_hashCode cJ20_hashCode 1 (some .int) 2 0 0 80 [.ref va] (ws) (RI (fun r => hsh t = r) ws) := by
  refine MW.intro (by decide) (Nat.le_of_ble_eq_true rfl) (fun p_ e_ s_ m_ as_ bl_ me_ c_ A_ X hr hnm => ?_)
  have X : VX p_ s_ m_ as_ me_ c_ cJ20_hashCode 1 RJ20 D dd A_ := X
  refine v_eq (loc' := [(0, .ref va)]) rfl rfl rfl ?_
  refine v_aload_n (pc := 0) X dJ20_hashCode_0 rfl 0 rfl ?_
  refine v_alenM (pc := 1) X 2 hva rfl dJ20_hashCode_1 ?_
  refine v_top (y := nI t.length) rfl ?_
  rcases (show t.length = 0 ∨ t.length = 1 ∨ 2 ≤ t.length by omega) with hz | hz | hz
  · refine v_top (y := nI 0) (by rw [hz]) ?_
    refine v_look (pc := 2) (off := 26) X 28 dJ20_hashCode_2 (by decide) (by decide) (by decide) ?_
    refine v_iconst (pc := 28) (v := nI 0) X dJ20_hashCode_28 rfl ?_
    refine v_goto (pc := 29) X 51 dJ20_hashCode_29 (by decide) ?_
    exact v_iret (pc := 51) X hr dJ20_hashCode_51 ⟨⟨_, rfl, by rw [List.eq_nil_of_length_eq_zero hz]; rfl⟩, rfl⟩
  · obtain ⟨c1, rfl⟩ := List.length_eq_one_iff.mp hz
    obtain ⟨hf1, hf2⟩ := hT 0 c1 rfl
    refine v_top (y := nI 1) (by rw [hz]) ?_
    refine v_look (pc := 2) (off := 30) X 32 dJ20_hashCode_2 (by decide) (by decide) (by decide) ?_
    refine v_aload_n (pc := 32) X dJ20_hashCode_32 rfl 0 rfl ?_
    refine v_iconst (pc := 33) (v := nI 0) X dJ20_hashCode_33 rfl ?_
    refine v_bald (pc := 34) X hva rfl (by omega) (by omega) dJ20_hashCode_34 ?_
    refine v_top (y := (bt c1)) hf1 ?_
    refine v_sipush (pc := 35) (v := nI 255) X dJ20_hashCode_35 rfl ?_
    refine v_iand (pc := 38) X dJ20_hashCode_38 ?_
    refine v_top (y := (nI c1)) (and_bt _ hf2) ?_
    refine v_goto (pc := 39) X 51 dJ20_hashCode_39 (by decide) ?_
    exact v_iret (pc := 51) X hr dJ20_hashCode_51 ⟨⟨_, rfl, hsh_1 _ hf2⟩, rfl⟩
  · refine v_look (pc := 2) (off := 40) X 42 dJ20_hashCode_2 (by decide) (look_d (x := nI t.length) (by intro q hq; simp at hq; rcases hq with rfl | rfl; exact ⟨0, by decide, rfl, nI_dne (by omega) (by omega) (by omega)⟩; exact ⟨1, by decide, rfl, nI_dne (by omega) (by omega) (by omega)⟩)) (by decide) ?_
    refine v_aload_n (pc := 42) X dJ20_hashCode_42 rfl 0 rfl ?_
    refine v_iconst (pc := 43) (v := nI 0) X dJ20_hashCode_43 rfl ?_
    refine v_aload_n (pc := 44) X dJ20_hashCode_44 rfl 0 rfl ?_
    refine v_alenM (pc := 45) X 2 hva rfl dJ20_hashCode_45 ?_
    refine v_top (y := nI t.length) rfl ?_
    refine v_iconst (pc := 46) (v := nI 0) X dJ20_hashCode_46 rfl ?_
    refine v_iconst (pc := 47) (v := nI 4) X dJ20_hashCode_47 rfl ?_
    refine v_read (pc := 48) X ⟨[], perm_nil _⟩ (r_S X (c_J19_vectorizedHashCode hva hT hl) (lw_S q1779 q1780 q122 q1781) hdJ19_vectorizedHashCode ⟨Nat.le_of_ble_eq_true rfl, Nat.le_of_ble_eq_true rfl⟩ rfl rfl (Nat.le_of_ble_eq_true rfl) dJ20_hashCode_48 ⟨Nat.le_of_ble_eq_true rfl, Nat.le_of_ble_eq_true rfl⟩) (fun r48 h48 => ?_)
    subst h48
    exact v_iret (pc := 51) X hr dJ20_hashCode_51 ⟨⟨_, rfl, rfl⟩, rfl⟩
theorem hdJ4_hashCode : yJ4_hashCode.cls = RJ4 ∧ yJ4_hashCode.cls ≠ "java/lang/invoke/MethodHandle" ∧ yJ4_hashCode.cls ≠ "java/lang/invoke/VarHandle" ∧ (parseMethodDescriptor yJ4_hashCode.desc).map (fun d => d.parameters.length) = some 0 := by decide +kernel
set_option maxHeartbeats 4000000 in
theorem c_J4_hashCode_0 {l_ : Launch} {D : va_G} {dd : Nat → ClassId} {q va : Nat} {f : Nat → Int32} {t : List Nat} (hT : L1Is f t) (hl : t.length < 100) : MW l_ D dd yJ4_hashCode cJ4_hashCode 2 (some .int) 3 0 0 120 [.ref q] ([(q, .inr (13, [.ref va, .int (nI 0), .int (nI 0), .int (nI 0)])), (va, .inl (dd 2, t.length, .inl f))]) (fun r w => r = some (.int (hsh t)) ∧ ∃ hs hz, w = [(q, .inr (13, [.ref va, .int (nI 0), .int hs, .int hz])), (va, .inl (dd 2, t.length, .inl f))] ∧ (¬ hsh t = 0 → hs = hsh t)) := by
  refine MW.intro (by decide) (Nat.le_of_ble_eq_true rfl) (fun p_ e_ s_ m_ as_ bl_ me_ c_ A_ X hr hnm => ?_)
  have X : VX p_ s_ m_ as_ me_ c_ cJ4_hashCode 2 RJ4 D dd A_ := X
  refine v_eq (loc' := [(0, .ref q)]) rfl rfl rfl ?_
  refine v_aload_n (pc := 0) X dJ4_hashCode_0 rfl 0 rfl ?_
  refine v_getM (pc := 1) X in_J4 (List.mem_of_getElem? (i := 0) rfl) rfl 2 (by decide) q739 (fun y h => h) rfl dJ4_hashCode_1 ?_
  refine v_istore_n (pc := 4) (loc' := [(1, .int (nI 0)), (0, .ref q)]) X dJ4_hashCode_4 rfl (by decide) rfl ?_
  refine v_iload_n (pc := 5) X dJ4_hashCode_5 rfl 0 rfl ?_
  refine v_if_neN (pc := 6) X (by omega) 58 dJ4_hashCode_6 (by decide) (fun h6 => absurd rfl h6) (fun h6 => ?_)
  refine v_aload_n (pc := 9) X dJ4_hashCode_9 rfl 1 rfl ?_
  refine v_getM (pc := 10) X in_J4 (List.mem_of_getElem? (i := 0) rfl) rfl 3 (by decide) q740 (fun y h => h) rfl dJ4_hashCode_10 ?_
  refine v_if_neN (pc := 13) X (by omega) 58 dJ4_hashCode_13 (by decide) (fun h13 => absurd rfl h13) (fun h13 => ?_)
  refine v_aload_n (pc := 16) X dJ4_hashCode_16 rfl 1 rfl ?_
  refine v_read (pc := 17) X ⟨[], perm_nil _⟩ (r_V X (c_J4_isLatin1 (List.mem_of_getElem? (i := 0) rfl)) (List.mem_of_getElem? (i := 0) rfl) rfl rfl (lw_V q1772 q1773 q1774 q99 q1775) hdJ4_isLatin1 ⟨Nat.le_of_ble_eq_true rfl, Nat.le_of_ble_eq_true rfl⟩ rfl rfl (Nat.le_of_ble_eq_true rfl) dJ4_hashCode_17 ⟨Nat.le_of_ble_eq_true rfl, Nat.le_of_ble_eq_true rfl⟩) (fun r17 h17 => ?_)
  subst h17
  refine v_if_eqB (pc := 20) X 33 dJ4_hashCode_20 (by decide) (fun h20 => absurd trivial h20) (fun h20 => ?_)
  refine v_aload_n (pc := 23) X dJ4_hashCode_23 rfl 1 rfl ?_
  refine v_getM (pc := 24) X in_J4 (List.mem_of_getElem? (i := 0) rfl) rfl 0 (by decide) q737 (fun y h => h) rfl dJ4_hashCode_24 ?_
  refine v_read (pc := 27) X ⟨[], perm_nil _⟩ (r_S X (c_J20_hashCode (List.mem_of_getElem? (i := 1) rfl) hT hl) (lw_S q1776 q1777 q123 q1778) hdJ20_hashCode ⟨Nat.le_of_ble_eq_true rfl, Nat.le_of_ble_eq_true rfl⟩ rfl rfl (Nat.le_of_ble_eq_true rfl) dJ4_hashCode_27 ⟨Nat.le_of_ble_eq_true rfl, Nat.le_of_ble_eq_true rfl⟩) (fun r27 h27 => ?_)
  subst h27
  refine v_goto (pc := 30) X 40 dJ4_hashCode_30 (by decide) ?_
  refine v_istore_n (pc := 40) (loc' := [(1, .int (hsh t)), (0, .ref q)]) X dJ4_hashCode_40 rfl (by decide) rfl ?_
  refine v_iload_n (pc := 41) X dJ4_hashCode_41 rfl 0 rfl ?_
  refine v_if_ne (pc := 42) X 53 dJ4_hashCode_42 (by decide) (fun h42 => ?_) (fun h42 => ?_)
  · refine v_aload_n (pc := 53) X dJ4_hashCode_53 rfl 1 rfl ?_
    refine v_iload_n (pc := 54) X dJ4_hashCode_54 rfl 0 rfl ?_
    refine v_put (pc := 55) X in_J4 tyJ4 tyJ4_ok nmJ4 0 rfl rfl 2 (by decide) q739 (fun y h => h) rfl rfl rfl (Nat.le_of_ble_eq_true rfl) dJ4_hashCode_55 (ws' := [(q, .inr (13, [.ref va, .int (nI 0), .int (hsh t), .int (nI 0)])), (va, .inl (dd 2, t.length, .inl f))]) rfl ?_
    refine v_iload_n (pc := 58) X dJ4_hashCode_58 rfl 0 rfl ?_
    exact v_iret (pc := 59) X hr dJ4_hashCode_59 ⟨rfl, _, _, rfl, fun _ => rfl⟩
  · refine v_aload_n (pc := 45) X dJ4_hashCode_45 rfl 1 rfl ?_
    refine v_iconst (pc := 46) (v := nI 1) X dJ4_hashCode_46 rfl ?_
    refine v_put (pc := 47) X in_J4 tyJ4 tyJ4_ok nmJ4 0 rfl rfl 3 (by decide) q740 (fun y h => h) rfl rfl rfl (Nat.le_of_ble_eq_true rfl) dJ4_hashCode_47 (ws' := [(q, .inr (13, [.ref va, .int (nI 0), .int (nI 0), .int (nI 1)])), (va, .inl (dd 2, t.length, .inl f))]) rfl ?_
    refine v_goto (pc := 50) X 58 dJ4_hashCode_50 (by decide) ?_
    refine v_iload_n (pc := 58) X dJ4_hashCode_58 rfl 0 rfl ?_
    exact v_iret (pc := 59) X hr dJ4_hashCode_59 ⟨rfl, _, _, rfl, fun z => absurd h42 z⟩
set_option maxHeartbeats 4000000 in
theorem c_J4_hashCode_1 {l_ : Launch} {D : va_G} {dd : Nat → ClassId} {q va : Nat} {hs hz : Int32} {ws : va_W} (hq : (q, .inr (13, [.ref va, .int (nI 0), .int hs, .int hz])) ∈ ws) (hh : ¬ hs = 0) : MW l_ D dd yJ4_hashCode cJ4_hashCode 2 (some .int) 0 0 0 0 [.ref q] (ws) (RI (fun r => hs = r) ws) := by
  refine MW.intro (by decide) (Nat.le_of_ble_eq_true rfl) (fun p_ e_ s_ m_ as_ bl_ me_ c_ A_ X hr hnm => ?_)
  have X : VX p_ s_ m_ as_ me_ c_ cJ4_hashCode 2 RJ4 D dd A_ := X
  refine v_eq (loc' := [(0, .ref q)]) rfl rfl rfl ?_
  refine v_aload_n (pc := 0) X dJ4_hashCode_0 rfl 0 rfl ?_
  refine v_getM (pc := 1) X in_J4 hq rfl 2 (by decide) q739 (fun y h => h) rfl dJ4_hashCode_1 ?_
  refine v_istore_n (pc := 4) (loc' := [(1, .int hs), (0, .ref q)]) X dJ4_hashCode_4 rfl (by decide) rfl ?_
  refine v_iload_n (pc := 5) X dJ4_hashCode_5 rfl 0 rfl ?_
  refine v_if_ne (pc := 6) X 58 dJ4_hashCode_6 (by decide) (fun h6 => ?_) (fun h6 => absurd h6 hh)
  refine v_iload_n (pc := 58) X dJ4_hashCode_58 rfl 0 rfl ?_
  exact v_iret (pc := 59) X hr dJ4_hashCode_59 ⟨⟨_, rfl, rfl⟩, rfl⟩
theorem hdJ10_checkLength : yJ10_checkLength.cls ≠ "java/lang/invoke/MethodHandle" ∧ yJ10_checkLength.cls ≠ "java/lang/invoke/VarHandle" ∧ (parseMethodDescriptor yJ10_checkLength.desc).map (fun d => d.parameters.length) = some 2 := by decide +kernel
set_option maxHeartbeats 4000000 in
theorem c_J10_checkLength {l_ : Launch} {D : va_G} {dd : Nat → ClassId} {a b : Nat} (h : a ≤ b) (hb : b < 2 ^ 30) : MW l_ D dd yJ10_checkLength cJ10_checkLength 2 none 0 0 0 0 [.int (nI a), .int (nI b)] ([]) (RV []) := by
  refine MW.intro (by decide) (Nat.le_of_ble_eq_true rfl) (fun p_ e_ s_ m_ as_ bl_ me_ c_ A_ X hr hnm => ?_)
  have X : VX p_ s_ m_ as_ me_ c_ cJ10_checkLength 2 RJ10 D dd A_ := X
  refine v_eq (loc' := [(0, .int (nI a)), (1, .int (nI b))]) rfl rfl rfl ?_
  refine v_iload_n (pc := 0) X dJ10_checkLength_0 rfl 1 rfl ?_
  refine v_iload_n (pc := 1) X dJ10_checkLength_1 rfl 0 rfl ?_
  refine v_ic_geN (pc := 2) X (by omega) (by omega) 37 dJ10_checkLength_2 (by decide) (fun h2 => ?_) (fun h2 => absurd h (by omega))
  exact v_vret (pc := 37) X hr dJ10_checkLength_37 ⟨rfl, rfl⟩
theorem hdJ10_copyOfRangeByte : yJ10_copyOfRangeByte.cls ≠ "java/lang/invoke/MethodHandle" ∧ yJ10_copyOfRangeByte.cls ≠ "java/lang/invoke/VarHandle" ∧ (parseMethodDescriptor yJ10_copyOfRangeByte.desc).map (fun d => d.parameters.length) = some 3 := by decide +kernel
set_option maxHeartbeats 4000000 in
theorem c_J10_copyOfRangeByte {l_ : Launch} {D : va_G} {dd : Nat → ClassId} {va n m : Nat} {f : Nat → Int32} (hB : BF f n) (h : m < n) (hn : n ≤ 1000) : MW l_ D dd yJ10_copyOfRangeByte cJ10_copyOfRangeByte 5 (some (.array .byte)) 1 1 m 40 [.ref va, .int (nI 0), .int (nI m)] ([(va, .inl (dd 2, n, .inl f))]) (fun r w => ∃ q, r = some (.ref q) ∧ w = [(q, .inl (dd 2, m, .inl (va_cpy f (fun _ => 0) 0 0 m))), (va, .inl (dd 2, n, .inl f))]) := by
  refine MW.intro (by decide) (Nat.le_of_ble_eq_true rfl) (fun p_ e_ s_ m_ as_ bl_ me_ c_ A_ X hr hnm => ?_)
  have X : VX p_ s_ m_ as_ me_ c_ cJ10_copyOfRangeByte 5 RJ10 D dd A_ := X
  refine v_eq (loc' := [(0, .ref va), (1, .int (nI 0)), (2, .int (nI m))]) rfl rfl rfl ?_
  refine v_iload_n (pc := 0) X dJ10_copyOfRangeByte_0 rfl 1 rfl ?_
  refine v_iload_n (pc := 1) X dJ10_copyOfRangeByte_1 rfl 2 rfl ?_
  refine v_readV (pc := 2) X ⟨_, List.Perm.refl ([] ++ _)⟩ (r_S X (c_J10_checkLength (a := 0) (b := m) (by omega) (by omega)) (lw_S q700 q701 q106 q702) hdJ10_checkLength ⟨by dsimp only; omega, by dsimp only; omega⟩ rfl rfl (Nat.le_of_ble_eq_true rfl) dJ10_copyOfRangeByte_2 ⟨by dsimp only; omega, by dsimp only; omega⟩) ?_
  refine v_iload_n (pc := 5) X dJ10_copyOfRangeByte_5 rfl 2 rfl ?_
  refine v_iload_n (pc := 6) X dJ10_copyOfRangeByte_6 rfl 1 rfl ?_
  refine v_isubN (pc := 7) X (by omega) dJ10_copyOfRangeByte_7 ?_
  refine v_top (y := (nI m)) (by rw [Nat.sub_zero]) ?_
  refine v_istore_n (pc := 8) (loc' := [(3, .int (nI m)), (0, .ref va), (1, .int (nI 0)), (2, .int (nI m))]) X dJ10_copyOfRangeByte_8 rfl (by decide) rfl ?_
  refine v_iload_n (pc := 9) X dJ10_copyOfRangeByte_9 rfl 0 rfl ?_
  refine v_newa (pc := 10) (atype := .byte) (ty := .byte) (N := m) X 2 rfl (fun _ _ h => h) q292 rfl (m, .inl (fun _ => 0)) (fun _ => rfl) rfl (by omega) (by show _ * 1 ≤ _; omega) ⟨by dsimp only; omega, by dsimp only; omega⟩ dJ10_copyOfRangeByte_10 (fun q1 => ?_)
  refine v_perm (ws' := [(q1, .inl (dd 2, m, .inl (fun _ => 0)))] ++ [(va, .inl (dd 2, n, .inl f))]) List.perm_append_comm ?_
  refine v_eq (ws' := [(q1, .inl (dd 2, m, .inl (fun _ => 0))), (va, .inl (dd 2, n, .inl f))]) rfl rfl rfl ?_
  refine v_astore (pc := 12) (loc' := [(4, .ref q1), (3, .int (nI m)), (0, .ref va), (1, .int (nI 0)), (2, .int (nI m))]) X dJ10_copyOfRangeByte_12 (by decide) rfl ?_
  refine v_aload_n (pc := 14) X dJ10_copyOfRangeByte_14 rfl 2 rfl ?_
  refine v_iload_n (pc := 15) X dJ10_copyOfRangeByte_15 rfl 3 rfl ?_
  refine v_aload (pc := 16) X dJ10_copyOfRangeByte_16 0 rfl ?_
  refine v_iconst (pc := 18) (v := nI 0) X dJ10_copyOfRangeByte_18 rfl ?_
  refine v_aload_n (pc := 19) X dJ10_copyOfRangeByte_19 rfl 2 rfl ?_
  refine v_alenM (pc := 20) X 2 (List.mem_of_getElem? (i := 1) rfl) rfl dJ10_copyOfRangeByte_20 ?_
  refine v_top (y := nI n) rfl ?_
  refine v_iload_n (pc := 21) X dJ10_copyOfRangeByte_21 rfl 3 rfl ?_
  refine v_isubN (pc := 22) X (by omega) dJ10_copyOfRangeByte_22 ?_
  refine v_iload_n (pc := 23) X dJ10_copyOfRangeByte_23 rfl 1 rfl ?_
  refine v_minN (pc := 24) X q456 (by omega) (by omega) ⟨by dsimp only; omega, by dsimp only; omega⟩ (Nat.le_of_ble_eq_true rfl) ⟨by dsimp only; omega, by dsimp only; omega⟩ dJ10_copyOfRangeByte_24 ?_
  refine v_top (y := (nI m)) (by rw [Nat.sub_zero, Nat.min_eq_right (by omega)]) ?_
  refine v_copyi (pc := 27) X q459 q108 1 0 2 rfl rfl rfl rfl (by omega) (by omega) ⟨by omega, by omega, by omega⟩ (fun i hi => by rw [Nat.zero_add]; exact hB _ (by omega)) (Nat.le_of_ble_eq_true rfl) (Nat.le_of_ble_eq_true rfl) (Nat.le_of_ble_eq_true rfl) dJ10_copyOfRangeByte_27 (ws' := [(q1, .inl (dd 2, m, .inl (va_cpy f (fun _ => 0) 0 0 m))), (va, .inl (dd 2, n, .inl f))]) rfl ?_
  refine v_aload (pc := 30) X dJ10_copyOfRangeByte_30 0 rfl ?_
  refine v_widen (k := 1) (n := m) (by omega) (by omega) ?_
  exact v_aret (pc := 32) X hr (Or.inr ⟨_, rfl⟩) dJ10_copyOfRangeByte_32 ⟨_, rfl, rfl⟩
theorem hdJ10_copyOfRange : yJ10_copyOfRange.cls ≠ "java/lang/invoke/MethodHandle" ∧ yJ10_copyOfRange.cls ≠ "java/lang/invoke/VarHandle" ∧ (parseMethodDescriptor yJ10_copyOfRange.desc).map (fun d => d.parameters.length) = some 3 := by decide +kernel
set_option maxHeartbeats 4000000 in
theorem c_J10_copyOfRange {l_ : Launch} {D : va_G} {dd : Nat → ClassId} {va n m : Nat} {f : Nat → Int32} (hB : BF f n) (h : m < n) (hn : n ≤ 1000) : MW l_ D dd yJ10_copyOfRange cJ10_copyOfRange 3 (some (.array .byte)) 2 1 m 90 [.ref va, .int (nI 0), .int (nI m)] ([(va, .inl (dd 2, n, .inl f))]) (fun r w => ∃ q, r = some (.ref q) ∧ w = [(q, .inl (dd 2, m, .inl (va_cpy f (fun _ => 0) 0 0 m))), (va, .inl (dd 2, n, .inl f))]) := by
  refine MW.intro (by decide) (Nat.le_of_ble_eq_true rfl) (fun p_ e_ s_ m_ as_ bl_ me_ c_ A_ X hr hnm => ?_)
  have X : VX p_ s_ m_ as_ me_ c_ cJ10_copyOfRange 3 RJ10 D dd A_ := X
  refine v_eq (loc' := [(0, .ref va), (1, .int (nI 0)), (2, .int (nI m))]) rfl rfl rfl ?_
  refine v_iload_n (pc := 0) X dJ10_copyOfRange_0 rfl 1 rfl ?_
  refine v_if_neN (pc := 1) X (by omega) 10 dJ10_copyOfRange_1 (by decide) (fun h1 => absurd rfl h1) (fun h1 => ?_)
  refine v_iload_n (pc := 4) X dJ10_copyOfRange_4 rfl 2 rfl ?_
  refine v_aload_n (pc := 5) X dJ10_copyOfRange_5 rfl 0 rfl ?_
  refine v_alenM (pc := 6) X 2 (List.mem_of_getElem? (i := 0) rfl) rfl dJ10_copyOfRange_6 ?_
  refine v_top (y := nI n) rfl ?_
  refine v_ic_eqN (pc := 7) X (by omega) (by omega) 17 dJ10_copyOfRange_7 (by decide) (fun h7 => absurd h7 (by omega)) (fun h7 => ?_)
  refine v_aload_n (pc := 10) X dJ10_copyOfRange_10 rfl 0 rfl ?_
  refine v_iload_n (pc := 11) X dJ10_copyOfRange_11 rfl 1 rfl ?_
  refine v_iload_n (pc := 12) X dJ10_copyOfRange_12 rfl 2 rfl ?_
  refine v_frame (pc := 13) X (wr := []) (perm_nil _) (r_S X (c_J10_copyOfRangeByte hB h hn) (lw_S q697 q698 q106 q699) hdJ10_copyOfRangeByte ⟨by dsimp only; omega, by dsimp only; omega⟩ rfl rfl (Nat.le_of_ble_eq_true rfl) dJ10_copyOfRange_13 ⟨by dsimp only; omega, by dsimp only; omega⟩) (fun v13 w13 h13 => ?_)
  obtain ⟨q1, rfl, rfl⟩ := h13
  refine v_eq (ws' := [(q1, .inl (dd 2, m, .inl (va_cpy f (fun _ => 0) 0 0 m))), (va, .inl (dd 2, n, .inl f))]) rfl rfl rfl ?_
  refine v_widen (k := 1) (n := m) (by omega) (by omega) ?_
  exact v_aret (pc := 16) X hr (Or.inr ⟨_, rfl⟩) dJ10_copyOfRange_16 ⟨_, rfl, rfl⟩
theorem hdJ4_init_2 : yJ4_init_2.name = "<init>" ∧ yJ4_init_2.cls ≠ "java/lang/invoke/MethodHandle" ∧ yJ4_init_2.cls ≠ "java/lang/invoke/VarHandle" ∧ (parseMethodDescriptor yJ4_init_2.desc).map (fun d => d.parameters.length) = some 2 := by decide +kernel
set_option maxHeartbeats 4000000 in
theorem c_J4_init_2_0 {l_ : Launch} {D : va_G} {dd : Nat → ClassId} {q x va n : Nat} {ml : Int32} {f : Nat → Int32} {t : List Nat} (hS : SbI 0 n f t) (hl : t.length < 90) (hlt : t.length < n) : MW l_ D dd yJ4_init_2 cJ4_init_2 5 none 3 1 (t.length) 160 [.ref q, .ref x, .null] ([(q, .inr (13, [.null, .int 0, .int 0, .int 0])), (x, .inr (12, [.ref va, .int (nI 0), .int ml, .int (nI t.length)])), (va, .inl (dd 2, n, .inl f))]) (fun r w => r = none ∧ ∃ vq g, w = [(q, .inr (13, [.ref vq, .int (nI 0), .int 0, .int 0])), (vq, .inl (dd 2, t.length, .inl g)), (x, .inr (12, [.ref va, .int (nI 0), .int ml, .int (nI t.length)])), (va, .inl (dd 2, n, .inl f))] ∧ TbIs 0 g t) := by
  obtain ⟨hT0, hB0, hl0, hn0⟩ := id hS
  refine MW.intro (by decide) (Nat.le_of_ble_eq_true rfl) (fun p_ e_ s_ m_ as_ bl_ me_ c_ A_ X hr hnm => ?_)
  have X : VX p_ s_ m_ as_ me_ c_ cJ4_init_2 5 RJ4 D dd A_ := X
  refine v_eq (loc' := [(0, .ref q), (1, .ref x), (2, .null)]) rfl rfl rfl ?_
  refine v_aload_n (pc := 0) X dJ4_init_2_0 rfl 0 rfl ?_
  refine v_objInit (pc := 1) X q679 q137 q138 ⟨by dsimp only; omega, by dsimp only; omega⟩ (Nat.le_of_ble_eq_true rfl) dJ4_init_2_1 ?_
  refine v_aload_n (pc := 4) X dJ4_init_2_4 rfl 1 rfl ?_
  refine v_readA (pc := 5) X ⟨[], perm_nil _⟩ (r_U X (c_J2_getValue (List.mem_of_getElem? (i := 1) rfl)) (List.mem_of_getElem? (i := 1) rfl) rfl rfl (lw_U q680 q682 q683 q681 q97 q684) rfl hdJ2_getValue ⟨by dsimp only; omega, by dsimp only; omega⟩ rfl rfl (Nat.le_of_ble_eq_true rfl) dJ4_init_2_5 ⟨by dsimp only; omega, by dsimp only; omega⟩) ?_
  refine v_astore_n (pc := 8) (loc' := [(3, .ref va), (0, .ref q), (1, .ref x), (2, .null)]) X dJ4_init_2_8 rfl (by decide) rfl ?_
  refine v_aload_n (pc := 9) X dJ4_init_2_9 rfl 2 rfl ?_
  refine v_read (pc := 10) X ⟨[], perm_nil _⟩ (r_O X (c_J3_length (List.mem_of_getElem? (i := 1) rfl)) (List.mem_of_getElem? (i := 1) rfl) rfl rfl (lw_O q685 q687 q686 q688 q689 q98 q690) q692 hdJ2_length ⟨by dsimp only; omega, by dsimp only; omega⟩ rfl rfl (Nat.le_of_ble_eq_true rfl) dJ4_init_2_10 ⟨by dsimp only; omega, by dsimp only; omega⟩) (fun r10 h10 => ?_)
  subst h10
  refine v_istore (pc := 13) (loc' := [(4, .int (nI t.length)), (3, .ref va), (0, .ref q), (1, .ref x), (2, .null)]) X dJ4_init_2_13 (by decide) rfl ?_
  refine v_aload_n (pc := 15) X dJ4_init_2_15 rfl 3 rfl ?_
  refine v_read (pc := 16) X ⟨[], perm_nil _⟩ (r_U X (c_J2_isLatin1 (List.mem_of_getElem? (i := 1) rfl) (by omega)) (List.mem_of_getElem? (i := 1) rfl) rfl rfl (lw_U q693 q570 q571 q569 q97 q572) rfl hdJ2_isLatin1 ⟨by dsimp only; omega, by dsimp only; omega⟩ rfl rfl (Nat.le_of_ble_eq_true rfl) dJ4_init_2_16 ⟨by dsimp only; omega, by dsimp only; omega⟩) (fun r16 h16 => ?_)
  subst h16
  refine v_if_eqB (pc := 19) X 41 dJ4_init_2_19 (by decide) (fun h19 => absurd rfl h19) (fun h19 => ?_)
  refine v_aload_n (pc := 22) X dJ4_init_2_22 rfl 2 rfl ?_
  refine v_iconst (pc := 23) (v := nI 0) X dJ4_init_2_23 rfl ?_
  refine v_putF (pc := 24) X in_J4 tyJ4 tyJ4_ok nmJ4 0 rfl rfl 1 (by decide) q738 (fun y h => h) rfl hnm rfl rfl rfl (Nat.le_of_ble_eq_true rfl) dJ4_init_2_24 (ws' := [(q, .inr (13, [.null, .int (nI 0), .int 0, .int 0])), (x, .inr (12, [.ref va, .int (nI 0), .int ml, .int (nI t.length)])), (va, .inl (dd 2, n, .inl f))]) rfl ?_
  refine v_aload_n (pc := 27) X dJ4_init_2_27 rfl 2 rfl ?_
  refine v_aload_n (pc := 28) X dJ4_init_2_28 rfl 1 rfl ?_
  refine v_iconst (pc := 29) (v := nI 0) X dJ4_init_2_29 rfl ?_
  refine v_iload (pc := 30) X dJ4_init_2_30 0 rfl ?_
  refine v_frame (pc := 32) X (wr := [(q, .inr (13, [.null, .int (nI 0), .int 0, .int 0])), (x, .inr (12, [.ref va, .int (nI 0), .int ml, .int (nI t.length)]))]) (mv_perm 2 _) (r_S X (c_J10_copyOfRange (m := t.length) hS.2.1 hlt (by omega)) (lw_S q694 q695 q106 q696) hdJ10_copyOfRange ⟨by dsimp only; omega, by dsimp only; omega⟩ rfl rfl (Nat.le_of_ble_eq_true rfl) dJ4_init_2_32 ⟨by dsimp only; omega, by dsimp only; omega⟩) (fun v32 w32 h32 => ?_)
  obtain ⟨q1, rfl, rfl⟩ := h32
  refine v_eq (ws' := [(q1, .inl (dd 2, t.length, .inl (va_cpy f (fun _ => 0) 0 0 (t.length)))), (va, .inl (dd 2, n, .inl f)), (q, .inr (13, [.null, .int (nI 0), .int 0, .int 0])), (x, .inr (12, [.ref va, .int (nI 0), .int ml, .int (nI t.length)]))]) rfl rfl rfl ?_
  refine v_putF (pc := 35) X in_J4 tyJ4 tyJ4_ok nmJ4 2 rfl rfl 0 (by decide) q737 (fun y h => h) rfl hnm rfl rfl rfl (Nat.le_of_ble_eq_true rfl) dJ4_init_2_35 (ws' := [(q1, .inl (dd 2, t.length, .inl (va_cpy f (fun _ => 0) 0 0 (t.length)))), (va, .inl (dd 2, n, .inl f)), (q, .inr (13, [.ref q1, .int (nI 0), .int 0, .int 0])), (x, .inr (12, [.ref va, .int (nI 0), .int ml, .int (nI t.length)]))]) rfl ?_
  refine v_goto (pc := 38) X 97 dJ4_init_2_38 (by decide) ?_
  refine v_perm (ws' := [(q, .inr (13, [.ref q1, .int (nI 0), .int 0, .int 0])), (q1, .inl (dd 2, t.length, .inl (va_cpy f (fun _ => 0) 0 0 (t.length)))), (x, .inr (12, [.ref va, .int (nI 0), .int ml, .int (nI t.length)])), (va, .inl (dd 2, n, .inl f))]) ((((mv_perm 1 _).trans (mv_perm 3 _)).trans (mv_perm 2 _)).trans (mv_perm 3 _)) ?_
  refine v_widen (k := 1) (n := (t.length)) (by omega) (by omega) ?_
  exact v_vret (pc := 97) X hr dJ4_init_2_97 ⟨rfl, _, _, rfl, hT0.ext (n := t.length) (by omega) (fun i hi => by (unfold va_cpy; rw [if_pos (by omega)]; congr 1; omega))⟩
theorem hdJ4_init : yJ4_init.name = "<init>" ∧ yJ4_init.cls ≠ "java/lang/invoke/MethodHandle" ∧ yJ4_init.cls ≠ "java/lang/invoke/VarHandle" ∧ (parseMethodDescriptor yJ4_init.desc).map (fun d => d.parameters.length) = some 1 := by decide +kernel
set_option maxHeartbeats 4000000 in
theorem c_J4_init_0 {l_ : Launch} {D : va_G} {dd : Nat → ClassId} {q x va n : Nat} {ml : Int32} {f : Nat → Int32} {t : List Nat} (hS : SbI 0 n f t) (hl : t.length < 90) (hlt : t.length < n) : MW l_ D dd yJ4_init cJ4_init 2 none 4 1 (t.length) 210 [.ref q, .ref x] ([(q, .inr (13, [.null, .int 0, .int 0, .int 0])), (x, .inr (12, [.ref va, .int (nI 0), .int ml, .int (nI t.length)])), (va, .inl (dd 2, n, .inl f))]) (fun r w => r = none ∧ ∃ vq g, w = [(q, .inr (13, [.ref vq, .int (nI 0), .int 0, .int 0])), (vq, .inl (dd 2, t.length, .inl g)), (x, .inr (12, [.ref va, .int (nI 0), .int ml, .int (nI t.length)])), (va, .inl (dd 2, n, .inl f))] ∧ TbIs 0 g t) := by
  refine MW.intro (by decide) (Nat.le_of_ble_eq_true rfl) (fun p_ e_ s_ m_ as_ bl_ me_ c_ A_ X hr hnm => ?_)
  have X : VX p_ s_ m_ as_ me_ c_ cJ4_init 2 RJ4 D dd A_ := X
  refine v_eq (loc' := [(0, .ref q), (1, .ref x)]) rfl rfl rfl ?_
  refine v_aload_n (pc := 0) X dJ4_init_0 rfl 0 rfl ?_
  refine v_aload_n (pc := 1) X dJ4_init_1 rfl 1 rfl ?_
  refine v_aconst_null (pc := 2) X dJ4_init_2 ?_
  refine v_frame (pc := 3) X (wr := []) (perm_nil _) (r_I X (c_J4_init_2_0 hS hl hlt) q678 q99 q676 q677 hdJ4_init_2 ⟨by dsimp only; omega, by dsimp only; omega⟩ rfl rfl (Nat.le_of_ble_eq_true rfl) dJ4_init_3 ⟨by dsimp only; omega, by dsimp only; omega⟩) (fun v3 w3 h3 => ?_)
  obtain ⟨rfl, vq, g, rfl, hT⟩ := h3
  refine v_eq (ws' := [(q, .inr (13, [.ref vq, .int (nI 0), .int 0, .int 0])), (vq, .inl (dd 2, t.length, .inl g)), (x, .inr (12, [.ref va, .int (nI 0), .int ml, .int (nI t.length)])), (va, .inl (dd 2, n, .inl f))]) rfl rfl rfl ?_
  refine v_widen (k := 1) (n := (t.length)) (by omega) (by omega) ?_
  exact v_vret (pc := 6) X hr dJ4_init_6 ⟨rfl, _, _, rfl, hT⟩
theorem hdJ3_toString : yJ3_toString.cls = RJ3 ∧ yJ3_toString.cls ≠ "java/lang/invoke/MethodHandle" ∧ yJ3_toString.cls ≠ "java/lang/invoke/VarHandle" ∧ (parseMethodDescriptor yJ3_toString.desc).map (fun d => d.parameters.length) = some 0 := by decide +kernel
set_option maxHeartbeats 4000000 in
theorem c_J3_toString_0 {l_ : Launch} {D : va_G} {dd : Nat → ClassId} {x va n : Nat} {ml : Int32} {f : Nat → Int32} {t : List Nat} (hS : SbI 0 n f t) (hl : t.length < 90) (hlt : t.length < n) : MW l_ D dd yJ3_toString cJ3_toString 1 (some (.object "java/lang/String")) 5 2 (4 + t.length) 260 [.ref x] ([(x, .inr (12, [.ref va, .int (nI 0), .int ml, .int (nI t.length)])), (va, .inl (dd 2, n, .inl f))]) (fun r w => ∃ q vq g, r = some (.ref q) ∧ w = [(q, .inr (13, [.ref vq, .int (nI 0), .int 0, .int 0])), (vq, .inl (dd 2, t.length, .inl g)), (x, .inr (12, [.ref va, .int (nI 0), .int ml, .int (nI t.length)])), (va, .inl (dd 2, n, .inl f))] ∧ TbIs 0 g t) := by
  refine MW.intro (by decide) (Nat.le_of_ble_eq_true rfl) (fun p_ e_ s_ m_ as_ bl_ me_ c_ A_ X hr hnm => ?_)
  have X : VX p_ s_ m_ as_ me_ c_ cJ3_toString 1 RJ3 D dd A_ := X
  refine v_eq (loc' := [(0, .ref x)]) rfl rfl rfl ?_
  refine v_new (pc := 0) (ci := 13) X in_J4 tyJ4 tyJ4_ok q671 q672 q99 rfl [.null, .int 0, .int 0, .int 0] (fun j hj => by rcases (show j = 0 ∨ j = 1 ∨ j = 2 ∨ j = 3 by omega) with rfl | rfl | rfl | rfl <;> rfl) ⟨by dsimp only; omega, by dsimp only; omega⟩ dJ3_toString_0 (fun q1 => ?_)
  refine v_perm (ws' := [(q1, .inr (13, [.null, .int 0, .int 0, .int 0]))] ++ [(x, .inr (12, [.ref va, .int (nI 0), .int ml, .int (nI t.length)])), (va, .inl (dd 2, n, .inl f))]) List.perm_append_comm ?_
  refine v_eq (ws' := [(q1, .inr (13, [.null, .int 0, .int 0, .int 0])), (x, .inr (12, [.ref va, .int (nI 0), .int ml, .int (nI t.length)])), (va, .inl (dd 2, n, .inl f))]) rfl rfl rfl ?_
  refine v_dup (pc := 3) X dJ3_toString_3 rfl ?_
  refine v_aload_n (pc := 4) X dJ3_toString_4 rfl 0 rfl ?_
  refine v_frame (pc := 5) X (wr := []) (perm_nil _) (r_I X (c_J4_init_0 hS hl hlt) q675 q99 q673 q674 hdJ4_init ⟨by dsimp only; omega, by dsimp only; omega⟩ rfl rfl (Nat.le_of_ble_eq_true rfl) dJ3_toString_5 ⟨by dsimp only; omega, by dsimp only; omega⟩) (fun v5 w5 h5 => ?_)
  obtain ⟨rfl, vq, g, rfl, hT⟩ := h5
  refine v_eq (ws' := [(q1, .inr (13, [.ref vq, .int (nI 0), .int 0, .int 0])), (vq, .inl (dd 2, t.length, .inl g)), (x, .inr (12, [.ref va, .int (nI 0), .int ml, .int (nI t.length)])), (va, .inl (dd 2, n, .inl f))]) rfl rfl rfl ?_
  refine v_widen (k := 2) (n := (4 + t.length)) (by omega) (by omega) ?_
  exact v_aret (pc := 8) X hr (Or.inl ⟨_, rfl⟩) dJ3_toString_8 ⟨_, _, _, rfl, rfl, hT⟩
set_option maxHeartbeats 4000000 in
theorem c_J4_init_2_1 {l_ : Launch} {D : va_G} {dd : Nat → ClassId} {q x va n : Nat} {ml : Int32} {f : Nat → Int32} {t : List Nat} (hS : SbI 1 n f t) (hl : t.length < 90) (hlt : (1 + 1) * t.length < n) (hml : ml = 0) : MW l_ D dd yJ4_init_2 cJ4_init_2 5 none 3 1 ((1 + 1) * t.length) 160 [.ref q, .ref x, .null] ([(q, .inr (13, [.null, .int 0, .int 0, .int 0])), (x, .inr (12, [.ref va, .int (nI 1), .int ml, .int (nI t.length)])), (va, .inl (dd 2, n, .inl f))]) (fun r w => r = none ∧ ∃ vq g, w = [(q, .inr (13, [.ref vq, .int (nI 1), .int 0, .int 0])), (vq, .inl (dd 2, (1 + 1) * t.length, .inl g)), (x, .inr (12, [.ref va, .int (nI 1), .int ml, .int (nI t.length)])), (va, .inl (dd 2, n, .inl f))] ∧ TbIs 1 g t) := by
  obtain ⟨hT0, hB0, hl0, hn0⟩ := id hS
  refine MW.intro (by decide) (Nat.le_of_ble_eq_true rfl) (fun p_ e_ s_ m_ as_ bl_ me_ c_ A_ X hr hnm => ?_)
  have X : VX p_ s_ m_ as_ me_ c_ cJ4_init_2 5 RJ4 D dd A_ := X
  refine v_eq (loc' := [(0, .ref q), (1, .ref x), (2, .null)]) rfl rfl rfl ?_
  refine v_aload_n (pc := 0) X dJ4_init_2_0 rfl 0 rfl ?_
  refine v_objInit (pc := 1) X q679 q137 q138 ⟨by dsimp only; omega, by dsimp only; omega⟩ (Nat.le_of_ble_eq_true rfl) dJ4_init_2_1 ?_
  refine v_aload_n (pc := 4) X dJ4_init_2_4 rfl 1 rfl ?_
  refine v_readA (pc := 5) X ⟨[], perm_nil _⟩ (r_U X (c_J2_getValue (List.mem_of_getElem? (i := 1) rfl)) (List.mem_of_getElem? (i := 1) rfl) rfl rfl (lw_U q680 q682 q683 q681 q97 q684) rfl hdJ2_getValue ⟨by dsimp only; omega, by dsimp only; omega⟩ rfl rfl (Nat.le_of_ble_eq_true rfl) dJ4_init_2_5 ⟨by dsimp only; omega, by dsimp only; omega⟩) ?_
  refine v_astore_n (pc := 8) (loc' := [(3, .ref va), (0, .ref q), (1, .ref x), (2, .null)]) X dJ4_init_2_8 rfl (by decide) rfl ?_
  refine v_aload_n (pc := 9) X dJ4_init_2_9 rfl 2 rfl ?_
  refine v_read (pc := 10) X ⟨[], perm_nil _⟩ (r_O X (c_J3_length (List.mem_of_getElem? (i := 1) rfl)) (List.mem_of_getElem? (i := 1) rfl) rfl rfl (lw_O q685 q687 q686 q688 q689 q98 q690) q692 hdJ2_length ⟨by dsimp only; omega, by dsimp only; omega⟩ rfl rfl (Nat.le_of_ble_eq_true rfl) dJ4_init_2_10 ⟨by dsimp only; omega, by dsimp only; omega⟩) (fun r10 h10 => ?_)
  subst h10
  refine v_istore (pc := 13) (loc' := [(4, .int (nI t.length)), (3, .ref va), (0, .ref q), (1, .ref x), (2, .null)]) X dJ4_init_2_13 (by decide) rfl ?_
  refine v_aload_n (pc := 15) X dJ4_init_2_15 rfl 3 rfl ?_
  refine v_read (pc := 16) X ⟨[], perm_nil _⟩ (r_U X (c_J2_isLatin1 (List.mem_of_getElem? (i := 1) rfl) (by omega)) (List.mem_of_getElem? (i := 1) rfl) rfl rfl (lw_U q693 q570 q571 q569 q97 q572) rfl hdJ2_isLatin1 ⟨by dsimp only; omega, by dsimp only; omega⟩ rfl rfl (Nat.le_of_ble_eq_true rfl) dJ4_init_2_16 ⟨by dsimp only; omega, by dsimp only; omega⟩) (fun r16 h16 => ?_)
  subst h16
  refine v_if_eqB (pc := 19) X 41 dJ4_init_2_19 (by decide) (fun h19 => ?_) (fun h19 => absurd h19 (by decide))
  refine v_gets (pc := 41) X (List.mem_of_getElem? (l := zS) (i := 0) rfl) q607 (fun y h => h) dJ4_init_2_41 ?_
  refine v_top (y := nI 1) rfl ?_
  refine v_if_eqN (pc := 44) X (by omega) 79 dJ4_init_2_44 (by decide) (fun h44 => absurd h44 (by decide)) (fun h44 => ?_)
  refine v_aload_n (pc := 47) X dJ4_init_2_47 rfl 3 rfl ?_
  refine v_getM (pc := 48) X in_J3 (List.mem_of_getElem? (i := 1) rfl) rfl 2 (by decide) q281 (fun y h => h) rfl dJ4_init_2_48 ?_
  refine v_if_eq (pc := 51) X 79 dJ4_init_2_51 (by decide) (fun h51 => ?_) (fun h51 => absurd hml h51)
  refine v_aload_n (pc := 79) X dJ4_init_2_79 rfl 2 rfl ?_
  refine v_iconst (pc := 80) (v := nI 1) X dJ4_init_2_80 rfl ?_
  refine v_putF (pc := 81) X in_J4 tyJ4 tyJ4_ok nmJ4 0 rfl rfl 1 (by decide) q738 (fun y h => h) rfl hnm rfl rfl rfl (Nat.le_of_ble_eq_true rfl) dJ4_init_2_81 (ws' := [(q, .inr (13, [.null, .int (nI 1), .int 0, .int 0])), (x, .inr (12, [.ref va, .int (nI 1), .int ml, .int (nI t.length)])), (va, .inl (dd 2, n, .inl f))]) rfl ?_
  refine v_aload_n (pc := 84) X dJ4_init_2_84 rfl 2 rfl ?_
  refine v_aload_n (pc := 85) X dJ4_init_2_85 rfl 1 rfl ?_
  refine v_iconst (pc := 86) (v := nI 0) X dJ4_init_2_86 rfl ?_
  refine v_iload (pc := 87) X dJ4_init_2_87 0 rfl ?_
  refine v_iconst (pc := 89) (v := nI 1) X dJ4_init_2_89 rfl ?_
  refine v_ishl (pc := 90) X dJ4_init_2_90 ?_
  refine v_top (y := (nI ((1 + 1) * t.length))) sl_1 ?_
  refine v_frame (pc := 91) X (wr := [(q, .inr (13, [.null, .int (nI 1), .int 0, .int 0])), (x, .inr (12, [.ref va, .int (nI 1), .int ml, .int (nI t.length)]))]) (mv_perm 2 _) (r_S X (c_J10_copyOfRange (m := (1 + 1) * t.length) hS.2.1 hlt (by omega)) (lw_S q694 q695 q106 q696) hdJ10_copyOfRange ⟨by dsimp only; omega, by dsimp only; omega⟩ rfl rfl (Nat.le_of_ble_eq_true rfl) dJ4_init_2_91 ⟨by dsimp only; omega, by dsimp only; omega⟩) (fun v91 w91 h91 => ?_)
  obtain ⟨q1, rfl, rfl⟩ := h91
  refine v_eq (ws' := [(q1, .inl (dd 2, (1 + 1) * t.length, .inl (va_cpy f (fun _ => 0) 0 0 ((1 + 1) * t.length)))), (va, .inl (dd 2, n, .inl f)), (q, .inr (13, [.null, .int (nI 1), .int 0, .int 0])), (x, .inr (12, [.ref va, .int (nI 1), .int ml, .int (nI t.length)]))]) rfl rfl rfl ?_
  refine v_putF (pc := 94) X in_J4 tyJ4 tyJ4_ok nmJ4 2 rfl rfl 0 (by decide) q737 (fun y h => h) rfl hnm rfl rfl rfl (Nat.le_of_ble_eq_true rfl) dJ4_init_2_94 (ws' := [(q1, .inl (dd 2, (1 + 1) * t.length, .inl (va_cpy f (fun _ => 0) 0 0 ((1 + 1) * t.length)))), (va, .inl (dd 2, n, .inl f)), (q, .inr (13, [.ref q1, .int (nI 1), .int 0, .int 0])), (x, .inr (12, [.ref va, .int (nI 1), .int ml, .int (nI t.length)]))]) rfl ?_
  refine v_perm (ws' := [(q, .inr (13, [.ref q1, .int (nI 1), .int 0, .int 0])), (q1, .inl (dd 2, (1 + 1) * t.length, .inl (va_cpy f (fun _ => 0) 0 0 ((1 + 1) * t.length)))), (x, .inr (12, [.ref va, .int (nI 1), .int ml, .int (nI t.length)])), (va, .inl (dd 2, n, .inl f))]) ((((mv_perm 1 _).trans (mv_perm 3 _)).trans (mv_perm 2 _)).trans (mv_perm 3 _)) ?_
  refine v_widen (k := 1) (n := ((1 + 1) * t.length)) (by omega) (by omega) ?_
  exact v_vret (pc := 97) X hr dJ4_init_2_97 ⟨rfl, _, _, rfl, hT0.ext (n := (1 + 1) * t.length) (by omega) (fun i hi => by (unfold va_cpy; rw [if_pos (by omega)]; congr 1; omega))⟩
set_option maxHeartbeats 4000000 in
theorem c_J4_init_1 {l_ : Launch} {D : va_G} {dd : Nat → ClassId} {q x va n : Nat} {ml : Int32} {f : Nat → Int32} {t : List Nat} (hS : SbI 1 n f t) (hl : t.length < 90) (hlt : (1 + 1) * t.length < n) (hml : ml = 0) : MW l_ D dd yJ4_init cJ4_init 2 none 4 1 ((1 + 1) * t.length) 210 [.ref q, .ref x] ([(q, .inr (13, [.null, .int 0, .int 0, .int 0])), (x, .inr (12, [.ref va, .int (nI 1), .int ml, .int (nI t.length)])), (va, .inl (dd 2, n, .inl f))]) (fun r w => r = none ∧ ∃ vq g, w = [(q, .inr (13, [.ref vq, .int (nI 1), .int 0, .int 0])), (vq, .inl (dd 2, (1 + 1) * t.length, .inl g)), (x, .inr (12, [.ref va, .int (nI 1), .int ml, .int (nI t.length)])), (va, .inl (dd 2, n, .inl f))] ∧ TbIs 1 g t) := by
  refine MW.intro (by decide) (Nat.le_of_ble_eq_true rfl) (fun p_ e_ s_ m_ as_ bl_ me_ c_ A_ X hr hnm => ?_)
  have X : VX p_ s_ m_ as_ me_ c_ cJ4_init 2 RJ4 D dd A_ := X
  refine v_eq (loc' := [(0, .ref q), (1, .ref x)]) rfl rfl rfl ?_
  refine v_aload_n (pc := 0) X dJ4_init_0 rfl 0 rfl ?_
  refine v_aload_n (pc := 1) X dJ4_init_1 rfl 1 rfl ?_
  refine v_aconst_null (pc := 2) X dJ4_init_2 ?_
  refine v_frame (pc := 3) X (wr := []) (perm_nil _) (r_I X (c_J4_init_2_1 hS hl hlt hml) q678 q99 q676 q677 hdJ4_init_2 ⟨by dsimp only; omega, by dsimp only; omega⟩ rfl rfl (Nat.le_of_ble_eq_true rfl) dJ4_init_3 ⟨by dsimp only; omega, by dsimp only; omega⟩) (fun v3 w3 h3 => ?_)
  obtain ⟨rfl, vq, g, rfl, hT⟩ := h3
  refine v_eq (ws' := [(q, .inr (13, [.ref vq, .int (nI 1), .int 0, .int 0])), (vq, .inl (dd 2, (1 + 1) * t.length, .inl g)), (x, .inr (12, [.ref va, .int (nI 1), .int ml, .int (nI t.length)])), (va, .inl (dd 2, n, .inl f))]) rfl rfl rfl ?_
  refine v_widen (k := 1) (n := ((1 + 1) * t.length)) (by omega) (by omega) ?_
  exact v_vret (pc := 6) X hr dJ4_init_6 ⟨rfl, _, _, rfl, hT⟩
set_option maxHeartbeats 4000000 in
theorem c_J3_toString_1 {l_ : Launch} {D : va_G} {dd : Nat → ClassId} {x va n : Nat} {ml : Int32} {f : Nat → Int32} {t : List Nat} (hS : SbI 1 n f t) (hl : t.length < 90) (hlt : (1 + 1) * t.length < n) (hml : ml = 0) : MW l_ D dd yJ3_toString cJ3_toString 1 (some (.object "java/lang/String")) 5 2 (4 + (1 + 1) * t.length) 260 [.ref x] ([(x, .inr (12, [.ref va, .int (nI 1), .int ml, .int (nI t.length)])), (va, .inl (dd 2, n, .inl f))]) (fun r w => ∃ q vq g, r = some (.ref q) ∧ w = [(q, .inr (13, [.ref vq, .int (nI 1), .int 0, .int 0])), (vq, .inl (dd 2, (1 + 1) * t.length, .inl g)), (x, .inr (12, [.ref va, .int (nI 1), .int ml, .int (nI t.length)])), (va, .inl (dd 2, n, .inl f))] ∧ TbIs 1 g t) := by
  refine MW.intro (by decide) (Nat.le_of_ble_eq_true rfl) (fun p_ e_ s_ m_ as_ bl_ me_ c_ A_ X hr hnm => ?_)
  have X : VX p_ s_ m_ as_ me_ c_ cJ3_toString 1 RJ3 D dd A_ := X
  refine v_eq (loc' := [(0, .ref x)]) rfl rfl rfl ?_
  refine v_new (pc := 0) (ci := 13) X in_J4 tyJ4 tyJ4_ok q671 q672 q99 rfl [.null, .int 0, .int 0, .int 0] (fun j hj => by rcases (show j = 0 ∨ j = 1 ∨ j = 2 ∨ j = 3 by omega) with rfl | rfl | rfl | rfl <;> rfl) ⟨by dsimp only; omega, by dsimp only; omega⟩ dJ3_toString_0 (fun q1 => ?_)
  refine v_perm (ws' := [(q1, .inr (13, [.null, .int 0, .int 0, .int 0]))] ++ [(x, .inr (12, [.ref va, .int (nI 1), .int ml, .int (nI t.length)])), (va, .inl (dd 2, n, .inl f))]) List.perm_append_comm ?_
  refine v_eq (ws' := [(q1, .inr (13, [.null, .int 0, .int 0, .int 0])), (x, .inr (12, [.ref va, .int (nI 1), .int ml, .int (nI t.length)])), (va, .inl (dd 2, n, .inl f))]) rfl rfl rfl ?_
  refine v_dup (pc := 3) X dJ3_toString_3 rfl ?_
  refine v_aload_n (pc := 4) X dJ3_toString_4 rfl 0 rfl ?_
  refine v_frame (pc := 5) X (wr := []) (perm_nil _) (r_I X (c_J4_init_1 hS hl hlt hml) q675 q99 q673 q674 hdJ4_init ⟨by dsimp only; omega, by dsimp only; omega⟩ rfl rfl (Nat.le_of_ble_eq_true rfl) dJ3_toString_5 ⟨by dsimp only; omega, by dsimp only; omega⟩) (fun v5 w5 h5 => ?_)
  obtain ⟨rfl, vq, g, rfl, hT⟩ := h5
  refine v_eq (ws' := [(q1, .inr (13, [.ref vq, .int (nI 1), .int 0, .int 0])), (vq, .inl (dd 2, (1 + 1) * t.length, .inl g)), (x, .inr (12, [.ref va, .int (nI 1), .int ml, .int (nI t.length)])), (va, .inl (dd 2, n, .inl f))]) rfl rfl rfl ?_
  refine v_widen (k := 2) (n := (4 + (1 + 1) * t.length)) (by omega) (by omega) ?_
  exact v_aret (pc := 8) X hr (Or.inl ⟨_, rfl⟩) dJ3_toString_8 ⟨_, _, _, rfl, rfl, hT⟩

theorem hdX5_told : yX5_told.cls = RX5 ∧ yX5_told.cls ≠ "java/lang/invoke/MethodHandle" ∧ yX5_told.cls ≠ "java/lang/invoke/VarHandle" ∧ (parseMethodDescriptor yX5_told.desc).map (fun d => d.parameters.length) = some 2 := by decide +kernel
set_option maxHeartbeats 4000000 in
theorem c_X5_told {l_ : Launch} {D : va_G} {dd : Nat → ClassId} {x tb wa na p k i w : Nat} {s : RS} {wf : Nat → Option Nat} {nf : Nat → Int32} {ws : va_W} (hx : (x, .inr (4, [.ref tb, .int (nI p), .int (nI k), .ref wa, .ref na, .int s.1, .int s.2.1, .int (nI s.2.2)])) ∈ ws) (hwa : (wa, .inl (dd 5, 60, .inr (.inr (.inr (.inr wf))))) ∈ ws) (hna : (na, .inl (dd 0, 120, .inl nf)) ∈ ws) (hi : i < 60) (hw : w ≤ 1) : MW l_ D dd yX5_told cX5_told 3 (some .int) 0 0 0 0 [.ref x, .int (nI i), .int (nI w)] (ws) (RI (fun r => nf (2 * i + w) = r) ws) := by
  refine MW.intro (by decide) (Nat.le_of_ble_eq_true rfl) (fun p_ e_ s_ m_ as_ bl_ me_ c_ A_ X hr hnm => ?_)
  have X : VX p_ s_ m_ as_ me_ c_ cX5_told 3 RX5 D dd A_ := X
  refine v_eq (loc' := [(0, .ref x), (1, .int (nI i)), (2, .int (nI w))]) rfl rfl rfl ?_
  refine v_aload_n (pc := 0) X dX5_told_0 rfl 0 rfl ?_
  refine v_getM (pc := 1) X in_X5 hx rfl 4 (by decide) q306 (fun y h => h) rfl dX5_told_1 ?_
  refine v_iconst (pc := 4) (v := nI 2) X dX5_told_4 rfl ?_
  refine v_iload_n (pc := 5) X dX5_told_5 rfl 1 rfl ?_
  refine v_imulN (pc := 6) X dX5_told_6 ?_
  refine v_iload_n (pc := 7) X dX5_told_7 rfl 2 rfl ?_
  refine v_iaddN (pc := 8) X dX5_told_8 ?_
  refine v_iaM (pc := 9) X hna rfl (by omega) (by decide) dX5_told_9 ?_
  exact v_iret (pc := 10) X hr dX5_told_10 ⟨⟨_, rfl, rfl⟩, rfl⟩
theorem hdX1_isSide : yX1_isSide.cls ≠ "java/lang/invoke/MethodHandle" ∧ yX1_isSide.cls ≠ "java/lang/invoke/VarHandle" ∧ (parseMethodDescriptor yX1_isSide.desc).map (fun d => d.parameters.length) = some 1 := by decide +kernel
set_option maxHeartbeats 4000000 in
theorem c_X1_isSide {l_ : Launch} {D : va_G} {dd : Nat → ClassId} {v : Int32}  : MW l_ D dd yX1_isSide cX1_isSide 1 (some .boolean) 1 0 0 40 [.int v] ([]) (RI (fun r => bI (nI 1 ≤ v ∧ v ≤ nI 50) = r) []) := by
  refine MW.intro (by decide) (Nat.le_of_ble_eq_true rfl) (fun p_ e_ s_ m_ as_ bl_ me_ c_ A_ X hr hnm => ?_)
  have X : VX p_ s_ m_ as_ me_ c_ cX1_isSide 1 RX1 D dd A_ := X
  refine v_eq (loc' := [(0, .int v)]) rfl rfl rfl ?_
  refine v_iload_n (pc := 0) X dX1_isSide_0 rfl 0 rfl ?_
  refine v_iconst (pc := 1) (v := nI 1) X dX1_isSide_1 rfl ?_
  refine v_bipush (pc := 2) (v := nI 50) X dX1_isSide_2 rfl ?_
  refine v_read (pc := 4) X ⟨_, List.Perm.refl ([] ++ _)⟩ (r_S X c_X1_in (lw_S q998 q999 q91 q1000) hdX1_in ⟨Nat.le_of_ble_eq_true rfl, Nat.le_of_ble_eq_true rfl⟩ rfl rfl (Nat.le_of_ble_eq_true rfl) dX1_isSide_4 ⟨Nat.le_of_ble_eq_true rfl, Nat.le_of_ble_eq_true rfl⟩) (fun r4 h4 => ?_)
  subst h4
  exact v_zret (pc := 7) X hr (nzb _) dX1_isSide_7 ⟨⟨_, rfl, rfl⟩, rfl⟩
theorem hdX1_isStrength : yX1_isStrength.cls ≠ "java/lang/invoke/MethodHandle" ∧ yX1_isStrength.cls ≠ "java/lang/invoke/VarHandle" ∧ (parseMethodDescriptor yX1_isStrength.desc).map (fun d => d.parameters.length) = some 1 := by decide +kernel
set_option maxHeartbeats 4000000 in
theorem c_X1_isStrength {l_ : Launch} {D : va_G} {dd : Nat → ClassId} {v : Int32}  : MW l_ D dd yX1_isStrength cX1_isStrength 1 (some .boolean) 1 0 0 40 [.int v] ([]) (RI (fun r => bI (nI 1 ≤ v ∧ v ≤ nI 99999) = r) []) := by
  refine MW.intro (by decide) (Nat.le_of_ble_eq_true rfl) (fun p_ e_ s_ m_ as_ bl_ me_ c_ A_ X hr hnm => ?_)
  have X : VX p_ s_ m_ as_ me_ c_ cX1_isStrength 1 RX1 D dd A_ := X
  refine v_eq (loc' := [(0, .int v)]) rfl rfl rfl ?_
  refine v_iload_n (pc := 0) X dX1_isStrength_0 rfl 0 rfl ?_
  refine v_iconst (pc := 1) (v := nI 1) X dX1_isStrength_1 rfl ?_
  refine v_ldc (pc := 2) X q1150 dX1_isStrength_2 ?_
  refine v_top (y := nI 99999) rfl ?_
  refine v_read (pc := 4) X ⟨_, List.Perm.refl ([] ++ _)⟩ (r_S X c_X1_in (lw_S q998 q999 q91 q1000) hdX1_in ⟨Nat.le_of_ble_eq_true rfl, Nat.le_of_ble_eq_true rfl⟩ rfl rfl (Nat.le_of_ble_eq_true rfl) dX1_isStrength_4 ⟨Nat.le_of_ble_eq_true rfl, Nat.le_of_ble_eq_true rfl⟩) (fun r4 h4 => ?_)
  subst h4
  exact v_zret (pc := 7) X hr (nzb _) dX1_isStrength_7 ⟨⟨_, rfl, rfl⟩, rfl⟩
/-- an order that can be done, by its numbers -/
def rgtB (n : Nat) (o : Ord3) : Bool := if o.1 = 115 then decide (nI 1 ≤ nI o.2.1 ∧ nI o.2.1 ≤ nI 50) else if o.1 = 101 then decide ((nI 0 ≤ nI o.2.1 ∧ nI o.2.1 ≤ nI n - nI 1) ∧ (nI 1 ≤ nI o.2.2 ∧ nI o.2.2 ≤ nI 50)) else if o.1 = 116 then true else if o.1 = 99 then decide (nI 1 ≤ nI o.2.1 ∧ nI o.2.1 ≤ nI 99999) else decide (isRunP n (nI o.2.1) (nI o.2.2))
theorem hsh_nz {o : Ord3} (h : OrdOk o) : ¬ hsh (wcd o.1) = 0 := by
  rcases h with e | e | e | e | e <;> (rw [e]; decide +kernel)
theorem hdX5_isRight : yX5_isRight.cls = RX5 ∧ yX5_isRight.cls ≠ "java/lang/invoke/MethodHandle" ∧ yX5_isRight.cls ≠ "java/lang/invoke/VarHandle" ∧ (parseMethodDescriptor yX5_isRight.desc).map (fun d => d.parameters.length) = some 2 := by decide +kernel
set_option maxHeartbeats 4000000 in
theorem c_X5_isRight {l_ : Launch} {D : va_G} {dd : Nat → ClassId} {x tb wa na p k i : Nat} {s : RS} {wf : Nat → Option Nat} {nf : Nat → Int32} {ws : va_W} {c sa n ca C pa np : Nat} {o : Ord3} (hx : (x, .inr (4, [.ref tb, .int (nI p), .int (nI k), .ref wa, .ref na, .int s.1, .int s.2.1, .int (nI s.2.2)])) ∈ ws) (hwa : (wa, .inl (dd 5, 60, .inr (.inr (.inr (.inr wf))))) ∈ ws) (hna : (na, .inl (dd 0, 120, .inl nf)) ∈ ws) (hO : OrdIs ws dd wf nf i o) (hok : OrdOk o) (hK : KT dd ws) (hi : i < 60) (hc : (c, .inr (1, [.ref sa, .int (nI n), .ref ca, .int (nI C), .ref pa, .int (nI np)])) ∈ ws) (hn9 : n ≤ 9) : MW l_ D dd yX5_isRight cX5_isRight 7 (some .boolean) 4 0 0 160 [.ref x, .ref c, .int (nI i)] (ws) (RI (fun r => bI (rgtB n o = true) = r) ws) := by
  obtain ⟨ka0, kh0, kz0, kf0, hk0, hkb0, hkT0⟩ := hK (100, [115, 105, 100, 101]) (List.mem_of_getElem? (i := 0) rfl)
  obtain ⟨ka1, kh1, kz1, kf1, hk1, hkb1, hkT1⟩ := hK (101, [115, 101, 116]) (List.mem_of_getElem? (i := 1) rfl)
  obtain ⟨ka2, kh2, kz2, kf2, hk2, hkb2, hkT2⟩ := hK (102, [116, 97, 107, 101]) (List.mem_of_getElem? (i := 2) rfl)
  obtain ⟨ka3, kh3, kz3, kf3, hk3, hkb3, hkT3⟩ := hK (103, [99, 111, 111, 112, 101, 114]) (List.mem_of_getElem? (i := 3) rfl)
  obtain ⟨ka4, kh4, kz4, kf4, hk4, hkb4, hkT4⟩ := hK (104, [112, 108, 97, 110]) (List.mem_of_getElem? (i := 4) rfl)
  obtain ⟨q, vq, g, hs, hz, hwq, hqm, hvm, hgT, hhs, hN1, hN2⟩ := hO
  refine MW.intro (by decide) (Nat.le_of_ble_eq_true rfl) (fun p_ e_ s_ m_ as_ bl_ me_ c_ A_ X hr hnm => ?_)
  have X : VX p_ s_ m_ as_ me_ c_ cX5_isRight 7 RX5 D dd A_ := X
  refine v_eq (loc' := [(0, .ref x), (1, .ref c), (2, .int (nI i))]) rfl rfl rfl ?_
  refine v_aload_n (pc := 0) X dX5_isRight_0 rfl 0 rfl ?_
  refine v_iload_n (pc := 1) X dX5_isRight_1 rfl 2 rfl ?_
  refine v_iconst (pc := 2) (v := nI 0) X dX5_isRight_2 rfl ?_
  refine v_read (pc := 3) X ⟨[], perm_nil _⟩ (r_V X (c_X5_told (i := i) (w := 0) hx hwa hna hi (by decide)) hx rfl rfl (lw_V q1845 q1847 qs34 q101 q1848) hdX5_told ⟨Nat.le_of_ble_eq_true rfl, Nat.le_of_ble_eq_true rfl⟩ rfl rfl (Nat.le_of_ble_eq_true rfl) dX5_isRight_3 ⟨Nat.le_of_ble_eq_true rfl, Nat.le_of_ble_eq_true rfl⟩) (fun r3 h3 => ?_)
  subst h3
  refine v_istore_n (pc := 6) (loc' := [(3, .int (nf (2 * i + 0))), (0, .ref x), (1, .ref c), (2, .int (nI i))]) X dX5_isRight_6 rfl (by decide) rfl ?_
  refine v_aload_n (pc := 7) X dX5_isRight_7 rfl 1 rfl ?_
  refine v_iload_n (pc := 8) X dX5_isRight_8 rfl 3 rfl ?_
  refine v_iconst (pc := 9) (v := nI 1) X dX5_isRight_9 rfl ?_
  refine v_read (pc := 10) X ⟨[], perm_nil _⟩ (r_V X (c_X5_told (i := i) (w := 1) hx hwa hna hi (by decide)) hx rfl rfl (lw_V q1845 q1847 qs34 q101 q1848) hdX5_told ⟨Nat.le_of_ble_eq_true rfl, Nat.le_of_ble_eq_true rfl⟩ rfl rfl (Nat.le_of_ble_eq_true rfl) dX5_isRight_10 ⟨Nat.le_of_ble_eq_true rfl, Nat.le_of_ble_eq_true rfl⟩) (fun r10 h10 => ?_)
  subst h10
  refine v_istore (pc := 13) (loc' := [(4, .int (nf (2 * i + 1))), (3, .int (nf (2 * i + 0))), (0, .ref x), (1, .ref c), (2, .int (nI i))]) X dX5_isRight_13 (by decide) rfl ?_
  refine v_aload_n (pc := 15) X dX5_isRight_15 rfl 2 rfl ?_
  refine v_getM (pc := 16) X in_X5 hx rfl 3 (by decide) q305 (fun y h => h) rfl dX5_isRight_16 ?_
  refine v_iload_n (pc := 19) X dX5_isRight_19 rfl 4 rfl ?_
  refine v_aaldS (pc := 20) X 5 rfl hwa rfl (by omega) (by decide) hwq dX5_isRight_20 ?_
  refine v_astore (pc := 21) (loc' := [(5, .ref q), (4, .int (nf (2 * i + 1))), (3, .int (nf (2 * i + 0))), (0, .ref x), (1, .ref c), (2, .int (nI i))]) X dX5_isRight_21 (by decide) rfl ?_
  refine v_iconst (pc := 23) (v := -1) X dX5_isRight_23 rfl ?_
  refine v_istore (pc := 24) (loc' := [(6, .int ((-1))), (5, .ref q), (4, .int (nf (2 * i + 1))), (3, .int (nf (2 * i + 0))), (0, .ref x), (1, .ref c), (2, .int (nI i))]) X dX5_isRight_24 (by decide) rfl ?_
  refine v_aload (pc := 26) X dX5_isRight_26 1 rfl ?_
  refine v_read (pc := 28) X ⟨[], perm_nil _⟩ (r_V X (c_J4_hashCode_1 hqm (by rw [hhs]; exact hsh_nz hok)) hqm rfl rfl (lw_V q1768 q1769 q1770 q99 q1771) hdJ4_hashCode ⟨Nat.le_of_ble_eq_true rfl, Nat.le_of_ble_eq_true rfl⟩ rfl rfl (Nat.le_of_ble_eq_true rfl) dX5_isRight_28 ⟨Nat.le_of_ble_eq_true rfl, Nat.le_of_ble_eq_true rfl⟩) (fun r28 h28 => ?_)
  subst h28
  rcases hok with ec | ec | ec | ec | ec
  · have ew : wcd o.1 = [99, 111, 111, 112, 101, 114] := by rw [ec]; rfl
    refine v_look (pc := 31) (off := 73) X 104 dX5_isRight_31 (by decide) (by rw [hhs, ew]; decide +kernel) (by decide) ?_
    refine v_aload (pc := 104) X dX5_isRight_104 1 rfl ?_
    refine v_ldcS (pc := 106) X (List.mem_of_getElem? (l := zT) (i := 3) rfl) dX5_isRight_106 ?_
    refine v_read (pc := 108) X ⟨[], perm_nil _⟩ (r_V X (c_J4_equals (u := [99, 111, 111, 112, 101, 114]) hqm hvm hgT (by rw [ew]; decide) hk3 hkb3 hkT3 (by decide)) hqm rfl rfl (lw_V q1829 q1830 q1831 q99 q1832) hdJ4_equals ⟨Nat.le_of_ble_eq_true rfl, Nat.le_of_ble_eq_true rfl⟩ rfl rfl (Nat.le_of_ble_eq_true rfl) dX5_isRight_108 ⟨Nat.le_of_ble_eq_true rfl, Nat.le_of_ble_eq_true rfl⟩) (fun r108 h108 => ?_)
    subst h108
    refine v_if_eqB (pc := 111) X 133 dX5_isRight_111 (by decide) (fun h111 => absurd ew h111) (fun h111 => ?_)
    refine v_iconst (pc := 114) (v := nI 2) X dX5_isRight_114 rfl ?_
    refine v_istore (pc := 115) (loc' := [(6, .int (nI 2)), (5, .ref q), (4, .int (nf (2 * i + 1))), (3, .int (nf (2 * i + 0))), (0, .ref x), (1, .ref c), (2, .int (nI i))]) X dX5_isRight_115 (by decide) rfl ?_
    refine v_goto (pc := 117) X 133 dX5_isRight_117 (by decide) ?_
    refine v_iload (pc := 133) X dX5_isRight_133 0 rfl ?_
    refine v_tabIn (pc := 135) X 197 dX5_isRight_135 (by decide) (by decide) rfl (by decide) ?_
    have e1 : nf (2 * i + 0) = nI o.2.1 := hN1 (by rw [ec]; decide)
    refine v_iload_n (pc := 197) X dX5_isRight_197 rfl 3 rfl ?_
    refine v_read (pc := 198) X ⟨_, List.Perm.refl ([] ++ _)⟩ (r_SN X (c_X1_isStrength (v := (nf (2 * i + 0)))) q1149 q91 q1850 q1148 hdX1_isStrength ⟨Nat.le_of_ble_eq_true rfl, Nat.le_of_ble_eq_true rfl⟩ rfl rfl (Nat.le_of_ble_eq_true rfl) dX5_isRight_198 ⟨Nat.le_of_ble_eq_true rfl, Nat.le_of_ble_eq_true rfl⟩) (fun r198 h198 => ?_)
    subst h198
    exact v_zret (pc := 201) X hr (nzb _) dX5_isRight_201 ⟨⟨_, rfl, by rw [e1]; exact bI_c (by unfold rgtB; rw [if_neg (by omega), if_neg (by omega), if_neg (by omega), if_pos ec]; exact decide_eq_true_iff)⟩, rfl⟩
  · have ew : wcd o.1 = [115, 101, 116] := by rw [ec]; rfl
    refine v_look (pc := 31) (off := 57) X 88 dX5_isRight_31 (by decide) (by rw [hhs, ew]; decide +kernel) (by decide) ?_
    refine v_aload (pc := 88) X dX5_isRight_88 1 rfl ?_
    refine v_ldcS (pc := 90) X (List.mem_of_getElem? (l := zT) (i := 1) rfl) dX5_isRight_90 ?_
    refine v_read (pc := 92) X ⟨[], perm_nil _⟩ (r_V X (c_J4_equals (u := [115, 101, 116]) hqm hvm hgT (by rw [ew]; decide) hk1 hkb1 hkT1 (by decide)) hqm rfl rfl (lw_V q1829 q1830 q1831 q99 q1832) hdJ4_equals ⟨Nat.le_of_ble_eq_true rfl, Nat.le_of_ble_eq_true rfl⟩ rfl rfl (Nat.le_of_ble_eq_true rfl) dX5_isRight_92 ⟨Nat.le_of_ble_eq_true rfl, Nat.le_of_ble_eq_true rfl⟩) (fun r92 h92 => ?_)
    subst h92
    refine v_if_eqB (pc := 95) X 133 dX5_isRight_95 (by decide) (fun h95 => absurd ew h95) (fun h95 => ?_)
    refine v_iconst (pc := 98) (v := nI 1) X dX5_isRight_98 rfl ?_
    refine v_istore (pc := 99) (loc' := [(6, .int (nI 1)), (5, .ref q), (4, .int (nf (2 * i + 1))), (3, .int (nf (2 * i + 0))), (0, .ref x), (1, .ref c), (2, .int (nI i))]) X dX5_isRight_99 (by decide) rfl ?_
    refine v_goto (pc := 101) X 133 dX5_isRight_101 (by decide) ?_
    refine v_iload (pc := 133) X dX5_isRight_133 0 rfl ?_
    refine v_tabIn (pc := 135) X 169 dX5_isRight_135 (by decide) (by decide) rfl (by decide) ?_
    have e1 : nf (2 * i + 0) = nI o.2.1 := hN1 (by rw [ec]; decide)
    have e2 : nf (2 * i + 1) = nI o.2.2 := hN2 (by rw [ec]; decide)
    refine v_iload_n (pc := 169) X dX5_isRight_169 rfl 3 rfl ?_
    refine v_iconst (pc := 170) (v := nI 0) X dX5_isRight_170 rfl ?_
    refine v_aload_n (pc := 171) X dX5_isRight_171 rfl 5 rfl ?_
    refine v_getN (pc := 172) X in_X2 hc rfl 1 (by decide) q151 (fun y h => h) rfl dX5_isRight_172 ?_
    refine v_iconst (pc := 175) (v := nI 1) X dX5_isRight_175 rfl ?_
    refine v_isub (pc := 176) X dX5_isRight_176 ?_
    refine v_read (pc := 177) X ⟨_, List.Perm.refl ([] ++ _)⟩ (r_SN X c_X1_in q1000 q91 q1330 q999 hdX1_in ⟨Nat.le_of_ble_eq_true rfl, Nat.le_of_ble_eq_true rfl⟩ rfl rfl (Nat.le_of_ble_eq_true rfl) dX5_isRight_177 ⟨Nat.le_of_ble_eq_true rfl, Nat.le_of_ble_eq_true rfl⟩) (fun r177 h177 => ?_)
    subst h177
    refine v_if_eqB (pc := 180) X 195 dX5_isRight_180 (by decide) (fun h180 => ?_) (fun h180 => ?_)
    · refine v_iconst (pc := 195) (v := nI 0) X dX5_isRight_195 rfl ?_
      exact v_zret (pc := 196) X hr rfl dX5_isRight_196 ⟨⟨_, rfl, bI_f (fun z => h180 (by rw [e1]; unfold rgtB at z; rw [if_neg (by omega), if_pos ec] at z; exact (of_decide_eq_true z).1))⟩, rfl⟩
    · refine v_iload (pc := 183) X dX5_isRight_183 2 rfl ?_
      refine v_read (pc := 185) X ⟨_, List.Perm.refl ([] ++ _)⟩ (r_SN X (c_X1_isSide (v := (nf (2 * i + 1)))) q997 q91 q1849 q996 hdX1_isSide ⟨Nat.le_of_ble_eq_true rfl, Nat.le_of_ble_eq_true rfl⟩ rfl rfl (Nat.le_of_ble_eq_true rfl) dX5_isRight_185 ⟨Nat.le_of_ble_eq_true rfl, Nat.le_of_ble_eq_true rfl⟩) (fun r185 h185 => ?_)
      subst h185
      refine v_if_eqB (pc := 188) X 195 dX5_isRight_188 (by decide) (fun h188 => ?_) (fun h188 => ?_)
      · refine v_iconst (pc := 195) (v := nI 0) X dX5_isRight_195 rfl ?_
        exact v_zret (pc := 196) X hr rfl dX5_isRight_196 ⟨⟨_, rfl, bI_f (fun z => h188 (by rw [e2]; unfold rgtB at z; rw [if_neg (by omega), if_pos ec] at z; exact (of_decide_eq_true z).2))⟩, rfl⟩
      · refine v_iconst (pc := 191) (v := nI 1) X dX5_isRight_191 rfl ?_
        refine v_goto (pc := 192) X 196 dX5_isRight_192 (by decide) ?_
        exact v_zret (pc := 196) X hr rfl dX5_isRight_196 ⟨⟨_, rfl, bI_t (by unfold rgtB; rw [if_neg (by omega), if_pos ec]; exact decide_eq_true ⟨by rw [← e1]; exact h180, by rw [← e2]; exact h188⟩)⟩, rfl⟩
  · have ew : wcd o.1 = [112, 108, 97, 110] := by rw [ec]; rfl
    refine v_look (pc := 31) (off := 89) X 120 dX5_isRight_31 (by decide) (by rw [hhs, ew]; decide +kernel) (by decide) ?_
    refine v_aload (pc := 120) X dX5_isRight_120 1 rfl ?_
    refine v_ldcS (pc := 122) X (List.mem_of_getElem? (l := zT) (i := 4) rfl) dX5_isRight_122 ?_
    refine v_read (pc := 124) X ⟨[], perm_nil _⟩ (r_V X (c_J4_equals (u := [112, 108, 97, 110]) hqm hvm hgT (by rw [ew]; decide) hk4 hkb4 hkT4 (by decide)) hqm rfl rfl (lw_V q1829 q1830 q1831 q99 q1832) hdJ4_equals ⟨Nat.le_of_ble_eq_true rfl, Nat.le_of_ble_eq_true rfl⟩ rfl rfl (Nat.le_of_ble_eq_true rfl) dX5_isRight_124 ⟨Nat.le_of_ble_eq_true rfl, Nat.le_of_ble_eq_true rfl⟩) (fun r124 h124 => ?_)
    subst h124
    refine v_if_eqB (pc := 127) X 133 dX5_isRight_127 (by decide) (fun h127 => absurd ew h127) (fun h127 => ?_)
    refine v_iconst (pc := 130) (v := nI 3) X dX5_isRight_130 rfl ?_
    refine v_istore (pc := 131) (loc' := [(6, .int (nI 3)), (5, .ref q), (4, .int (nf (2 * i + 1))), (3, .int (nf (2 * i + 0))), (0, .ref x), (1, .ref c), (2, .int (nI i))]) X dX5_isRight_131 (by decide) rfl ?_
    refine v_iload (pc := 133) X dX5_isRight_133 0 rfl ?_
    refine v_tabIn (pc := 135) X 202 dX5_isRight_135 (by decide) (by decide) rfl (by decide) ?_
    have e1 : nf (2 * i + 0) = nI o.2.1 := hN1 (by rw [ec]; decide)
    have e2 : nf (2 * i + 1) = nI o.2.2 := hN2 (by rw [ec]; decide)
    refine v_aload_n (pc := 202) X dX5_isRight_202 rfl 5 rfl ?_
    refine v_iload_n (pc := 203) X dX5_isRight_203 rfl 3 rfl ?_
    refine v_iload (pc := 204) X dX5_isRight_204 2 rfl ?_
    refine v_read (pc := 206) X ⟨[], perm_nil _⟩ (r_V X (c_X2_isRun (a := (nf (2 * i + 0))) (b := (nf (2 * i + 1))) (by omega) hc) hc rfl rfl (lw_V q1851 q1189 q1190 q92 q1191) hdX2_isRun ⟨Nat.le_of_ble_eq_true rfl, Nat.le_of_ble_eq_true rfl⟩ rfl rfl (Nat.le_of_ble_eq_true rfl) dX5_isRight_206 ⟨Nat.le_of_ble_eq_true rfl, Nat.le_of_ble_eq_true rfl⟩) (fun r206 h206 => ?_)
    subst h206
    exact v_zret (pc := 209) X hr (nzb _) dX5_isRight_209 ⟨⟨_, rfl, by rw [e1, e2]; exact bI_c (by unfold rgtB; rw [if_neg (by omega), if_neg (by omega), if_neg (by omega), if_neg (by omega)]; exact decide_eq_true_iff)⟩, rfl⟩
  · have ew : wcd o.1 = [115, 105, 100, 101] := by rw [ec]; rfl
    refine v_look (pc := 31) (off := 41) X 72 dX5_isRight_31 (by decide) (by rw [hhs, ew]; decide +kernel) (by decide) ?_
    refine v_aload (pc := 72) X dX5_isRight_72 1 rfl ?_
    refine v_ldcS (pc := 74) X (List.mem_of_getElem? (l := zT) (i := 0) rfl) dX5_isRight_74 ?_
    refine v_read (pc := 76) X ⟨[], perm_nil _⟩ (r_V X (c_J4_equals (u := [115, 105, 100, 101]) hqm hvm hgT (by rw [ew]; decide) hk0 hkb0 hkT0 (by decide)) hqm rfl rfl (lw_V q1829 q1830 q1831 q99 q1832) hdJ4_equals ⟨Nat.le_of_ble_eq_true rfl, Nat.le_of_ble_eq_true rfl⟩ rfl rfl (Nat.le_of_ble_eq_true rfl) dX5_isRight_76 ⟨Nat.le_of_ble_eq_true rfl, Nat.le_of_ble_eq_true rfl⟩) (fun r76 h76 => ?_)
    subst h76
    refine v_if_eqB (pc := 79) X 133 dX5_isRight_79 (by decide) (fun h79 => absurd ew h79) (fun h79 => ?_)
    refine v_iconst (pc := 82) (v := nI 0) X dX5_isRight_82 rfl ?_
    refine v_istore (pc := 83) (loc' := [(6, .int (nI 0)), (5, .ref q), (4, .int (nf (2 * i + 1))), (3, .int (nf (2 * i + 0))), (0, .ref x), (1, .ref c), (2, .int (nI i))]) X dX5_isRight_83 (by decide) rfl ?_
    refine v_goto (pc := 85) X 133 dX5_isRight_85 (by decide) ?_
    refine v_iload (pc := 133) X dX5_isRight_133 0 rfl ?_
    refine v_tabIn (pc := 135) X 164 dX5_isRight_135 (by decide) (by decide) rfl (by decide) ?_
    have e1 : nf (2 * i + 0) = nI o.2.1 := hN1 (by rw [ec]; decide)
    refine v_iload_n (pc := 164) X dX5_isRight_164 rfl 3 rfl ?_
    refine v_read (pc := 165) X ⟨_, List.Perm.refl ([] ++ _)⟩ (r_SN X (c_X1_isSide (v := (nf (2 * i + 0)))) q997 q91 q1849 q996 hdX1_isSide ⟨Nat.le_of_ble_eq_true rfl, Nat.le_of_ble_eq_true rfl⟩ rfl rfl (Nat.le_of_ble_eq_true rfl) dX5_isRight_165 ⟨Nat.le_of_ble_eq_true rfl, Nat.le_of_ble_eq_true rfl⟩) (fun r165 h165 => ?_)
    subst h165
    exact v_zret (pc := 168) X hr (nzb _) dX5_isRight_168 ⟨⟨_, rfl, by rw [e1]; exact bI_c (by unfold rgtB; rw [if_pos ec]; exact decide_eq_true_iff)⟩, rfl⟩
  · have ew : wcd o.1 = [116, 97, 107, 101] := by rw [ec]; rfl
    refine v_look (pc := 31) (off := 102) X 133 dX5_isRight_31 (by decide) (by rw [hhs, ew]; decide +kernel) (by decide) ?_
    refine v_iload (pc := 133) X dX5_isRight_133 0 rfl ?_
    refine v_tabOut (pc := 135) X 210 dX5_isRight_135 (Or.inl (by decide)) (by decide) ?_
    refine v_iconst (pc := 210) (v := nI 1) X dX5_isRight_210 rfl ?_
    exact v_zret (pc := 211) X hr rfl dX5_isRight_211 ⟨⟨_, rfl, bI_t (by unfold rgtB; rw [if_neg (by omega), if_neg (by omega), if_pos ec])⟩, rfl⟩

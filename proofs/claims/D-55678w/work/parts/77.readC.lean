/-- the five words, and where they stand -/
def wds : List (Nat × List Nat) := [(100, [115, 105, 100, 101]), (101, [115, 101, 116]), (102, [116, 97, 107, 101]), (103, [99, 111, 111, 112, 101, 114]), (104, [112, 108, 97, 110])]
def KT (dd : Nat → ClassId) (ws : va_W) : Prop := ∀ z ∈ wds, ∃ (ka : Nat) (kh kz : Int32) (kf : Nat → Int32), (dd z.1, .inr (13, [.ref ka, .int (nI 0), .int kh, .int kz])) ∈ ws ∧ (ka, .inl (dd 2, z.2.length, .inl kf)) ∈ ws ∧ L1Is kf z.2
theorem KT.mono {dd : Nat → ClassId} {ws ws' : va_W} (h : ∀ q ∈ ws, q ∈ ws') (hk : KT dd ws) : KT dd ws' := fun z hz => by
  obtain ⟨ka, kh, kz, kf, a, b, c⟩ := hk z hz
  exact ⟨ka, kh, kz, kf, h _ a, h _ b, c⟩
def begB (u : List Nat) : Bool := wds.any (fun z => decide (SwP z.2 u))
theorem begB_i {u : List Nat} (i : Nat) {z : Nat × List Nat} (h : wds[i]? = some z) (h2 : SwP z.2 u) : begB u = true := by
  unfold begB; rw [List.any_eq_true]; exact ⟨z, List.mem_of_getElem? h, decide_eq_true h2⟩
theorem begB_n {u : List Nat} (h0 : ¬ SwP [115, 105, 100, 101] u) (h1 : ¬ SwP [115, 101, 116] u) (h2 : ¬ SwP [116, 97, 107, 101] u) (h3 : ¬ SwP [99, 111, 111, 112, 101, 114] u) (h4 : ¬ SwP [112, 108, 97, 110] u) : ¬ begB u = true := by
  unfold begB wds
  simp only [List.any_cons, List.any_nil, Bool.or_eq_true, decide_eq_true_eq, Bool.false_eq_true, or_false]
  rintro (h | h | h | h | h)
  · exact h0 h
  · exact h1 h
  · exact h2 h
  · exact h3 h
  · exact h4 h
theorem hdX5_begins : yX5_begins.cls ≠ "java/lang/invoke/MethodHandle" ∧ yX5_begins.cls ≠ "java/lang/invoke/VarHandle" ∧ (parseMethodDescriptor yX5_begins.desc).map (fun d => d.parameters.length) = some 1 := by decide +kernel
set_option maxHeartbeats 4000000 in
theorem c_X5_begins_0 {l_ : Launch} {D : va_G} {dd : Nat → ClassId} {p vb : Nat} {hs2 hz2 : Int32} {g : Nat → Int32} {u : List Nat} {ws : va_W} (hK : KT dd ws) (hp : (p, .inr (13, [.ref vb, .int (nI 0), .int hs2, .int hz2])) ∈ ws) (hvb : (vb, .inl (dd 2, u.length, .inl g)) ∈ ws) (hU : L1Is g u) (hu : u.length ≤ 50) : MW l_ D dd yX5_begins cX5_begins 1 (some .boolean) 4 0 0 150 [.ref p] (ws) (RI (fun r => bI (begB u = true) = r) ws) := by
  obtain ⟨ka0, kh0, kz0, kf0, hk0, hkb0, hkT0⟩ := hK (100, [115, 105, 100, 101]) (List.mem_of_getElem? (i := 0) rfl)
  obtain ⟨ka1, kh1, kz1, kf1, hk1, hkb1, hkT1⟩ := hK (101, [115, 101, 116]) (List.mem_of_getElem? (i := 1) rfl)
  obtain ⟨ka2, kh2, kz2, kf2, hk2, hkb2, hkT2⟩ := hK (102, [116, 97, 107, 101]) (List.mem_of_getElem? (i := 2) rfl)
  obtain ⟨ka3, kh3, kz3, kf3, hk3, hkb3, hkT3⟩ := hK (103, [99, 111, 111, 112, 101, 114]) (List.mem_of_getElem? (i := 3) rfl)
  obtain ⟨ka4, kh4, kz4, kf4, hk4, hkb4, hkT4⟩ := hK (104, [112, 108, 97, 110]) (List.mem_of_getElem? (i := 4) rfl)
  refine MW.intro (by decide) (Nat.le_of_ble_eq_true rfl) (fun p_ e_ s_ m_ as_ bl_ me_ c_ A_ X hr hnm => ?_)
  have X : VX p_ s_ m_ as_ me_ c_ cX5_begins 1 RX5 D dd A_ := X
  refine v_eq (loc' := [(0, .ref p)]) rfl rfl rfl ?_
  refine v_ldcS (pc := 0) X (List.mem_of_getElem? (l := zT) (i := 0) rfl) dX5_begins_0 ?_
  refine v_aload_n (pc := 2) X dX5_begins_2 rfl 0 rfl ?_
  refine v_read (pc := 3) X ⟨[], perm_nil _⟩ (r_V X (c_J4_startsWith_0 (t := [115, 105, 100, 101]) hk0 hkb0 hp hvb hkT0 hU (by decide) hu) hk0 rfl rfl (lw_V q1650 q1651 q1652 q99 q1653) hdJ4_startsWith ⟨Nat.le_of_ble_eq_true rfl, Nat.le_of_ble_eq_true rfl⟩ rfl rfl (Nat.le_of_ble_eq_true rfl) dX5_begins_3 ⟨Nat.le_of_ble_eq_true rfl, Nat.le_of_ble_eq_true rfl⟩) (fun r3 h3 => ?_)
  subst h3
  refine v_if_neB (pc := 6) X 45 dX5_begins_6 (by decide) (fun h6 => ?_) (fun h6 => ?_)
  · refine v_iconst (pc := 45) (v := nI 1) X dX5_begins_45 rfl ?_
    refine v_goto (pc := 46) X 50 dX5_begins_46 (by decide) ?_
    exact v_zret (pc := 50) X hr rfl dX5_begins_50 ⟨⟨_, rfl, bI_t (begB_i 0 (by rfl) h6)⟩, rfl⟩
  · refine v_ldcS (pc := 9) X (List.mem_of_getElem? (l := zT) (i := 1) rfl) dX5_begins_9 ?_
    refine v_aload_n (pc := 11) X dX5_begins_11 rfl 0 rfl ?_
    refine v_read (pc := 12) X ⟨[], perm_nil _⟩ (r_V X (c_J4_startsWith_0 (t := [115, 101, 116]) hk1 hkb1 hp hvb hkT1 hU (by decide) hu) hk1 rfl rfl (lw_V q1650 q1651 q1652 q99 q1653) hdJ4_startsWith ⟨Nat.le_of_ble_eq_true rfl, Nat.le_of_ble_eq_true rfl⟩ rfl rfl (Nat.le_of_ble_eq_true rfl) dX5_begins_12 ⟨Nat.le_of_ble_eq_true rfl, Nat.le_of_ble_eq_true rfl⟩) (fun r12 h12 => ?_)
    subst h12
    refine v_if_neB (pc := 15) X 45 dX5_begins_15 (by decide) (fun h15 => ?_) (fun h15 => ?_)
    · refine v_iconst (pc := 45) (v := nI 1) X dX5_begins_45 rfl ?_
      refine v_goto (pc := 46) X 50 dX5_begins_46 (by decide) ?_
      exact v_zret (pc := 50) X hr rfl dX5_begins_50 ⟨⟨_, rfl, bI_t (begB_i 1 (by rfl) h15)⟩, rfl⟩
    · refine v_ldcS (pc := 18) X (List.mem_of_getElem? (l := zT) (i := 2) rfl) dX5_begins_18 ?_
      refine v_aload_n (pc := 20) X dX5_begins_20 rfl 0 rfl ?_
      refine v_read (pc := 21) X ⟨[], perm_nil _⟩ (r_V X (c_J4_startsWith_0 (t := [116, 97, 107, 101]) hk2 hkb2 hp hvb hkT2 hU (by decide) hu) hk2 rfl rfl (lw_V q1650 q1651 q1652 q99 q1653) hdJ4_startsWith ⟨Nat.le_of_ble_eq_true rfl, Nat.le_of_ble_eq_true rfl⟩ rfl rfl (Nat.le_of_ble_eq_true rfl) dX5_begins_21 ⟨Nat.le_of_ble_eq_true rfl, Nat.le_of_ble_eq_true rfl⟩) (fun r21 h21 => ?_)
      subst h21
      refine v_if_neB (pc := 24) X 45 dX5_begins_24 (by decide) (fun h24 => ?_) (fun h24 => ?_)
      · refine v_iconst (pc := 45) (v := nI 1) X dX5_begins_45 rfl ?_
        refine v_goto (pc := 46) X 50 dX5_begins_46 (by decide) ?_
        exact v_zret (pc := 50) X hr rfl dX5_begins_50 ⟨⟨_, rfl, bI_t (begB_i 2 (by rfl) h24)⟩, rfl⟩
      · refine v_ldcS (pc := 27) X (List.mem_of_getElem? (l := zT) (i := 3) rfl) dX5_begins_27 ?_
        refine v_aload_n (pc := 29) X dX5_begins_29 rfl 0 rfl ?_
        refine v_read (pc := 30) X ⟨[], perm_nil _⟩ (r_V X (c_J4_startsWith_0 (t := [99, 111, 111, 112, 101, 114]) hk3 hkb3 hp hvb hkT3 hU (by decide) hu) hk3 rfl rfl (lw_V q1650 q1651 q1652 q99 q1653) hdJ4_startsWith ⟨Nat.le_of_ble_eq_true rfl, Nat.le_of_ble_eq_true rfl⟩ rfl rfl (Nat.le_of_ble_eq_true rfl) dX5_begins_30 ⟨Nat.le_of_ble_eq_true rfl, Nat.le_of_ble_eq_true rfl⟩) (fun r30 h30 => ?_)
        subst h30
        refine v_if_neB (pc := 33) X 45 dX5_begins_33 (by decide) (fun h33 => ?_) (fun h33 => ?_)
        · refine v_iconst (pc := 45) (v := nI 1) X dX5_begins_45 rfl ?_
          refine v_goto (pc := 46) X 50 dX5_begins_46 (by decide) ?_
          exact v_zret (pc := 50) X hr rfl dX5_begins_50 ⟨⟨_, rfl, bI_t (begB_i 3 (by rfl) h33)⟩, rfl⟩
        · refine v_ldcS (pc := 36) X (List.mem_of_getElem? (l := zT) (i := 4) rfl) dX5_begins_36 ?_
          refine v_aload_n (pc := 38) X dX5_begins_38 rfl 0 rfl ?_
          refine v_read (pc := 39) X ⟨[], perm_nil _⟩ (r_V X (c_J4_startsWith_0 (t := [112, 108, 97, 110]) hk4 hkb4 hp hvb hkT4 hU (by decide) hu) hk4 rfl rfl (lw_V q1650 q1651 q1652 q99 q1653) hdJ4_startsWith ⟨Nat.le_of_ble_eq_true rfl, Nat.le_of_ble_eq_true rfl⟩ rfl rfl (Nat.le_of_ble_eq_true rfl) dX5_begins_39 ⟨Nat.le_of_ble_eq_true rfl, Nat.le_of_ble_eq_true rfl⟩) (fun r39 h39 => ?_)
          subst h39
          refine v_if_eqB (pc := 42) X 49 dX5_begins_42 (by decide) (fun h42 => ?_) (fun h42 => ?_)
          · refine v_iconst (pc := 49) (v := nI 0) X dX5_begins_49 rfl ?_
            exact v_zret (pc := 50) X hr rfl dX5_begins_50 ⟨⟨_, rfl, bI_f (begB_n h6 h15 h24 h33 h42)⟩, rfl⟩
          · refine v_iconst (pc := 45) (v := nI 1) X dX5_begins_45 rfl ?_
            refine v_goto (pc := 46) X 50 dX5_begins_46 (by decide) ?_
            exact v_zret (pc := 50) X hr rfl dX5_begins_50 ⟨⟨_, rfl, bI_t (begB_i 4 (by rfl) h42)⟩, rfl⟩
set_option maxHeartbeats 4000000 in
theorem c_X5_begins_1 {l_ : Launch} {D : va_G} {dd : Nat → ClassId} {p vb : Nat} {hs2 hz2 : Int32} {g : Nat → Int32} {u : List Nat} {ws : va_W} (hK : KT dd ws) (hp : (p, .inr (13, [.ref vb, .int (nI 1), .int hs2, .int hz2])) ∈ ws) (hvb : (vb, .inl (dd 2, (1 + 1) * u.length, .inl g)) ∈ ws) (hU : ∃ c ∈ u, 256 ≤ c) (hu : u.length ≤ 50) : MW l_ D dd yX5_begins cX5_begins 1 (some .boolean) 4 0 0 150 [.ref p] (ws) (RI (fun r => bI (begB u = true) = r) ws) := by
  obtain ⟨ka0, kh0, kz0, kf0, hk0, hkb0, hkT0⟩ := hK (100, [115, 105, 100, 101]) (List.mem_of_getElem? (i := 0) rfl)
  obtain ⟨ka1, kh1, kz1, kf1, hk1, hkb1, hkT1⟩ := hK (101, [115, 101, 116]) (List.mem_of_getElem? (i := 1) rfl)
  obtain ⟨ka2, kh2, kz2, kf2, hk2, hkb2, hkT2⟩ := hK (102, [116, 97, 107, 101]) (List.mem_of_getElem? (i := 2) rfl)
  obtain ⟨ka3, kh3, kz3, kf3, hk3, hkb3, hkT3⟩ := hK (103, [99, 111, 111, 112, 101, 114]) (List.mem_of_getElem? (i := 3) rfl)
  obtain ⟨ka4, kh4, kz4, kf4, hk4, hkb4, hkT4⟩ := hK (104, [112, 108, 97, 110]) (List.mem_of_getElem? (i := 4) rfl)
  refine MW.intro (by decide) (Nat.le_of_ble_eq_true rfl) (fun p_ e_ s_ m_ as_ bl_ me_ c_ A_ X hr hnm => ?_)
  have X : VX p_ s_ m_ as_ me_ c_ cX5_begins 1 RX5 D dd A_ := X
  refine v_eq (loc' := [(0, .ref p)]) rfl rfl rfl ?_
  refine v_ldcS (pc := 0) X (List.mem_of_getElem? (l := zT) (i := 0) rfl) dX5_begins_0 ?_
  refine v_aload_n (pc := 2) X dX5_begins_2 rfl 0 rfl ?_
  refine v_read (pc := 3) X ⟨[], perm_nil _⟩ (r_V X (c_J4_startsWith_1 (t := [115, 105, 100, 101]) hk0 hkb0 hp hvb hkT0 hU (by decide) hu) hk0 rfl rfl (lw_V q1650 q1651 q1652 q99 q1653) hdJ4_startsWith ⟨Nat.le_of_ble_eq_true rfl, Nat.le_of_ble_eq_true rfl⟩ rfl rfl (Nat.le_of_ble_eq_true rfl) dX5_begins_3 ⟨Nat.le_of_ble_eq_true rfl, Nat.le_of_ble_eq_true rfl⟩) (fun r3 h3 => ?_)
  subst h3
  refine v_if_neB (pc := 6) X 45 dX5_begins_6 (by decide) (fun h6 => ?_) (fun h6 => ?_)
  · refine v_iconst (pc := 45) (v := nI 1) X dX5_begins_45 rfl ?_
    refine v_goto (pc := 46) X 50 dX5_begins_46 (by decide) ?_
    exact v_zret (pc := 50) X hr rfl dX5_begins_50 ⟨⟨_, rfl, bI_t (begB_i 0 (by rfl) h6)⟩, rfl⟩
  · refine v_ldcS (pc := 9) X (List.mem_of_getElem? (l := zT) (i := 1) rfl) dX5_begins_9 ?_
    refine v_aload_n (pc := 11) X dX5_begins_11 rfl 0 rfl ?_
    refine v_read (pc := 12) X ⟨[], perm_nil _⟩ (r_V X (c_J4_startsWith_1 (t := [115, 101, 116]) hk1 hkb1 hp hvb hkT1 hU (by decide) hu) hk1 rfl rfl (lw_V q1650 q1651 q1652 q99 q1653) hdJ4_startsWith ⟨Nat.le_of_ble_eq_true rfl, Nat.le_of_ble_eq_true rfl⟩ rfl rfl (Nat.le_of_ble_eq_true rfl) dX5_begins_12 ⟨Nat.le_of_ble_eq_true rfl, Nat.le_of_ble_eq_true rfl⟩) (fun r12 h12 => ?_)
    subst h12
    refine v_if_neB (pc := 15) X 45 dX5_begins_15 (by decide) (fun h15 => ?_) (fun h15 => ?_)
    · refine v_iconst (pc := 45) (v := nI 1) X dX5_begins_45 rfl ?_
      refine v_goto (pc := 46) X 50 dX5_begins_46 (by decide) ?_
      exact v_zret (pc := 50) X hr rfl dX5_begins_50 ⟨⟨_, rfl, bI_t (begB_i 1 (by rfl) h15)⟩, rfl⟩
    · refine v_ldcS (pc := 18) X (List.mem_of_getElem? (l := zT) (i := 2) rfl) dX5_begins_18 ?_
      refine v_aload_n (pc := 20) X dX5_begins_20 rfl 0 rfl ?_
      refine v_read (pc := 21) X ⟨[], perm_nil _⟩ (r_V X (c_J4_startsWith_1 (t := [116, 97, 107, 101]) hk2 hkb2 hp hvb hkT2 hU (by decide) hu) hk2 rfl rfl (lw_V q1650 q1651 q1652 q99 q1653) hdJ4_startsWith ⟨Nat.le_of_ble_eq_true rfl, Nat.le_of_ble_eq_true rfl⟩ rfl rfl (Nat.le_of_ble_eq_true rfl) dX5_begins_21 ⟨Nat.le_of_ble_eq_true rfl, Nat.le_of_ble_eq_true rfl⟩) (fun r21 h21 => ?_)
      subst h21
      refine v_if_neB (pc := 24) X 45 dX5_begins_24 (by decide) (fun h24 => ?_) (fun h24 => ?_)
      · refine v_iconst (pc := 45) (v := nI 1) X dX5_begins_45 rfl ?_
        refine v_goto (pc := 46) X 50 dX5_begins_46 (by decide) ?_
        exact v_zret (pc := 50) X hr rfl dX5_begins_50 ⟨⟨_, rfl, bI_t (begB_i 2 (by rfl) h24)⟩, rfl⟩
      · refine v_ldcS (pc := 27) X (List.mem_of_getElem? (l := zT) (i := 3) rfl) dX5_begins_27 ?_
        refine v_aload_n (pc := 29) X dX5_begins_29 rfl 0 rfl ?_
        refine v_read (pc := 30) X ⟨[], perm_nil _⟩ (r_V X (c_J4_startsWith_1 (t := [99, 111, 111, 112, 101, 114]) hk3 hkb3 hp hvb hkT3 hU (by decide) hu) hk3 rfl rfl (lw_V q1650 q1651 q1652 q99 q1653) hdJ4_startsWith ⟨Nat.le_of_ble_eq_true rfl, Nat.le_of_ble_eq_true rfl⟩ rfl rfl (Nat.le_of_ble_eq_true rfl) dX5_begins_30 ⟨Nat.le_of_ble_eq_true rfl, Nat.le_of_ble_eq_true rfl⟩) (fun r30 h30 => ?_)
        subst h30
        refine v_if_neB (pc := 33) X 45 dX5_begins_33 (by decide) (fun h33 => ?_) (fun h33 => ?_)
        · refine v_iconst (pc := 45) (v := nI 1) X dX5_begins_45 rfl ?_
          refine v_goto (pc := 46) X 50 dX5_begins_46 (by decide) ?_
          exact v_zret (pc := 50) X hr rfl dX5_begins_50 ⟨⟨_, rfl, bI_t (begB_i 3 (by rfl) h33)⟩, rfl⟩
        · refine v_ldcS (pc := 36) X (List.mem_of_getElem? (l := zT) (i := 4) rfl) dX5_begins_36 ?_
          refine v_aload_n (pc := 38) X dX5_begins_38 rfl 0 rfl ?_
          refine v_read (pc := 39) X ⟨[], perm_nil _⟩ (r_V X (c_J4_startsWith_1 (t := [112, 108, 97, 110]) hk4 hkb4 hp hvb hkT4 hU (by decide) hu) hk4 rfl rfl (lw_V q1650 q1651 q1652 q99 q1653) hdJ4_startsWith ⟨Nat.le_of_ble_eq_true rfl, Nat.le_of_ble_eq_true rfl⟩ rfl rfl (Nat.le_of_ble_eq_true rfl) dX5_begins_39 ⟨Nat.le_of_ble_eq_true rfl, Nat.le_of_ble_eq_true rfl⟩) (fun r39 h39 => ?_)
          subst h39
          refine v_if_eqB (pc := 42) X 49 dX5_begins_42 (by decide) (fun h42 => ?_) (fun h42 => ?_)
          · refine v_iconst (pc := 49) (v := nI 0) X dX5_begins_49 rfl ?_
            exact v_zret (pc := 50) X hr rfl dX5_begins_50 ⟨⟨_, rfl, bI_f (begB_n h6 h15 h24 h33 h42)⟩, rfl⟩
          · refine v_iconst (pc := 45) (v := nI 1) X dX5_begins_45 rfl ?_
            refine v_goto (pc := 46) X 50 dX5_begins_46 (by decide) ?_
            exact v_zret (pc := 50) X hr rfl dX5_begins_50 ⟨⟨_, rfl, bI_t (begB_i 4 (by rfl) h42)⟩, rfl⟩

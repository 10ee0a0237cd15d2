abbrev RA (a : Nat) (wc : va_W) : Option Value → va_W → Prop := fun v w => v = some (.ref a) ∧ wc = w
theorem v_readA {p : Program} {l : Launch} {e : Env} {R : Room} {s : State} {m : MethodId} {args : Array Value} {below : List Frame} {meth : Method} {c : Code} {cc : ByteArray} {nL : Nat} {own : String} {D : va_G} {dd : Nat → ClassId} {A : Nat → Prop} {cells slots : Nat} {Q : State → Prop} {ws : va_W} {pc : Nat} {loc : List (Nat × Value)} {st : List Value} {wc : va_W} {st0 : List Value} {a : Nat} (X : VX p s m args meth c cc nL own D dd A) (hs : ∃ wr, ws.Perm (wc ++ wr)) (hr : RunF p l e R s m args below meth c D A nL cells slots 0 0 wc pc st0 st (RA a wc))
    (kk : V p l e R s m args below meth c D A nL cells slots Q ws (pc + 3) loc (.ref a :: st)) : V p l e R s m args below meth c D A nL cells slots Q ws pc loc st0 :=
  v_readG X hs hr (fun v h => by subst h; exact kk)
/-- a deque's row: from its head on stand the elements -/
def DqE (e : Nat → Option Nat) (h t : Nat) (xs : List Nat) : Prop := h < 17 ∧ xs.length ≤ 15 ∧ t = (h + xs.length) % 17 ∧ ∀ (i a : Nat), xs[i]? = some a → e ((h + i) % 17) = some a
theorem DqE.add {e : Nat → Option Nat} {h t a : Nat} {xs : List Nat} (H : DqE e h t xs) (hl : xs.length ≤ 14) : DqE (va_up e t (some a)) h ((t + 1) % 17) (xs ++ [a]) := by
  obtain ⟨h1, h2, h3, h4⟩ := H
  refine ⟨h1, by rw [List.length_append]; show _ + 1 ≤ 15; omega, by rw [List.length_append]; show _ = (h + (xs.length + 1)) % 17; omega, fun i b hi => ?_⟩
  unfold va_up
  by_cases c : i < xs.length
  · rw [List.getElem?_append_left c] at hi
    rw [if_neg (by omega)]
    exact h4 i b hi
  · rw [List.getElem?_append_right (by omega)] at hi
    have : i - xs.length < 1 := (List.getElem?_eq_some_iff.mp hi).1
    have e2 : i = xs.length := by omega
    subst e2
    rw [Nat.sub_self] at hi
    cases hi
    rw [if_pos (by omega)]
theorem DqE.pf {e : Nat → Option Nat} {h t a : Nat} {xs : List Nat} (H : DqE e h t (a :: xs)) : DqE (va_up e h none) ((h + 1) % 17) t xs := by
  obtain ⟨h1, h2, h3, h4⟩ := H
  have hl : (a :: xs).length = xs.length + 1 := rfl
  refine ⟨by omega, by omega, by omega, fun i b hi => ?_⟩
  have hk := (List.getElem?_eq_some_iff.mp hi).1
  have := h4 (i + 1) b (by rw [List.getElem?_cons_succ]; exact hi)
  unfold va_up
  rw [if_neg (by omega), show (((h + 1) % 17 + i) % 17) = (h + (i + 1)) % 17 by omega]
  exact this
theorem DqE.pl {e : Nat → Option Nat} {h t a : Nat} {xs : List Nat} (H : DqE e h t (xs ++ [a])) : DqE (va_up e ((t + 16) % 17) none) h ((t + 16) % 17) xs := by
  obtain ⟨h1, h2, h3, h4⟩ := H
  rw [List.length_append] at h2 h3
  have hl : ([a] : List Nat).length = 1 := rfl
  refine ⟨by omega, by omega, by omega, fun i b hi => ?_⟩
  have hk := (List.getElem?_eq_some_iff.mp hi).1
  have := h4 i b (by rw [List.getElem?_append_left hk]; exact hi)
  unfold va_up
  rw [if_neg (by omega)]
  exact this
theorem DqE.first {e : Nat → Option Nat} {h t a : Nat} {xs : List Nat} (H : DqE e h t (a :: xs)) : e h = some a := by
  have := H.2.2.2 0 a rfl
  rw [show (h + 0) % 17 = h from by have := H.1; omega] at this
  exact this
theorem DqE.last {e : Nat → Option Nat} {h t a : Nat} {xs : List Nat} (H : DqE e h t (xs ++ [a])) : e ((t + 16) % 17) = some a := by
  have h2 := H.2.1; have h3 := H.2.2.1; have h1 := H.1
  rw [List.length_append] at h2 h3
  have hl : ([a] : List Nat).length = 1 := rfl
  have := H.2.2.2 xs.length a (by rw [List.getElem?_append_right (Nat.le_refl _), Nat.sub_self]; rfl)
  rw [show (t + 16) % 17 = (h + xs.length) % 17 by omega]
  exact this
theorem dq_dec : ∀ i, i < 17 → (0 ≤ nI i + -1 → nI ((i + 16) % 17) = nI i + -1) ∧ (¬ 0 ≤ nI i + -1 → nI ((i + 16) % 17) = nI (17 - 1)) := by decide +kernel
theorem dq_sub : ∀ i, i < 17 → ∀ j, j < 17 → (0 ≤ nI i - nI j → nI ((i + 17 - j) % 17) = nI i - nI j) ∧ (¬ 0 ≤ nI i - nI j → nI ((i + 17 - j) % 17) = (nI i - nI j) + nI 17) := by decide +kernel
abbrev dqw (dd : Nat → ClassId) (x ea : Nat) (e : Nat → Option Nat) (h t : Nat) : va_W := [(x, .inr (11, [.ref ea, .int (nI h), .int (nI t)])), (ea, .inl (dd 3, 17, .inr (.inr (.inr (.inr e)))))]
theorem hdJ1_inc : yJ1_inc.cls ≠ "java/lang/invoke/MethodHandle" ∧ yJ1_inc.cls ≠ "java/lang/invoke/VarHandle" ∧ (parseMethodDescriptor yJ1_inc.desc).map (fun d => d.parameters.length) = some 2 := by decide +kernel
set_option maxHeartbeats 4000000 in
theorem c_J1_inc {l_ : Launch} {D : va_G} {dd : Nat → ClassId} {i : Nat} (h : i < 17) : MW l_ D dd yJ1_inc cJ1_inc 2 (some .int) 0 0 0 0 [.int (nI i), .int (nI 17)] ([]) (RI (fun r => (nI ((i + 1) % 17)) = r) []) := by
  refine MW.intro (by decide) (Nat.le_of_ble_eq_true rfl) (fun p_ e_ s_ m_ as_ bl_ me_ c_ A_ X hr hnm => ?_)
  have X : VX p_ s_ m_ as_ me_ c_ cJ1_inc 2 RJ1 D dd A_ := X
  refine v_eq (loc' := [(0, .int (nI i)), (1, .int (nI 17))]) rfl rfl rfl ?_
  refine v_iinc (pc := 0) (v := (nI (i + 1))) (loc' := [(0, .int (nI (i + 1))), (1, .int (nI 17))]) X dJ1_inc_0 0 rfl (nI_add _ 1) (by decide) rfl ?_
  refine v_iload_n (pc := 3) X dJ1_inc_3 rfl 0 rfl ?_
  refine v_iload_n (pc := 4) X dJ1_inc_4 rfl 1 rfl ?_
  refine v_ic_ltN (pc := 5) X (by omega) (by omega) 10 dJ1_inc_5 (by decide) (fun h5 => ?_) (fun h5 => ?_)
  · refine v_iload_n (pc := 10) X dJ1_inc_10 rfl 0 rfl ?_
    exact v_iret (pc := 11) X hr dJ1_inc_11 ⟨⟨_, rfl, by rw [show (i + 1) % 17 = i + 1 by omega]⟩, rfl⟩
  · refine v_iconst (pc := 8) (v := nI 0) X dJ1_inc_8 rfl ?_
    refine v_istore_n (pc := 9) (loc' := [(0, .int (nI 0)), (1, .int (nI 17))]) X dJ1_inc_9 rfl (by decide) rfl ?_
    refine v_iload_n (pc := 10) X dJ1_inc_10 rfl 0 rfl ?_
    exact v_iret (pc := 11) X hr dJ1_inc_11 ⟨⟨_, rfl, by rw [show (i + 1) % 17 = 0 by omega]⟩, rfl⟩
theorem hdJ1_dec : yJ1_dec.cls ≠ "java/lang/invoke/MethodHandle" ∧ yJ1_dec.cls ≠ "java/lang/invoke/VarHandle" ∧ (parseMethodDescriptor yJ1_dec.desc).map (fun d => d.parameters.length) = some 2 := by decide +kernel
set_option maxHeartbeats 4000000 in
theorem c_J1_dec {l_ : Launch} {D : va_G} {dd : Nat → ClassId} {i : Nat} (h : i < 17) : MW l_ D dd yJ1_dec cJ1_dec 2 (some .int) 0 0 0 0 [.int (nI i), .int (nI 17)] ([]) (RI (fun r => (nI ((i + 16) % 17)) = r) []) := by
  refine MW.intro (by decide) (Nat.le_of_ble_eq_true rfl) (fun p_ e_ s_ m_ as_ bl_ me_ c_ A_ X hr hnm => ?_)
  have X : VX p_ s_ m_ as_ me_ c_ cJ1_dec 2 RJ1 D dd A_ := X
  refine v_eq (loc' := [(0, .int (nI i)), (1, .int (nI 17))]) rfl rfl rfl ?_
  refine v_iinc (pc := 0) (v := ((nI i + -1))) (loc' := [(0, .int ((nI i + -1))), (1, .int (nI 17))]) X dJ1_dec_0 0 rfl rfl (by decide) rfl ?_
  refine v_iload_n (pc := 3) X dJ1_dec_3 rfl 0 rfl ?_
  refine v_if_ge (pc := 4) X 11 dJ1_dec_4 (by decide) (fun h4 => ?_) (fun h4 => ?_)
  · refine v_iload_n (pc := 11) X dJ1_dec_11 rfl 0 rfl ?_
    exact v_iret (pc := 12) X hr dJ1_dec_12 ⟨⟨_, rfl, (dq_dec i h).1 h4⟩, rfl⟩
  · refine v_iload_n (pc := 7) X dJ1_dec_7 rfl 1 rfl ?_
    refine v_iconst (pc := 8) (v := nI 1) X dJ1_dec_8 rfl ?_
    refine v_isubN (pc := 9) X (by omega) dJ1_dec_9 ?_
    refine v_istore_n (pc := 10) (loc' := [(0, .int (nI (17 - 1))), (1, .int (nI 17))]) X dJ1_dec_10 rfl (by decide) rfl ?_
    refine v_iload_n (pc := 11) X dJ1_dec_11 rfl 0 rfl ?_
    exact v_iret (pc := 12) X hr dJ1_dec_12 ⟨⟨_, rfl, (dq_dec i h).2 h4⟩, rfl⟩
theorem hdJ1_sub : yJ1_sub.cls ≠ "java/lang/invoke/MethodHandle" ∧ yJ1_sub.cls ≠ "java/lang/invoke/VarHandle" ∧ (parseMethodDescriptor yJ1_sub.desc).map (fun d => d.parameters.length) = some 3 := by decide +kernel
set_option maxHeartbeats 4000000 in
theorem c_J1_sub {l_ : Launch} {D : va_G} {dd : Nat → ClassId} {i j : Nat} (h : i < 17) (h2 : j < 17) : MW l_ D dd yJ1_sub cJ1_sub 3 (some .int) 0 0 0 0 [.int (nI i), .int (nI j), .int (nI 17)] ([]) (RI (fun r => (nI ((i + 17 - j) % 17)) = r) []) := by
  refine MW.intro (by decide) (Nat.le_of_ble_eq_true rfl) (fun p_ e_ s_ m_ as_ bl_ me_ c_ A_ X hr hnm => ?_)
  have X : VX p_ s_ m_ as_ me_ c_ cJ1_sub 3 RJ1 D dd A_ := X
  refine v_eq (loc' := [(0, .int (nI i)), (1, .int (nI j)), (2, .int (nI 17))]) rfl rfl rfl ?_
  refine v_iload_n (pc := 0) X dJ1_sub_0 rfl 0 rfl ?_
  refine v_iload_n (pc := 1) X dJ1_sub_1 rfl 1 rfl ?_
  refine v_isub (pc := 2) X dJ1_sub_2 ?_
  refine v_dup (pc := 3) X dJ1_sub_3 rfl ?_
  refine v_istore_n (pc := 4) (loc' := [(0, .int (((nI i)) - ((nI j)))), (1, .int (nI j)), (2, .int (nI 17))]) X dJ1_sub_4 rfl (by decide) rfl ?_
  refine v_if_ge (pc := 5) X 12 dJ1_sub_5 (by decide) (fun h5 => ?_) (fun h5 => ?_)
  · refine v_iload_n (pc := 12) X dJ1_sub_12 rfl 0 rfl ?_
    exact v_iret (pc := 13) X hr dJ1_sub_13 ⟨⟨_, rfl, (dq_sub i h j h2).1 h5⟩, rfl⟩
  · refine v_iload_n (pc := 8) X dJ1_sub_8 rfl 0 rfl ?_
    refine v_iload_n (pc := 9) X dJ1_sub_9 rfl 2 rfl ?_
    refine v_iadd (pc := 10) X dJ1_sub_10 ?_
    refine v_istore_n (pc := 11) (loc' := [(0, .int (((((nI i)) - ((nI j)))) + ((nI 17)))), (1, .int (nI j)), (2, .int (nI 17))]) X dJ1_sub_11 rfl (by decide) rfl ?_
    refine v_iload_n (pc := 12) X dJ1_sub_12 rfl 0 rfl ?_
    exact v_iret (pc := 13) X hr dJ1_sub_13 ⟨⟨_, rfl, (dq_sub i h j h2).2 h5⟩, rfl⟩
theorem hdJ1_isEmpty : yJ1_isEmpty.cls = RJ1 ∧ yJ1_isEmpty.cls ≠ "java/lang/invoke/MethodHandle" ∧ yJ1_isEmpty.cls ≠ "java/lang/invoke/VarHandle" ∧ (parseMethodDescriptor yJ1_isEmpty.desc).map (fun d => d.parameters.length) = some 0 := by decide +kernel
set_option maxHeartbeats 4000000 in
theorem c_J1_isEmpty {l_ : Launch} {D : va_G} {dd : Nat → ClassId} {x ea h t : Nat} {e : Nat → Option Nat} {xs : List Nat} {ws : va_W} (hx : (x, .inr (11, [.ref ea, .int (nI h), .int (nI t)])) ∈ ws) (hD : DqE e h t xs) : MW l_ D dd yJ1_isEmpty cJ1_isEmpty 1 (some .boolean) 0 0 0 0 [.ref x] (ws) (RI (fun r => bI (xs.length = 0) = r) ws) := by
  obtain ⟨hd1, hd2, hd3, hd4⟩ := id hD
  refine MW.intro (by decide) (Nat.le_of_ble_eq_true rfl) (fun p_ e_ s_ m_ as_ bl_ me_ c_ A_ X hr hnm => ?_)
  have X : VX p_ s_ m_ as_ me_ c_ cJ1_isEmpty 1 RJ1 D dd A_ := X
  refine v_eq (loc' := [(0, .ref x)]) rfl rfl rfl ?_
  refine v_aload_n (pc := 0) X dJ1_isEmpty_0 rfl 0 rfl ?_
  refine v_getM (pc := 1) X in_J1 hx rfl 1 (by decide) q189 (fun y h => h) rfl dJ1_isEmpty_1 ?_
  refine v_aload_n (pc := 4) X dJ1_isEmpty_4 rfl 0 rfl ?_
  refine v_getM (pc := 5) X in_J1 hx rfl 2 (by decide) q190 (fun y h => h) rfl dJ1_isEmpty_5 ?_
  refine v_ic_neN (pc := 8) X (by omega) (by omega) 15 dJ1_isEmpty_8 (by decide) (fun h8 => ?_) (fun h8 => ?_)
  · refine v_iconst (pc := 15) (v := nI 0) X dJ1_isEmpty_15 rfl ?_
    exact v_zret (pc := 16) X hr rfl dJ1_isEmpty_16 ⟨⟨_, rfl, bI_f (by omega)⟩, rfl⟩
  · refine v_iconst (pc := 11) (v := nI 1) X dJ1_isEmpty_11 rfl ?_
    refine v_goto (pc := 12) X 16 dJ1_isEmpty_12 (by decide) ?_
    exact v_zret (pc := 16) X hr rfl dJ1_isEmpty_16 ⟨⟨_, rfl, bI_t (by omega)⟩, rfl⟩
theorem hdJ1_size : yJ1_size.cls = RJ1 ∧ yJ1_size.cls ≠ "java/lang/invoke/MethodHandle" ∧ yJ1_size.cls ≠ "java/lang/invoke/VarHandle" ∧ (parseMethodDescriptor yJ1_size.desc).map (fun d => d.parameters.length) = some 0 := by decide +kernel
set_option maxHeartbeats 4000000 in
theorem c_J1_size {l_ : Launch} {D : va_G} {dd : Nat → ClassId} {x ea h t : Nat} {e : Nat → Option Nat} {xs : List Nat} {ws : va_W} (hx : (x, .inr (11, [.ref ea, .int (nI h), .int (nI t)])) ∈ ws) (hea : (ea, .inl (dd 3, 17, .inr (.inr (.inr (.inr e))))) ∈ ws) (hD : DqE e h t xs) : MW l_ D dd yJ1_size cJ1_size 1 (some .int) 1 0 0 30 [.ref x] (ws) (RI (fun r => nI xs.length = r) ws) := by
  obtain ⟨hd1, hd2, hd3, hd4⟩ := id hD
  refine MW.intro (by decide) (Nat.le_of_ble_eq_true rfl) (fun p_ e_ s_ m_ as_ bl_ me_ c_ A_ X hr hnm => ?_)
  have X : VX p_ s_ m_ as_ me_ c_ cJ1_size 1 RJ1 D dd A_ := X
  refine v_eq (loc' := [(0, .ref x)]) rfl rfl rfl ?_
  refine v_aload_n (pc := 0) X dJ1_size_0 rfl 0 rfl ?_
  refine v_getM (pc := 1) X in_J1 hx rfl 2 (by decide) q190 (fun y h => h) rfl dJ1_size_1 ?_
  refine v_aload_n (pc := 4) X dJ1_size_4 rfl 0 rfl ?_
  refine v_getM (pc := 5) X in_J1 hx rfl 1 (by decide) q189 (fun y h => h) rfl dJ1_size_5 ?_
  refine v_aload_n (pc := 8) X dJ1_size_8 rfl 0 rfl ?_
  refine v_getM (pc := 9) X in_J1 hx rfl 0 (by decide) q188 (fun y h => h) rfl dJ1_size_9 ?_
  refine v_alenM (pc := 12) X 3 hea rfl dJ1_size_12 ?_
  refine v_top (y := nI 17) rfl ?_
  refine v_read (pc := 13) X ⟨_, List.Perm.refl ([] ++ _)⟩ (r_S X (c_J1_sub (i := t) (j := h) (by omega) (by omega)) (lw_S q1887 q1888 q94 q1889) hdJ1_sub ⟨Nat.le_of_ble_eq_true rfl, Nat.le_of_ble_eq_true rfl⟩ rfl rfl (Nat.le_of_ble_eq_true rfl) dJ1_size_13 ⟨Nat.le_of_ble_eq_true rfl, Nat.le_of_ble_eq_true rfl⟩) (fun r13 h13 => ?_)
  subst h13
  exact v_iret (pc := 16) X hr dJ1_size_16 ⟨⟨_, rfl, by rw [show (t + 17 - h) % 17 = xs.length by omega]⟩, rfl⟩
theorem hdJ1_elementAt : yJ1_elementAt.cls ≠ "java/lang/invoke/MethodHandle" ∧ yJ1_elementAt.cls ≠ "java/lang/invoke/VarHandle" ∧ (parseMethodDescriptor yJ1_elementAt.desc).map (fun d => d.parameters.length) = some 2 := by decide +kernel
set_option maxHeartbeats 4000000 in
theorem c_J1_elementAt {l_ : Launch} {D : va_G} {dd : Nat → ClassId} {ea i a : Nat} {e : Nat → Option Nat} {ws : va_W} (hea : (ea, .inl (dd 3, 17, .inr (.inr (.inr (.inr e))))) ∈ ws) (hi : i < 17) (he : e i = some a) : MW l_ D dd yJ1_elementAt cJ1_elementAt 2 (some (.object "java/lang/Object")) 0 0 0 0 [.ref ea, .int (nI i)] (ws) (RA a ws) := by
  refine MW.intro (by decide) (Nat.le_of_ble_eq_true rfl) (fun p_ e_ s_ m_ as_ bl_ me_ c_ A_ X hr hnm => ?_)
  have X : VX p_ s_ m_ as_ me_ c_ cJ1_elementAt 2 RJ1 D dd A_ := X
  refine v_eq (loc' := [(0, .ref ea), (1, .int (nI i))]) rfl rfl rfl ?_
  refine v_aload_n (pc := 0) X dJ1_elementAt_0 rfl 0 rfl ?_
  refine v_iload_n (pc := 1) X dJ1_elementAt_1 rfl 1 rfl ?_
  refine v_aaldS (pc := 2) X 3 rfl hea rfl (by omega) (by decide) he dJ1_elementAt_2 ?_
  exact v_aret (pc := 3) X hr (Or.inl ⟨_, rfl⟩) dJ1_elementAt_3 ⟨rfl, rfl⟩
theorem hdJ1_addLast : yJ1_addLast.cls = RJ1 ∧ yJ1_addLast.cls ≠ "java/lang/invoke/MethodHandle" ∧ yJ1_addLast.cls ≠ "java/lang/invoke/VarHandle" ∧ (parseMethodDescriptor yJ1_addLast.desc).map (fun d => d.parameters.length) = some 1 := by decide +kernel
set_option maxHeartbeats 4000000 in
theorem c_J1_addLast {l_ : Launch} {D : va_G} {dd : Nat → ClassId} {x ea h t a : Nat} {fs : List Value} {e : Nat → Option Nat} {xs : List Nat} {ws : va_W} (hv : (a, .inr (1, fs)) ∈ ws) (hD : DqE e h t xs) (hl : xs.length ≤ 14) : MW l_ D dd yJ1_addLast cJ1_addLast 3 none 1 0 0 30 [.ref x, .ref a] (fl [dqw dd x ea e h t, ws]) (fun r w => r = none ∧ ∃ e2 t2, w = fl [dqw dd x ea e2 h t2, ws] ∧ DqE e2 h t2 (xs ++ [a])) := by
  obtain ⟨hd1, hd2, hd3, hd4⟩ := id hD
  refine MW.intro (by decide) (Nat.le_of_ble_eq_true rfl) (fun p_ e_ s_ m_ as_ bl_ me_ c_ A_ X hr hnm => ?_)
  have X : VX p_ s_ m_ as_ me_ c_ cJ1_addLast 3 RJ1 D dd A_ := X
  refine v_eq (loc' := [(0, .ref x), (1, .ref a)]) rfl rfl rfl ?_
  refine v_eq (ws' := fl [[(x, .inr (11, [.ref ea, .int (nI h), .int (nI t)]))], [(ea, .inl (dd 3, 17, .inr (.inr (.inr (.inr e)))))], ws]) rfl rfl rfl ?_
  refine v_aload_n (pc := 0) X dJ1_addLast_0 rfl 1 rfl ?_
  refine v_ifnonnull (pc := 1) X 12 dJ1_addLast_1 (by decide) ?_
  refine v_aload_n (pc := 12) X dJ1_addLast_12 rfl 0 rfl ?_
  refine v_getM (pc := 13) X in_J1 (mem_fl 0 rfl List.mem_cons_self) rfl 0 (by decide) q188 (fun y h => h) rfl dJ1_addLast_13 ?_
  refine v_astore_n (pc := 16) (loc' := [(2, .ref ea), (0, .ref x), (1, .ref a)]) X dJ1_addLast_16 rfl (by decide) rfl ?_
  refine v_aload_n (pc := 17) X dJ1_addLast_17 rfl 0 rfl ?_
  refine v_aload_n (pc := 18) X dJ1_addLast_18 rfl 1 rfl ?_
  refine v_getM (pc := 19) X in_J1 (mem_fl 0 rfl List.mem_cons_self) rfl 2 (by decide) q190 (fun y h => h) rfl dJ1_addLast_19 ?_
  refine v_aload_n (pc := 22) X dJ1_addLast_22 rfl 2 rfl ?_
  refine v_aastO (pc := 23) X 1 3 rfl rfl (mem_fl 2 rfl hv) rfl q2457 rfl (by omega) (by decide) dJ1_addLast_23 (ws' := fl [[(x, .inr (11, [.ref ea, .int (nI h), .int (nI t)]))], [(ea, .inl (dd 3, 17, .inr (.inr (.inr (.inr (va_up e t (some a)))))))], ws]) rfl ?_
  refine v_aload_n (pc := 24) X dJ1_addLast_24 rfl 1 rfl ?_
  refine v_getM (pc := 25) X in_J1 (mem_fl 0 rfl List.mem_cons_self) rfl 1 (by decide) q189 (fun y h => h) rfl dJ1_addLast_25 ?_
  refine v_aload_n (pc := 28) X dJ1_addLast_28 rfl 1 rfl ?_
  refine v_aload_n (pc := 29) X dJ1_addLast_29 rfl 1 rfl ?_
  refine v_getM (pc := 30) X in_J1 (mem_fl 0 rfl List.mem_cons_self) rfl 2 (by decide) q190 (fun y h => h) rfl dJ1_addLast_30 ?_
  refine v_aload_n (pc := 33) X dJ1_addLast_33 rfl 0 rfl ?_
  refine v_alenM (pc := 34) X 3 (mem_fl 1 rfl List.mem_cons_self) rfl dJ1_addLast_34 ?_
  refine v_top (y := nI 17) rfl ?_
  refine v_read (pc := 35) X ⟨_, List.Perm.refl ([] ++ _)⟩ (r_S X (c_J1_inc (i := t) (by omega)) (lw_S q333 q334 q94 q335) hdJ1_inc ⟨Nat.le_of_ble_eq_true rfl, Nat.le_of_ble_eq_true rfl⟩ rfl rfl (Nat.le_of_ble_eq_true rfl) dJ1_addLast_35 ⟨Nat.le_of_ble_eq_true rfl, Nat.le_of_ble_eq_true rfl⟩) (fun r35 h35 => ?_)
  subst h35
  refine v_dup_x1 (pc := 38) X dJ1_addLast_38 rfl rfl ?_
  refine v_put (pc := 39) X in_J1 tyJ1 tyJ1_ok nmJ1 0 rfl rfl 2 (by decide) q190 (fun y h => h) rfl rfl rfl (Nat.le_of_ble_eq_true rfl) dJ1_addLast_39 (ws' := fl [[(x, .inr (11, [.ref ea, .int (nI h), .int (nI ((t + 1) % 17))]))], [(ea, .inl (dd 3, 17, .inr (.inr (.inr (.inr (va_up e t (some a)))))))], ws]) rfl ?_
  refine v_ic_neN (pc := 42) X (by omega) (by omega) 50 dJ1_addLast_42 (by decide) (fun h42 => ?_) (fun h42 => absurd h42 (by omega))
  exact v_vret (pc := 50) X hr dJ1_addLast_50 ⟨rfl, _, _, rfl, hD.add hl⟩
theorem hdJ1_pollFirst : yJ1_pollFirst.cls = RJ1 ∧ yJ1_pollFirst.cls ≠ "java/lang/invoke/MethodHandle" ∧ yJ1_pollFirst.cls ≠ "java/lang/invoke/VarHandle" ∧ (parseMethodDescriptor yJ1_pollFirst.desc).map (fun d => d.parameters.length) = some 0 := by decide +kernel
set_option maxHeartbeats 4000000 in
theorem c_J1_pollFirst {l_ : Launch} {D : va_G} {dd : Nat → ClassId} {x ea h t a : Nat} {e : Nat → Option Nat} {xs : List Nat} (hD : DqE e h t (a :: xs)) : MW l_ D dd yJ1_pollFirst cJ1_pollFirst 4 (some (.object "java/lang/Object")) 1 0 0 30 [.ref x] ([(x, .inr (11, [.ref ea, .int (nI h), .int (nI t)])), (ea, .inl (dd 3, 17, .inr (.inr (.inr (.inr e)))))]) (fun r w => r = some (.ref a) ∧ ∃ e2 h2, w = dqw dd x ea e2 h2 t ∧ DqE e2 h2 t xs) := by
  obtain ⟨hd1, hd2, hd3, hd4⟩ := id hD
  refine MW.intro (by decide) (Nat.le_of_ble_eq_true rfl) (fun p_ e_ s_ m_ as_ bl_ me_ c_ A_ X hr hnm => ?_)
  have X : VX p_ s_ m_ as_ me_ c_ cJ1_pollFirst 4 RJ1 D dd A_ := X
  refine v_eq (loc' := [(0, .ref x)]) rfl rfl rfl ?_
  refine v_aload_n (pc := 0) X dJ1_pollFirst_0 rfl 0 rfl ?_
  refine v_getM (pc := 1) X in_J1 (List.mem_of_getElem? (i := 0) rfl) rfl 0 (by decide) q188 (fun y h => h) rfl dJ1_pollFirst_1 ?_
  refine v_dup (pc := 4) X dJ1_pollFirst_4 rfl ?_
  refine v_astore_n (pc := 5) (loc' := [(1, .ref ea), (0, .ref x)]) X dJ1_pollFirst_5 rfl (by decide) rfl ?_
  refine v_aload_n (pc := 6) X dJ1_pollFirst_6 rfl 1 rfl ?_
  refine v_getM (pc := 7) X in_J1 (List.mem_of_getElem? (i := 0) rfl) rfl 1 (by decide) q189 (fun y h => h) rfl dJ1_pollFirst_7 ?_
  refine v_dup (pc := 10) X dJ1_pollFirst_10 rfl ?_
  refine v_istore_n (pc := 11) (loc' := [(2, .int (nI h)), (1, .ref ea), (0, .ref x)]) X dJ1_pollFirst_11 rfl (by decide) rfl ?_
  refine v_readA (pc := 12) X ⟨[], perm_nil _⟩ (r_S X (c_J1_elementAt (i := h) (List.mem_of_getElem? (i := 1) rfl) (by omega) hD.first) (lw_S q1064 q1065 q94 q1066) hdJ1_elementAt ⟨Nat.le_of_ble_eq_true rfl, Nat.le_of_ble_eq_true rfl⟩ rfl rfl (Nat.le_of_ble_eq_true rfl) dJ1_pollFirst_12 ⟨Nat.le_of_ble_eq_true rfl, Nat.le_of_ble_eq_true rfl⟩) ?_
  refine v_astore_n (pc := 15) (loc' := [(3, .ref a), (2, .int (nI h)), (1, .ref ea), (0, .ref x)]) X dJ1_pollFirst_15 rfl (by decide) rfl ?_
  refine v_aload_n (pc := 16) X dJ1_pollFirst_16 rfl 0 rfl ?_
  refine v_ifnull (pc := 17) X dJ1_pollFirst_17 ?_
  refine v_aload_n (pc := 20) X dJ1_pollFirst_20 rfl 2 rfl ?_
  refine v_iload_n (pc := 21) X dJ1_pollFirst_21 rfl 1 rfl ?_
  refine v_aconst_null (pc := 22) X dJ1_pollFirst_22 ?_
  refine v_aastN (pc := 23) X 1 3 rfl rfl rfl (by omega) (by decide) dJ1_pollFirst_23 (ws' := [(x, .inr (11, [.ref ea, .int (nI h), .int (nI t)])), (ea, .inl (dd 3, 17, .inr (.inr (.inr (.inr (va_up e h none))))))]) rfl ?_
  refine v_aload_n (pc := 24) X dJ1_pollFirst_24 rfl 3 rfl ?_
  refine v_iload_n (pc := 25) X dJ1_pollFirst_25 rfl 1 rfl ?_
  refine v_aload_n (pc := 26) X dJ1_pollFirst_26 rfl 2 rfl ?_
  refine v_alenM (pc := 27) X 3 (List.mem_of_getElem? (i := 1) rfl) rfl dJ1_pollFirst_27 ?_
  refine v_top (y := nI 17) rfl ?_
  refine v_read (pc := 28) X ⟨_, List.Perm.refl ([] ++ _)⟩ (r_S X (c_J1_inc (i := h) (by omega)) (lw_S q333 q334 q94 q335) hdJ1_inc ⟨Nat.le_of_ble_eq_true rfl, Nat.le_of_ble_eq_true rfl⟩ rfl rfl (Nat.le_of_ble_eq_true rfl) dJ1_pollFirst_28 ⟨Nat.le_of_ble_eq_true rfl, Nat.le_of_ble_eq_true rfl⟩) (fun r28 h28 => ?_)
  subst h28
  refine v_put (pc := 31) X in_J1 tyJ1 tyJ1_ok nmJ1 0 rfl rfl 1 (by decide) q189 (fun y h => h) rfl rfl rfl (Nat.le_of_ble_eq_true rfl) dJ1_pollFirst_31 (ws' := [(x, .inr (11, [.ref ea, .int (nI ((h + 1) % 17)), .int (nI t)])), (ea, .inl (dd 3, 17, .inr (.inr (.inr (.inr (va_up e h none))))))]) rfl ?_
  refine v_aload_n (pc := 34) X dJ1_pollFirst_34 rfl 0 rfl ?_
  exact v_aret (pc := 35) X hr (Or.inl ⟨_, rfl⟩) dJ1_pollFirst_35 ⟨rfl, _, _, rfl, hD.pf⟩
theorem hdJ1_pollLast : yJ1_pollLast.cls = RJ1 ∧ yJ1_pollLast.cls ≠ "java/lang/invoke/MethodHandle" ∧ yJ1_pollLast.cls ≠ "java/lang/invoke/VarHandle" ∧ (parseMethodDescriptor yJ1_pollLast.desc).map (fun d => d.parameters.length) = some 0 := by decide +kernel
set_option maxHeartbeats 4000000 in
theorem c_J1_pollLast {l_ : Launch} {D : va_G} {dd : Nat → ClassId} {x ea h t a : Nat} {e : Nat → Option Nat} {xs : List Nat} (hD : DqE e h t (xs ++ [a])) : MW l_ D dd yJ1_pollLast cJ1_pollLast 4 (some (.object "java/lang/Object")) 1 0 0 30 [.ref x] ([(x, .inr (11, [.ref ea, .int (nI h), .int (nI t)])), (ea, .inl (dd 3, 17, .inr (.inr (.inr (.inr e)))))]) (fun r w => r = some (.ref a) ∧ ∃ e2 t2, w = dqw dd x ea e2 h t2 ∧ DqE e2 h t2 xs) := by
  obtain ⟨hd1, hd2, hd3, hd4⟩ := id hD
  refine MW.intro (by decide) (Nat.le_of_ble_eq_true rfl) (fun p_ e_ s_ m_ as_ bl_ me_ c_ A_ X hr hnm => ?_)
  have X : VX p_ s_ m_ as_ me_ c_ cJ1_pollLast 4 RJ1 D dd A_ := X
  refine v_eq (loc' := [(0, .ref x)]) rfl rfl rfl ?_
  refine v_aload_n (pc := 0) X dJ1_pollLast_0 rfl 0 rfl ?_
  refine v_getM (pc := 1) X in_J1 (List.mem_of_getElem? (i := 0) rfl) rfl 0 (by decide) q188 (fun y h => h) rfl dJ1_pollLast_1 ?_
  refine v_dup (pc := 4) X dJ1_pollLast_4 rfl ?_
  refine v_astore_n (pc := 5) (loc' := [(1, .ref ea), (0, .ref x)]) X dJ1_pollLast_5 rfl (by decide) rfl ?_
  refine v_aload_n (pc := 6) X dJ1_pollLast_6 rfl 1 rfl ?_
  refine v_getM (pc := 7) X in_J1 (List.mem_of_getElem? (i := 0) rfl) rfl 2 (by decide) q190 (fun y h => h) rfl dJ1_pollLast_7 ?_
  refine v_aload_n (pc := 10) X dJ1_pollLast_10 rfl 0 rfl ?_
  refine v_alenM (pc := 11) X 3 (List.mem_of_getElem? (i := 1) rfl) rfl dJ1_pollLast_11 ?_
  refine v_top (y := nI 17) rfl ?_
  refine v_read (pc := 12) X ⟨_, List.Perm.refl ([] ++ _)⟩ (r_S X (c_J1_dec (i := t) (by omega)) (lw_S q1940 q1941 q94 q1942) hdJ1_dec ⟨Nat.le_of_ble_eq_true rfl, Nat.le_of_ble_eq_true rfl⟩ rfl rfl (Nat.le_of_ble_eq_true rfl) dJ1_pollLast_12 ⟨Nat.le_of_ble_eq_true rfl, Nat.le_of_ble_eq_true rfl⟩) (fun r12 h12 => ?_)
  subst h12
  refine v_dup (pc := 15) X dJ1_pollLast_15 rfl ?_
  refine v_istore_n (pc := 16) (loc' := [(2, .int (nI ((t + 16) % 17))), (1, .ref ea), (0, .ref x)]) X dJ1_pollLast_16 rfl (by decide) rfl ?_
  refine v_readA (pc := 17) X ⟨[], perm_nil _⟩ (r_S X (c_J1_elementAt (i := (t + 16) % 17) (List.mem_of_getElem? (i := 1) rfl) (by omega) hD.last) (lw_S q1064 q1065 q94 q1066) hdJ1_elementAt ⟨Nat.le_of_ble_eq_true rfl, Nat.le_of_ble_eq_true rfl⟩ rfl rfl (Nat.le_of_ble_eq_true rfl) dJ1_pollLast_17 ⟨Nat.le_of_ble_eq_true rfl, Nat.le_of_ble_eq_true rfl⟩) ?_
  refine v_astore_n (pc := 20) (loc' := [(3, .ref a), (2, .int (nI ((t + 16) % 17))), (1, .ref ea), (0, .ref x)]) X dJ1_pollLast_20 rfl (by decide) rfl ?_
  refine v_aload_n (pc := 21) X dJ1_pollLast_21 rfl 0 rfl ?_
  refine v_ifnull (pc := 22) X dJ1_pollLast_22 ?_
  refine v_aload_n (pc := 25) X dJ1_pollLast_25 rfl 2 rfl ?_
  refine v_aload_n (pc := 26) X dJ1_pollLast_26 rfl 3 rfl ?_
  refine v_iload_n (pc := 27) X dJ1_pollLast_27 rfl 1 rfl ?_
  refine v_dup_x1 (pc := 28) X dJ1_pollLast_28 rfl rfl ?_
  refine v_put (pc := 29) X in_J1 tyJ1 tyJ1_ok nmJ1 0 rfl rfl 2 (by decide) q190 (fun y h => h) rfl rfl rfl (Nat.le_of_ble_eq_true rfl) dJ1_pollLast_29 (ws' := [(x, .inr (11, [.ref ea, .int (nI h), .int (nI ((t + 16) % 17))])), (ea, .inl (dd 3, 17, .inr (.inr (.inr (.inr e)))))]) rfl ?_
  refine v_aconst_null (pc := 32) X dJ1_pollLast_32 ?_
  refine v_aastN (pc := 33) X 1 3 rfl rfl rfl (by omega) (by decide) dJ1_pollLast_33 (ws' := [(x, .inr (11, [.ref ea, .int (nI h), .int (nI ((t + 16) % 17))])), (ea, .inl (dd 3, 17, .inr (.inr (.inr (.inr (va_up e ((t + 16) % 17) none))))))]) rfl ?_
  refine v_aload_n (pc := 34) X dJ1_pollLast_34 rfl 0 rfl ?_
  exact v_aret (pc := 35) X hr (Or.inl ⟨_, rfl⟩) dJ1_pollLast_35 ⟨rfl, _, _, rfl, hD.pl⟩
theorem hdJ0_init : yJ0_init.name = "<init>" ∧ yJ0_init.cls ≠ "java/lang/invoke/MethodHandle" ∧ yJ0_init.cls ≠ "java/lang/invoke/VarHandle" ∧ (parseMethodDescriptor yJ0_init.desc).map (fun d => d.parameters.length) = some 0 := by decide +kernel
set_option maxHeartbeats 4000000 in
theorem c_J0_init {l_ : Launch} {D : va_G} {dd : Nat → ClassId} {x : Nat}  : MW l_ D dd yJ0_init cJ0_init 1 none 1 0 0 20 [.ref x] ([]) (fun r w => r = none ∧ w = []) := by
  refine MW.intro (by decide) (Nat.le_of_ble_eq_true rfl) (fun p_ e_ s_ m_ as_ bl_ me_ c_ A_ X hr hnm => ?_)
  have X : VX p_ s_ m_ as_ me_ c_ cJ0_init 1 RJ0 D dd A_ := X
  refine v_eq (loc' := [(0, .ref x)]) rfl rfl rfl ?_
  refine v_aload_n (pc := 0) X dJ0_init_0 rfl 0 rfl ?_
  refine v_objInit (pc := 1) X q185 q137 q138 ⟨Nat.le_of_ble_eq_true rfl, Nat.le_of_ble_eq_true rfl⟩ (Nat.le_of_ble_eq_true rfl) dJ0_init_1 ?_
  exact v_vret (pc := 4) X hr dJ0_init_4 ⟨rfl, rfl⟩
theorem hdJ1_init : yJ1_init.name = "<init>" ∧ yJ1_init.cls ≠ "java/lang/invoke/MethodHandle" ∧ yJ1_init.cls ≠ "java/lang/invoke/VarHandle" ∧ (parseMethodDescriptor yJ1_init.desc).map (fun d => d.parameters.length) = some 0 := by decide +kernel
set_option maxHeartbeats 4000000 in
theorem c_J1_init {l_ : Launch} {D : va_G} {dd : Nat → ClassId} {x : Nat}  : MW l_ D dd yJ1_init cJ1_init 1 none 2 1 40 45 [.ref x] ([(x, .inr (11, [.null, .int 0, .int 0]))]) (fun r w => r = none ∧ ∃ ea, w = dqw dd x ea (fun _ => none) 0 0) := by
  refine MW.intro (by decide) (Nat.le_of_ble_eq_true rfl) (fun p_ e_ s_ m_ as_ bl_ me_ c_ A_ X hr hnm => ?_)
  have X : VX p_ s_ m_ as_ me_ c_ cJ1_init 1 RJ1 D dd A_ := X
  refine v_eq (loc' := [(0, .ref x)]) rfl rfl rfl ?_
  refine v_aload_n (pc := 0) X dJ1_init_0 rfl 0 rfl ?_
  refine v_frame (pc := 1) X (wr := [(x, .inr (11, [.null, .int 0, .int 0]))]) (List.Perm.refl _) (r_I X c_J0_init q184 q93 q182 q183 hdJ0_init ⟨Nat.le_of_ble_eq_true rfl, Nat.le_of_ble_eq_true rfl⟩ rfl rfl (Nat.le_of_ble_eq_true rfl) dJ1_init_1 ⟨Nat.le_of_ble_eq_true rfl, Nat.le_of_ble_eq_true rfl⟩) (fun v1 w1 h1 => ?_)
  obtain ⟨rfl, rfl⟩ := h1
  refine v_eq (ws' := [(x, .inr (11, [.null, .int 0, .int 0]))]) rfl rfl rfl ?_
  refine v_aload_n (pc := 4) X dJ1_init_4 rfl 0 rfl ?_
  refine v_bipush (pc := 5) (v := nI 17) X dJ1_init_5 rfl ?_
  refine v_newq (pc := 7) X 3 rfl q186 (by decide) rfl (by decide) (by decide) ⟨Nat.le_of_ble_eq_true rfl, Nat.le_of_ble_eq_true rfl⟩ dJ1_init_7 (fun q1 => ?_)
  refine v_perm (ws' := [(q1, .inl (dd 3, 17, .inr (.inr (.inr (.inr (fun _ => none))))))] ++ [(x, .inr (11, [.null, .int 0, .int 0]))]) List.perm_append_comm ?_
  refine v_eq (ws' := [(q1, .inl (dd 3, 17, .inr (.inr (.inr (.inr (fun _ => none)))))), (x, .inr (11, [.null, .int 0, .int 0]))]) rfl rfl rfl ?_
  refine v_put (pc := 10) X in_J1 tyJ1 tyJ1_ok nmJ1 1 rfl rfl 0 (by decide) q188 (fun y h => h) rfl rfl rfl (Nat.le_of_ble_eq_true rfl) dJ1_init_10 (ws' := [(q1, .inl (dd 3, 17, .inr (.inr (.inr (.inr (fun _ => none)))))), (x, .inr (11, [.ref q1, .int 0, .int 0]))]) rfl ?_
  refine v_perm (ws' := [(x, .inr (11, [.ref q1, .int 0, .int 0])), (q1, .inl (dd 3, 17, .inr (.inr (.inr (.inr (fun _ => none))))))]) ((mv_perm 0 _).trans (mv_perm 1 _)) ?_
  refine v_widen (k := 1) (n := 40) (Nat.le_of_ble_eq_true rfl) (Nat.le_of_ble_eq_true rfl) ?_
  exact v_vret (pc := 13) X hr dJ1_init_13 ⟨rfl, _, rfl⟩

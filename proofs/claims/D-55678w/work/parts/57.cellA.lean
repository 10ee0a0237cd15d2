/-- a row shifted down between i and k -/
def shf {α : Type} (f : Nat → α) (i k : Nat) : Nat → α := fun j => if i ≤ j ∧ j < k then f (j + 1) else f j
theorem shf_0 {α : Type} (f : Nat → α) (i : Nat) : shf f i i = f := by
  funext j; unfold shf; rw [if_neg (by omega)]
theorem shf_at {α : Type} (f : Nat → α) {i k : Nat} : shf f i k (k + 1) = f (k + 1) := by unfold shf; rw [if_neg (by omega)]
theorem shf_s (f : Nat → Int32) {i k : Nat} (h : i ≤ k) : upd (shf f i k) k (shf f i k (k + 1)) = shf f i (k + 1) := by
  rw [shf_at]
  funext j
  unfold upd shf
  by_cases e : j = k
  · rw [if_pos e, if_pos (by omega), e]
  · rw [if_neg e]
    by_cases e2 : i ≤ j ∧ j < k
    · rw [if_pos e2, if_pos (by omega)]
    · rw [if_neg e2, if_neg (by omega)]
theorem shf_sq (f : Nat → Option Nat) {i k : Nat} (h : i ≤ k) : va_up (shf f i k) k (shf f i k (k + 1)) = shf f i (k + 1) := by
  rw [shf_at]
  funext j
  unfold va_up shf
  by_cases e : j = k
  · rw [if_pos e, if_pos (by omega), e]
  · rw [if_neg e]
    by_cases e2 : i ≤ j ∧ j < k
    · rw [if_pos e2, if_pos (by omega)]
    · rw [if_neg e2, if_neg (by omega)]
theorem hdX2_vats : yX2_vats.cls = RX2 ∧ yX2_vats.cls ≠ "java/lang/invoke/MethodHandle" ∧ yX2_vats.cls ≠ "java/lang/invoke/VarHandle" ∧ (parseMethodDescriptor yX2_vats.desc).map (fun d => d.parameters.length) = some 0 := by decide +kernel
set_option maxHeartbeats 4000000 in
theorem c_X2_vats {l_ : Launch} {D : va_G} {dd : Nat → ClassId} {x sa ca pa n C np : Nat} {ws : va_W} (hn : n < 1000) (hx : (x, .inr (1, [.ref sa, .int (nI n), .ref ca, .int (nI C), .ref pa, .int (nI np)])) ∈ ws) : MW l_ D dd yX2_vats cX2_vats 1 (some .int) 1 0 0 21 [.ref x] (ws) (RI (fun r => nI (n - 1) = r) ws) := by
  refine MW.intro (by decide) (Nat.le_of_ble_eq_true rfl) (fun p_ e_ s_ m_ as_ bl_ me_ c_ A_ X hr hnm => ?_)
  have X : VX p_ s_ m_ as_ me_ c_ cX2_vats 1 RX2 D dd A_ := X
  refine v_eq (loc' := [(0, .ref x)]) rfl rfl rfl ?_
  refine v_iconst (pc := 0) (v := nI 0) X dX2_vats_0 rfl ?_
  refine v_aload_n (pc := 1) X dX2_vats_1 rfl 0 rfl ?_
  refine v_getM (pc := 2) X in_X2 hx rfl 1 (by decide) q150 (fun y h => h) rfl dX2_vats_2 ?_
  refine v_iconst (pc := 5) (v := nI 1) X dX2_vats_5 rfl ?_
  refine v_isub (pc := 6) X dX2_vats_6 ?_
  refine v_max (pc := 7) X q925 ⟨Nat.le_of_ble_eq_true rfl, Nat.le_of_ble_eq_true rfl⟩ (Nat.le_of_ble_eq_true rfl) ⟨Nat.le_of_ble_eq_true rfl, Nat.le_of_ble_eq_true rfl⟩ dX2_vats_7 ?_
  refine v_top (y := (nI (n - 1))) (vmaxI hn) ?_
  exact v_iret (pc := 10) X hr dX2_vats_10 ⟨⟨_, rfl, rfl⟩, rfl⟩
theorem hdX2_isRun : yX2_isRun.cls = RX2 ∧ yX2_isRun.cls ≠ "java/lang/invoke/MethodHandle" ∧ yX2_isRun.cls ≠ "java/lang/invoke/VarHandle" ∧ (parseMethodDescriptor yX2_isRun.desc).map (fun d => d.parameters.length) = some 2 := by decide +kernel
set_option maxHeartbeats 4000000 in
theorem c_X2_isRun {l_ : Launch} {D : va_G} {dd : Nat → ClassId} {x sa ca pa n C np : Nat} {ws : va_W} {a b : Int32} (hn : n ≤ 9) (hx : (x, .inr (1, [.ref sa, .int (nI n), .ref ca, .int (nI C), .ref pa, .int (nI np)])) ∈ ws) : MW l_ D dd yX2_isRun cX2_isRun 3 (some .boolean) 2 0 0 60 [.ref x, .int a, .int b] (ws) (RI (fun r => bI (isRunP n a b) = r) ws) := by
  refine MW.intro (by decide) (Nat.le_of_ble_eq_true rfl) (fun p_ e_ s_ m_ as_ bl_ me_ c_ A_ X hr hnm => ?_)
  have X : VX p_ s_ m_ as_ me_ c_ cX2_isRun 3 RX2 D dd A_ := X
  refine v_eq (loc' := [(0, .ref x), (1, .int a), (2, .int b)]) rfl rfl rfl ?_
  refine v_iload_n (pc := 0) X dX2_isRun_0 rfl 2 rfl ?_
  refine v_iconst (pc := 1) (v := nI 0) X dX2_isRun_1 rfl ?_
  refine v_aload_n (pc := 2) X dX2_isRun_2 rfl 0 rfl ?_
  refine v_read (pc := 3) X ⟨[], perm_nil _⟩ (r_V X (c_X2_vats (x := x) (n := n) (by omega) hx) hx rfl rfl (lw_V q921 q922 q923 q92 q924) hdX2_vats ⟨Nat.le_of_ble_eq_true rfl, Nat.le_of_ble_eq_true rfl⟩ rfl rfl (Nat.le_of_ble_eq_true rfl) dX2_isRun_3 ⟨Nat.le_of_ble_eq_true rfl, Nat.le_of_ble_eq_true rfl⟩) (fun r3 h3 => ?_)
  subst h3
  refine v_iconst (pc := 6) (v := nI 1) X dX2_isRun_6 rfl ?_
  refine v_isub (pc := 7) X dX2_isRun_7 ?_
  refine v_read (pc := 8) X ⟨_, List.Perm.refl _⟩ (r_SN X c_X1_in q1000 q91 q1192 q999 hdX1_in ⟨Nat.le_of_ble_eq_true rfl, Nat.le_of_ble_eq_true rfl⟩ rfl rfl (Nat.le_of_ble_eq_true rfl) dX2_isRun_8 ⟨Nat.le_of_ble_eq_true rfl, Nat.le_of_ble_eq_true rfl⟩) (fun r8 h8 => ?_)
  subst h8
  refine v_if_eqB (pc := 11) X 27 dX2_isRun_11 (by decide) (fun h11 => ?_) (fun h11 => ?_)
  · refine v_iconst (pc := 27) (v := nI 0) X dX2_isRun_27 rfl ?_
    exact v_zret (pc := 28) X hr rfl dX2_isRun_28 ⟨⟨_, rfl, bI_f (fun z => h11 ((fun q => ⟨by have := q.1; have h3 := q.2.2.1; have h4 : nI 0 ≤ b := Int32.le_trans this h3; exact h4, q.2.2.2⟩) (isRun_i hn z)))⟩, rfl⟩
  · refine v_iload_n (pc := 14) X dX2_isRun_14 rfl 1 rfl ?_
    refine v_iconst (pc := 15) (v := nI 0) X dX2_isRun_15 rfl ?_
    refine v_iload_n (pc := 16) X dX2_isRun_16 rfl 2 rfl ?_
    refine v_read (pc := 17) X ⟨_, List.Perm.refl _⟩ (r_SN X c_X1_in q1000 q91 q1192 q999 hdX1_in ⟨Nat.le_of_ble_eq_true rfl, Nat.le_of_ble_eq_true rfl⟩ rfl rfl (Nat.le_of_ble_eq_true rfl) dX2_isRun_17 ⟨Nat.le_of_ble_eq_true rfl, Nat.le_of_ble_eq_true rfl⟩) (fun r17 h17 => ?_)
    subst h17
    refine v_if_eqB (pc := 20) X 27 dX2_isRun_20 (by decide) (fun h20 => ?_) (fun h20 => ?_)
    · refine v_iconst (pc := 27) (v := nI 0) X dX2_isRun_27 rfl ?_
      exact v_zret (pc := 28) X hr rfl dX2_isRun_28 ⟨⟨_, rfl, bI_f (fun z => h20 ⟨(isRun_i hn z).1, (isRun_i hn z).2.2.1⟩)⟩, rfl⟩
    · refine v_iconst (pc := 23) (v := nI 1) X dX2_isRun_23 rfl ?_
      refine v_goto (pc := 24) X 28 dX2_isRun_24 (by decide) ?_
      exact v_zret (pc := 28) X hr rfl dX2_isRun_28 ⟨⟨_, rfl, bI_t (isRun_o hn h20.1 h20.2 h11.2)⟩, rfl⟩
theorem hdX2_side : yX2_side.cls = RX2 ∧ yX2_side.cls ≠ "java/lang/invoke/MethodHandle" ∧ yX2_side.cls ≠ "java/lang/invoke/VarHandle" ∧ (parseMethodDescriptor yX2_side.desc).map (fun d => d.parameters.length) = some 1 := by decide +kernel
set_option maxHeartbeats 4000000 in
theorem c_X2_side {l_ : Launch} {D : va_G} {dd : Nat → ClassId}  {x sa ca pa n C np : Nat} {f : Nat → Int32} {v : Int32} (hst : l_.stackTraces = false) (hn : n ≤ 9) : XW l_ D dd yX2_side (ws_ yX2_side cX2_side 2 (some .int)) 8 1 8 150 [.ref x, .int v] ([(x, .inr (1, [.ref sa, .int (nI n), .ref ca, .int (nI C), .ref pa, .int (nI np)])), (sa, .inl (dd 0, 9, .inl f))]) (fun r w => r = some (.int (nI n)) ∧ ¬ n = 9 ∧ w = [(x, .inr (1, [.ref sa, .int (nI (n + 1)), .ref ca, .int (nI C), .ref pa, .int (nI np)])), (sa, .inl (dd 0, 9, .inl (upd f n v)))]) (fun q E w => E = "VatBrackets$Refused" ∧ ∃ fs, w = (q, .inr (6, fs)) :: [(x, .inr (1, [.ref sa, .int (nI n), .ref ca, .int (nI C), .ref pa, .int (nI np)])), (sa, .inl (dd 0, 9, .inl f))] ∧ RfIs fs (nI 1) (nI 9) ∧ n = 9) := by
  refine XW.intro (by decide) (Nat.le_of_ble_eq_true rfl) (fun p_ e_ s_ m_ as_ bl_ me_ c_ A_ X hr ht => ?_)
  have X : VX p_ s_ m_ as_ me_ c_ cX2_side 2 RX2 D dd A_ := X
  refine v_eq (loc' := [(0, .ref x), (1, .int v)]) rfl rfl rfl ?_
  refine v_aload_n (pc := 0) X dX2_side_0 rfl 0 rfl ?_
  refine v_getM (pc := 1) X in_X2 (List.mem_of_getElem? (i := 0) rfl) rfl 1 (by decide) q150 (fun y h => h) rfl dX2_side_1 ?_
  refine v_bipush (pc := 4) (v := nI 9) X dX2_side_4 rfl ?_
  refine v_ic_neN (pc := 6) X (by omega) (by omega) 13 dX2_side_6 (by decide) (fun h6 => ?_) (fun h6 => ?_)
  · refine v_iconst (pc := 13) (v := nI 0) X dX2_side_13 rfl ?_
    refine v_iconst (pc := 14) (v := nI 1) X dX2_side_14 rfl ?_
    refine v_bipush (pc := 15) (v := nI 9) X dX2_side_15 rfl ?_
    refine v_frame (pc := 17) X (wr := [(x, .inr (1, [.ref sa, .int (nI n), .ref ca, .int (nI C), .ref pa, .int (nI np)])), (sa, .inl (dd 0, 9, .inl f))]) (List.Perm.refl _) (r_SN X c_refuse0 q1025 q91 q1023 q1024 hdX1_refuse ⟨Nat.le_of_ble_eq_true rfl, Nat.le_of_ble_eq_true rfl⟩ rfl rfl (Nat.le_of_ble_eq_true rfl) dX2_side_17 ⟨Nat.le_of_ble_eq_true rfl, Nat.le_of_ble_eq_true rfl⟩) (fun v17 w17 h17 => ?_)
    obtain ⟨rfl, rfl⟩ := h17
    refine v_eq (ws' := [(x, .inr (1, [.ref sa, .int (nI n), .ref ca, .int (nI C), .ref pa, .int (nI np)])), (sa, .inl (dd 0, 9, .inl f))]) rfl rfl rfl ?_
    refine v_aload_n (pc := 20) X dX2_side_20 rfl 0 rfl ?_
    refine v_getM (pc := 21) X in_X2 (List.mem_of_getElem? (i := 0) rfl) rfl 0 (by decide) q147 (fun y h => h) rfl dX2_side_21 ?_
    refine v_aload_n (pc := 24) X dX2_side_24 rfl 0 rfl ?_
    refine v_getM (pc := 25) X in_X2 (List.mem_of_getElem? (i := 0) rfl) rfl 1 (by decide) q150 (fun y h => h) rfl dX2_side_25 ?_
    refine v_iload_n (pc := 28) X dX2_side_28 rfl 1 rfl ?_
    refine v_iast (pc := 29) X 1 rfl rfl (by omega) (by decide) dX2_side_29 (ws' := [(x, .inr (1, [.ref sa, .int (nI n), .ref ca, .int (nI C), .ref pa, .int (nI np)])), (sa, .inl (dd 0, 9, .inl (upd f n v)))]) rfl ?_
    refine v_aload_n (pc := 30) X dX2_side_30 rfl 0 rfl ?_
    refine v_dup (pc := 31) X dX2_side_31 rfl ?_
    refine v_getM (pc := 32) X in_X2 (List.mem_of_getElem? (i := 0) rfl) rfl 1 (by decide) q150 (fun y h => h) rfl dX2_side_32 ?_
    refine v_iconst (pc := 35) (v := nI 1) X dX2_side_35 rfl ?_
    refine v_iaddN (pc := 36) X dX2_side_36 ?_
    refine v_put (pc := 37) X in_X2 tyX2 tyX2_ok nmX2 0 rfl rfl 1 (by decide) q150 (fun y h => h) rfl rfl rfl (Nat.le_of_ble_eq_true rfl) dX2_side_37 (ws' := [(x, .inr (1, [.ref sa, .int (nI (n + 1)), .ref ca, .int (nI C), .ref pa, .int (nI np)])), (sa, .inl (dd 0, 9, .inl (upd f n v)))]) rfl ?_
    refine v_aload_n (pc := 40) X dX2_side_40 rfl 0 rfl ?_
    refine v_read (pc := 41) X ⟨[], perm_nil _⟩ (r_V X (c_X2_vats (n := n + 1) (by omega) (List.mem_of_getElem? (i := 0) rfl)) (List.mem_of_getElem? (i := 0) rfl) rfl rfl (lw_V q921 q922 q923 q92 q924) hdX2_vats ⟨Nat.le_of_ble_eq_true rfl, Nat.le_of_ble_eq_true rfl⟩ rfl rfl (Nat.le_of_ble_eq_true rfl) dX2_side_41 ⟨Nat.le_of_ble_eq_true rfl, Nat.le_of_ble_eq_true rfl⟩) (fun r41 h41 => ?_)
    subst h41
    refine v_widen (k := 1) (n := 8) (Nat.le_of_ble_eq_true rfl) (Nat.le_of_ble_eq_true rfl) ?_
    exact v_xr (v_iret (pc := 44) X hr dX2_side_44 ⟨(by rw [Nat.add_sub_cancel]), h6, rfl⟩)
  · refine v_iconst (pc := 9) (v := nI 1) X dX2_side_9 rfl ?_
    refine v_goto (pc := 10) X 14 dX2_side_10 (by decide) ?_
    refine v_iconst (pc := 14) (v := nI 1) X dX2_side_14 rfl ?_
    refine v_bipush (pc := 15) (v := nI 9) X dX2_side_15 rfl ?_
    refine v_frameX (pc := 17) X (wr := [(x, .inr (1, [.ref sa, .int (nI n), .ref ca, .int (nI C), .ref pa, .int (nI np)])), (sa, .inl (dd 0, 9, .inl f))]) (List.Perm.refl _) (x_SN X (c_refuse1 hst) q1025 q91 q1023 q1024 hdX1_refuse ⟨Nat.le_of_ble_eq_true rfl, Nat.le_of_ble_eq_true rfl⟩ rfl rfl (Nat.le_of_ble_eq_true rfl) dX2_side_17 ⟨Nat.le_of_ble_eq_true rfl, Nat.le_of_ble_eq_true rfl⟩) (fun q17 E17 w17 x17 => ?_) (fun v17 w17 h17 => h17.elim)
    obtain ⟨rfl, fs17, rfl, hf17⟩ := x17
    exact vt_out X (fun z hz => (ht z hz).elim) ((Nat.le_of_ble_eq_true rfl)) ((Nat.le_of_ble_eq_true rfl)) ⟨rfl, _, rfl, hf17, h6⟩
theorem hdX2_set : yX2_set.cls = RX2 ∧ yX2_set.cls ≠ "java/lang/invoke/MethodHandle" ∧ yX2_set.cls ≠ "java/lang/invoke/VarHandle" ∧ (parseMethodDescriptor yX2_set.desc).map (fun d => d.parameters.length) = some 2 := by decide +kernel
set_option maxHeartbeats 4000000 in
theorem c_X2_set {l_ : Launch} {D : va_G} {dd : Nat → ClassId}  {x sa ca pa n C np : Nat} {f : Nat → Int32} {p : Nat} {v : Int32} (hst : l_.stackTraces = false) (hp : p < 9) : XW l_ D dd yX2_set (ws_ yX2_set cX2_set 4 (some .int)) 8 1 8 150 [.ref x, .int (nI p), .int v] ([(x, .inr (1, [.ref sa, .int (nI n), .ref ca, .int (nI C), .ref pa, .int (nI np)])), (sa, .inl (dd 0, 9, .inl f))]) (fun r w => r = some (.int (f p)) ∧ ¬ f p = v ∧ w = [(x, .inr (1, [.ref sa, .int (nI n), .ref ca, .int (nI C), .ref pa, .int (nI np)])), (sa, .inl (dd 0, 9, .inl (upd f p v)))]) (fun q E w => E = "VatBrackets$Refused" ∧ ∃ fs, w = (q, .inr (6, fs)) :: [(x, .inr (1, [.ref sa, .int (nI n), .ref ca, .int (nI C), .ref pa, .int (nI np)])), (sa, .inl (dd 0, 9, .inl f))] ∧ RfIs fs (nI 3) v ∧ f p = v) := by
  refine XW.intro (by decide) (Nat.le_of_ble_eq_true rfl) (fun p_ e_ s_ m_ as_ bl_ me_ c_ A_ X hr ht => ?_)
  have X : VX p_ s_ m_ as_ me_ c_ cX2_set 4 RX2 D dd A_ := X
  refine v_eq (loc' := [(0, .ref x), (1, .int (nI p)), (2, .int v)]) rfl rfl rfl ?_
  refine v_aload_n (pc := 0) X dX2_set_0 rfl 0 rfl ?_
  refine v_getM (pc := 1) X in_X2 (List.mem_of_getElem? (i := 0) rfl) rfl 0 (by decide) q147 (fun y h => h) rfl dX2_set_1 ?_
  refine v_iload_n (pc := 4) X dX2_set_4 rfl 1 rfl ?_
  refine v_iaM (pc := 5) X (List.mem_of_getElem? (i := 1) rfl) rfl (by omega) (by decide) dX2_set_5 ?_
  refine v_istore_n (pc := 6) (loc' := [(3, .int (f p)), (0, .ref x), (1, .int (nI p)), (2, .int v)]) X dX2_set_6 rfl (by decide) rfl ?_
  refine v_iload_n (pc := 7) X dX2_set_7 rfl 0 rfl ?_
  refine v_iload_n (pc := 8) X dX2_set_8 rfl 3 rfl ?_
  refine v_ic_ne (pc := 9) X 16 dX2_set_9 (by decide) (fun h9 => ?_) (fun h9 => ?_)
  · refine v_iconst (pc := 16) (v := nI 0) X dX2_set_16 rfl ?_
    refine v_iconst (pc := 17) (v := nI 3) X dX2_set_17 rfl ?_
    refine v_iload_n (pc := 18) X dX2_set_18 rfl 3 rfl ?_
    refine v_frame (pc := 19) X (wr := [(x, .inr (1, [.ref sa, .int (nI n), .ref ca, .int (nI C), .ref pa, .int (nI np)])), (sa, .inl (dd 0, 9, .inl f))]) (List.Perm.refl _) (r_SN X c_refuse0 q1025 q91 q1023 q1024 hdX1_refuse ⟨Nat.le_of_ble_eq_true rfl, Nat.le_of_ble_eq_true rfl⟩ rfl rfl (Nat.le_of_ble_eq_true rfl) dX2_set_19 ⟨Nat.le_of_ble_eq_true rfl, Nat.le_of_ble_eq_true rfl⟩) (fun v19 w19 h19 => ?_)
    obtain ⟨rfl, rfl⟩ := h19
    refine v_eq (ws' := [(x, .inr (1, [.ref sa, .int (nI n), .ref ca, .int (nI C), .ref pa, .int (nI np)])), (sa, .inl (dd 0, 9, .inl f))]) rfl rfl rfl ?_
    refine v_aload_n (pc := 22) X dX2_set_22 rfl 1 rfl ?_
    refine v_getM (pc := 23) X in_X2 (List.mem_of_getElem? (i := 0) rfl) rfl 0 (by decide) q147 (fun y h => h) rfl dX2_set_23 ?_
    refine v_iload_n (pc := 26) X dX2_set_26 rfl 2 rfl ?_
    refine v_iload_n (pc := 27) X dX2_set_27 rfl 3 rfl ?_
    refine v_iast (pc := 28) X 1 rfl rfl (by omega) (by decide) dX2_set_28 (ws' := [(x, .inr (1, [.ref sa, .int (nI n), .ref ca, .int (nI C), .ref pa, .int (nI np)])), (sa, .inl (dd 0, 9, .inl (upd f p v)))]) rfl ?_
    refine v_iload_n (pc := 29) X dX2_set_29 rfl 0 rfl ?_
    refine v_widen (k := 1) (n := 8) (Nat.le_of_ble_eq_true rfl) (Nat.le_of_ble_eq_true rfl) ?_
    exact v_xr (v_iret (pc := 30) X hr dX2_set_30 ⟨rfl, h9, rfl⟩)
  · refine v_iconst (pc := 12) (v := nI 1) X dX2_set_12 rfl ?_
    refine v_goto (pc := 13) X 17 dX2_set_13 (by decide) ?_
    refine v_iconst (pc := 17) (v := nI 3) X dX2_set_17 rfl ?_
    refine v_iload_n (pc := 18) X dX2_set_18 rfl 3 rfl ?_
    refine v_frameX (pc := 19) X (wr := [(x, .inr (1, [.ref sa, .int (nI n), .ref ca, .int (nI C), .ref pa, .int (nI np)])), (sa, .inl (dd 0, 9, .inl f))]) (List.Perm.refl _) (x_SN X (c_refuse1 hst) q1025 q91 q1023 q1024 hdX1_refuse ⟨Nat.le_of_ble_eq_true rfl, Nat.le_of_ble_eq_true rfl⟩ rfl rfl (Nat.le_of_ble_eq_true rfl) dX2_set_19 ⟨Nat.le_of_ble_eq_true rfl, Nat.le_of_ble_eq_true rfl⟩) (fun q19 E19 w19 x19 => ?_) (fun v19 w19 h19 => h19.elim)
    obtain ⟨rfl, fs19, rfl, hf19⟩ := x19
    exact vt_out X (fun z hz => (ht z hz).elim) ((Nat.le_of_ble_eq_true rfl)) ((Nat.le_of_ble_eq_true rfl)) ⟨rfl, _, rfl, hf19, h9⟩
theorem hdX2_take_2 : yX2_take_2.cls = RX2 ∧ yX2_take_2.cls ≠ "java/lang/invoke/MethodHandle" ∧ yX2_take_2.cls ≠ "java/lang/invoke/VarHandle" ∧ (parseMethodDescriptor yX2_take_2.desc).map (fun d => d.parameters.length) = some 0 := by decide +kernel
set_option maxHeartbeats 4000000 in
theorem c_X2_take_2 {l_ : Launch} {D : va_G} {dd : Nat → ClassId}  {x sa ca pa n C np : Nat} {f : Nat → Int32} (hst : l_.stackTraces = false) (hn : n ≤ 9) : XW l_ D dd yX2_take_2 (ws_ yX2_take_2 cX2_take_2 2 (some .int)) 8 1 8 150 [.ref x] ([(x, .inr (1, [.ref sa, .int (nI n), .ref ca, .int (nI C), .ref pa, .int (nI np)])), (sa, .inl (dd 0, 9, .inl f))]) (fun r w => r = some (.int (f (n - 1))) ∧ ¬ n = 0 ∧ w = [(x, .inr (1, [.ref sa, .int (nI (n - 1)), .ref ca, .int (nI C), .ref pa, .int (nI np)])), (sa, .inl (dd 0, 9, .inl (upd f (n - 1) (nI 0))))]) (fun q E w => E = "VatBrackets$Refused" ∧ ∃ fs, w = (q, .inr (6, fs)) :: [(x, .inr (1, [.ref sa, .int (nI n), .ref ca, .int (nI C), .ref pa, .int (nI np)])), (sa, .inl (dd 0, 9, .inl f))] ∧ RfIs fs (nI 2) (nI 0) ∧ n = 0) := by
  refine XW.intro (by decide) (Nat.le_of_ble_eq_true rfl) (fun p_ e_ s_ m_ as_ bl_ me_ c_ A_ X hr ht => ?_)
  have X : VX p_ s_ m_ as_ me_ c_ cX2_take_2 2 RX2 D dd A_ := X
  refine v_eq (loc' := [(0, .ref x)]) rfl rfl rfl ?_
  refine v_aload_n (pc := 0) X dX2_take_2_0 rfl 0 rfl ?_
  refine v_getM (pc := 1) X in_X2 (List.mem_of_getElem? (i := 0) rfl) rfl 1 (by decide) q150 (fun y h => h) rfl dX2_take_2_1 ?_
  refine v_if_neN (pc := 4) X (by omega) 11 dX2_take_2_4 (by decide) (fun h4 => ?_) (fun h4 => ?_)
  · refine v_iconst (pc := 11) (v := nI 0) X dX2_take_2_11 rfl ?_
    refine v_iconst (pc := 12) (v := nI 2) X dX2_take_2_12 rfl ?_
    refine v_iconst (pc := 13) (v := nI 0) X dX2_take_2_13 rfl ?_
    refine v_frame (pc := 14) X (wr := [(x, .inr (1, [.ref sa, .int (nI n), .ref ca, .int (nI C), .ref pa, .int (nI np)])), (sa, .inl (dd 0, 9, .inl f))]) (List.Perm.refl _) (r_SN X c_refuse0 q1025 q91 q1023 q1024 hdX1_refuse ⟨Nat.le_of_ble_eq_true rfl, Nat.le_of_ble_eq_true rfl⟩ rfl rfl (Nat.le_of_ble_eq_true rfl) dX2_take_2_14 ⟨Nat.le_of_ble_eq_true rfl, Nat.le_of_ble_eq_true rfl⟩) (fun v14 w14 h14 => ?_)
    obtain ⟨rfl, rfl⟩ := h14
    refine v_eq (ws' := [(x, .inr (1, [.ref sa, .int (nI n), .ref ca, .int (nI C), .ref pa, .int (nI np)])), (sa, .inl (dd 0, 9, .inl f))]) rfl rfl rfl ?_
    refine v_aload_n (pc := 17) X dX2_take_2_17 rfl 0 rfl ?_
    refine v_dup (pc := 18) X dX2_take_2_18 rfl ?_
    refine v_getM (pc := 19) X in_X2 (List.mem_of_getElem? (i := 0) rfl) rfl 1 (by decide) q150 (fun y h => h) rfl dX2_take_2_19 ?_
    refine v_iconst (pc := 22) (v := nI 1) X dX2_take_2_22 rfl ?_
    refine v_isubN (pc := 23) X (by omega) dX2_take_2_23 ?_
    refine v_put (pc := 24) X in_X2 tyX2 tyX2_ok nmX2 0 rfl rfl 1 (by decide) q150 (fun y h => h) rfl rfl rfl (Nat.le_of_ble_eq_true rfl) dX2_take_2_24 (ws' := [(x, .inr (1, [.ref sa, .int (nI (n - 1)), .ref ca, .int (nI C), .ref pa, .int (nI np)])), (sa, .inl (dd 0, 9, .inl f))]) rfl ?_
    refine v_aload_n (pc := 27) X dX2_take_2_27 rfl 0 rfl ?_
    refine v_getM (pc := 28) X in_X2 (List.mem_of_getElem? (i := 0) rfl) rfl 0 (by decide) q147 (fun y h => h) rfl dX2_take_2_28 ?_
    refine v_aload_n (pc := 31) X dX2_take_2_31 rfl 0 rfl ?_
    refine v_getM (pc := 32) X in_X2 (List.mem_of_getElem? (i := 0) rfl) rfl 1 (by decide) q150 (fun y h => h) rfl dX2_take_2_32 ?_
    refine v_iaM (pc := 35) X (List.mem_of_getElem? (i := 1) rfl) rfl (by omega) (by decide) dX2_take_2_35 ?_
    refine v_istore_n (pc := 36) (loc' := [(1, .int (f (n - 1))), (0, .ref x)]) X dX2_take_2_36 rfl (by decide) rfl ?_
    refine v_aload_n (pc := 37) X dX2_take_2_37 rfl 1 rfl ?_
    refine v_getM (pc := 38) X in_X2 (List.mem_of_getElem? (i := 0) rfl) rfl 0 (by decide) q147 (fun y h => h) rfl dX2_take_2_38 ?_
    refine v_aload_n (pc := 41) X dX2_take_2_41 rfl 1 rfl ?_
    refine v_getM (pc := 42) X in_X2 (List.mem_of_getElem? (i := 0) rfl) rfl 1 (by decide) q150 (fun y h => h) rfl dX2_take_2_42 ?_
    refine v_iconst (pc := 45) (v := nI 0) X dX2_take_2_45 rfl ?_
    refine v_iast (pc := 46) X 1 rfl rfl (by omega) (by decide) dX2_take_2_46 (ws' := [(x, .inr (1, [.ref sa, .int (nI (n - 1)), .ref ca, .int (nI C), .ref pa, .int (nI np)])), (sa, .inl (dd 0, 9, .inl (upd f (n - 1) ((nI 0)))))]) rfl ?_
    refine v_iload_n (pc := 47) X dX2_take_2_47 rfl 0 rfl ?_
    refine v_widen (k := 1) (n := 8) (Nat.le_of_ble_eq_true rfl) (Nat.le_of_ble_eq_true rfl) ?_
    exact v_xr (v_iret (pc := 48) X hr dX2_take_2_48 ⟨rfl, h4, rfl⟩)
  · refine v_iconst (pc := 7) (v := nI 1) X dX2_take_2_7 rfl ?_
    refine v_goto (pc := 8) X 12 dX2_take_2_8 (by decide) ?_
    refine v_iconst (pc := 12) (v := nI 2) X dX2_take_2_12 rfl ?_
    refine v_iconst (pc := 13) (v := nI 0) X dX2_take_2_13 rfl ?_
    refine v_frameX (pc := 14) X (wr := [(x, .inr (1, [.ref sa, .int (nI n), .ref ca, .int (nI C), .ref pa, .int (nI np)])), (sa, .inl (dd 0, 9, .inl f))]) (List.Perm.refl _) (x_SN X (c_refuse1 hst) q1025 q91 q1023 q1024 hdX1_refuse ⟨Nat.le_of_ble_eq_true rfl, Nat.le_of_ble_eq_true rfl⟩ rfl rfl (Nat.le_of_ble_eq_true rfl) dX2_take_2_14 ⟨Nat.le_of_ble_eq_true rfl, Nat.le_of_ble_eq_true rfl⟩) (fun q14 E14 w14 x14 => ?_) (fun v14 w14 h14 => h14.elim)
    obtain ⟨rfl, fs14, rfl, hf14⟩ := x14
    exact vt_out X (fun z hz => (ht z hz).elim) ((Nat.le_of_ble_eq_true rfl)) ((Nat.le_of_ble_eq_true rfl)) ⟨rfl, _, rfl, hf14, h4⟩
theorem hdX2_cooper : yX2_cooper.cls = RX2 ∧ yX2_cooper.cls ≠ "java/lang/invoke/MethodHandle" ∧ yX2_cooper.cls ≠ "java/lang/invoke/VarHandle" ∧ (parseMethodDescriptor yX2_cooper.desc).map (fun d => d.parameters.length) = some 1 := by decide +kernel
set_option maxHeartbeats 4000000 in
theorem c_X2_cooper {l_ : Launch} {D : va_G} {dd : Nat → ClassId}  {x sa ca pa n C np : Nat} {f : Nat → Int32} {v : Int32} (hst : l_.stackTraces = false) (hC : C ≤ 4) : XW l_ D dd yX2_cooper (ws_ yX2_cooper cX2_cooper 2 (some .int)) 8 1 8 150 [.ref x, .int v] ([(x, .inr (1, [.ref sa, .int (nI n), .ref ca, .int (nI C), .ref pa, .int (nI np)])), (ca, .inl (dd 0, 4, .inl f))]) (fun r w => r = some (.int (nI C)) ∧ ¬ C = 4 ∧ w = [(x, .inr (1, [.ref sa, .int (nI n), .ref ca, .int (nI (C + 1)), .ref pa, .int (nI np)])), (ca, .inl (dd 0, 4, .inl (upd f C v)))]) (fun q E w => E = "VatBrackets$Refused" ∧ ∃ fs, w = (q, .inr (6, fs)) :: [(x, .inr (1, [.ref sa, .int (nI n), .ref ca, .int (nI C), .ref pa, .int (nI np)])), (ca, .inl (dd 0, 4, .inl f))] ∧ RfIs fs (nI 1) (nI 4) ∧ C = 4) := by
  refine XW.intro (by decide) (Nat.le_of_ble_eq_true rfl) (fun p_ e_ s_ m_ as_ bl_ me_ c_ A_ X hr ht => ?_)
  have X : VX p_ s_ m_ as_ me_ c_ cX2_cooper 2 RX2 D dd A_ := X
  refine v_eq (loc' := [(0, .ref x), (1, .int v)]) rfl rfl rfl ?_
  refine v_aload_n (pc := 0) X dX2_cooper_0 rfl 0 rfl ?_
  refine v_getM (pc := 1) X in_X2 (List.mem_of_getElem? (i := 0) rfl) rfl 3 (by decide) q156 (fun y h => h) rfl dX2_cooper_1 ?_
  refine v_iconst (pc := 4) (v := nI 4) X dX2_cooper_4 rfl ?_
  refine v_ic_neN (pc := 5) X (by omega) (by omega) 12 dX2_cooper_5 (by decide) (fun h5 => ?_) (fun h5 => ?_)
  · refine v_iconst (pc := 12) (v := nI 0) X dX2_cooper_12 rfl ?_
    refine v_iconst (pc := 13) (v := nI 1) X dX2_cooper_13 rfl ?_
    refine v_iconst (pc := 14) (v := nI 4) X dX2_cooper_14 rfl ?_
    refine v_frame (pc := 15) X (wr := [(x, .inr (1, [.ref sa, .int (nI n), .ref ca, .int (nI C), .ref pa, .int (nI np)])), (ca, .inl (dd 0, 4, .inl f))]) (List.Perm.refl _) (r_SN X c_refuse0 q1025 q91 q1023 q1024 hdX1_refuse ⟨Nat.le_of_ble_eq_true rfl, Nat.le_of_ble_eq_true rfl⟩ rfl rfl (Nat.le_of_ble_eq_true rfl) dX2_cooper_15 ⟨Nat.le_of_ble_eq_true rfl, Nat.le_of_ble_eq_true rfl⟩) (fun v15 w15 h15 => ?_)
    obtain ⟨rfl, rfl⟩ := h15
    refine v_eq (ws' := [(x, .inr (1, [.ref sa, .int (nI n), .ref ca, .int (nI C), .ref pa, .int (nI np)])), (ca, .inl (dd 0, 4, .inl f))]) rfl rfl rfl ?_
    refine v_aload_n (pc := 18) X dX2_cooper_18 rfl 0 rfl ?_
    refine v_getM (pc := 19) X in_X2 (List.mem_of_getElem? (i := 0) rfl) rfl 2 (by decide) q153 (fun y h => h) rfl dX2_cooper_19 ?_
    refine v_aload_n (pc := 22) X dX2_cooper_22 rfl 0 rfl ?_
    refine v_getM (pc := 23) X in_X2 (List.mem_of_getElem? (i := 0) rfl) rfl 3 (by decide) q156 (fun y h => h) rfl dX2_cooper_23 ?_
    refine v_iload_n (pc := 26) X dX2_cooper_26 rfl 1 rfl ?_
    refine v_iast (pc := 27) X 1 rfl rfl (by omega) (by decide) dX2_cooper_27 (ws' := [(x, .inr (1, [.ref sa, .int (nI n), .ref ca, .int (nI C), .ref pa, .int (nI np)])), (ca, .inl (dd 0, 4, .inl (upd f C v)))]) rfl ?_
    refine v_aload_n (pc := 28) X dX2_cooper_28 rfl 0 rfl ?_
    refine v_dup (pc := 29) X dX2_cooper_29 rfl ?_
    refine v_getM (pc := 30) X in_X2 (List.mem_of_getElem? (i := 0) rfl) rfl 3 (by decide) q156 (fun y h => h) rfl dX2_cooper_30 ?_
    refine v_iconst (pc := 33) (v := nI 1) X dX2_cooper_33 rfl ?_
    refine v_iaddN (pc := 34) X dX2_cooper_34 ?_
    refine v_put (pc := 35) X in_X2 tyX2 tyX2_ok nmX2 0 rfl rfl 3 (by decide) q156 (fun y h => h) rfl rfl rfl (Nat.le_of_ble_eq_true rfl) dX2_cooper_35 (ws' := [(x, .inr (1, [.ref sa, .int (nI n), .ref ca, .int (nI (C + 1)), .ref pa, .int (nI np)])), (ca, .inl (dd 0, 4, .inl (upd f C v)))]) rfl ?_
    refine v_aload_n (pc := 38) X dX2_cooper_38 rfl 0 rfl ?_
    refine v_getM (pc := 39) X in_X2 (List.mem_of_getElem? (i := 0) rfl) rfl 3 (by decide) q156 (fun y h => h) rfl dX2_cooper_39 ?_
    refine v_iconst (pc := 42) (v := nI 1) X dX2_cooper_42 rfl ?_
    refine v_isubN (pc := 43) X (by omega) dX2_cooper_43 ?_
    refine v_widen (k := 1) (n := 8) (Nat.le_of_ble_eq_true rfl) (Nat.le_of_ble_eq_true rfl) ?_
    exact v_xr (v_iret (pc := 44) X hr dX2_cooper_44 ⟨(by rw [Nat.add_sub_cancel]), h5, rfl⟩)
  · refine v_iconst (pc := 8) (v := nI 1) X dX2_cooper_8 rfl ?_
    refine v_goto (pc := 9) X 13 dX2_cooper_9 (by decide) ?_
    refine v_iconst (pc := 13) (v := nI 1) X dX2_cooper_13 rfl ?_
    refine v_iconst (pc := 14) (v := nI 4) X dX2_cooper_14 rfl ?_
    refine v_frameX (pc := 15) X (wr := [(x, .inr (1, [.ref sa, .int (nI n), .ref ca, .int (nI C), .ref pa, .int (nI np)])), (ca, .inl (dd 0, 4, .inl f))]) (List.Perm.refl _) (x_SN X (c_refuse1 hst) q1025 q91 q1023 q1024 hdX1_refuse ⟨Nat.le_of_ble_eq_true rfl, Nat.le_of_ble_eq_true rfl⟩ rfl rfl (Nat.le_of_ble_eq_true rfl) dX2_cooper_15 ⟨Nat.le_of_ble_eq_true rfl, Nat.le_of_ble_eq_true rfl⟩) (fun q15 E15 w15 x15 => ?_) (fun v15 w15 h15 => h15.elim)
    obtain ⟨rfl, fs15, rfl, hf15⟩ := x15
    exact vt_out X (fun z hz => (ht z hz).elim) ((Nat.le_of_ble_eq_true rfl)) ((Nat.le_of_ble_eq_true rfl)) ⟨rfl, _, rfl, hf15, h5⟩
theorem hdX2_leave : yX2_leave.cls = RX2 ∧ yX2_leave.cls ≠ "java/lang/invoke/MethodHandle" ∧ yX2_leave.cls ≠ "java/lang/invoke/VarHandle" ∧ (parseMethodDescriptor yX2_leave.desc).map (fun d => d.parameters.length) = some 1 := by decide +kernel
set_option maxHeartbeats 4000000 in
theorem c_X2_leave {l_ : Launch} {D : va_G} {dd : Nat → ClassId}  {x sa ca pa n C np : Nat} {f : Nat → Int32} {i : Nat} (hC : C ≤ 4) (hi : i < C) : MW l_ D dd yX2_leave cX2_leave 4 (some .int) 0 0 0 0 [.ref x, .int (nI i)] ([(x, .inr (1, [.ref sa, .int (nI n), .ref ca, .int (nI C), .ref pa, .int (nI np)])), (ca, .inl (dd 0, 4, .inl f))]) (fun r w => r = some (.int (f i)) ∧ w = [(x, .inr (1, [.ref sa, .int (nI n), .ref ca, .int (nI (C - 1)), .ref pa, .int (nI np)])), (ca, .inl (dd 0, 4, .inl (upd (shf f i (C - 1)) (C - 1) (nI 0))))]) := by
  refine MW.intro (by decide) (Nat.le_of_ble_eq_true rfl) (fun p_ e_ s_ m_ as_ bl_ me_ c_ A_ X hr hnm => ?_)
  have X : VX p_ s_ m_ as_ me_ c_ cX2_leave 4 RX2 D dd A_ := X
  refine v_eq (loc' := [(0, .ref x), (1, .int (nI i))]) rfl rfl rfl ?_
  refine v_aload_n (pc := 0) X dX2_leave_0 rfl 0 rfl ?_
  refine v_getM (pc := 1) X in_X2 (List.mem_of_getElem? (i := 0) rfl) rfl 2 (by decide) q153 (fun y h => h) rfl dX2_leave_1 ?_
  refine v_iload_n (pc := 4) X dX2_leave_4 rfl 1 rfl ?_
  refine v_iaM (pc := 5) X (List.mem_of_getElem? (i := 1) rfl) rfl (by omega) (by decide) dX2_leave_5 ?_
  refine v_istore_n (pc := 6) (loc' := [(2, .int (f i)), (0, .ref x), (1, .int (nI i))]) X dX2_leave_6 rfl (by decide) rfl ?_
  refine v_aload_n (pc := 7) X dX2_leave_7 rfl 1 rfl ?_
  refine v_dup (pc := 8) X dX2_leave_8 rfl ?_
  refine v_getM (pc := 9) X in_X2 (List.mem_of_getElem? (i := 0) rfl) rfl 3 (by decide) q156 (fun y h => h) rfl dX2_leave_9 ?_
  refine v_iconst (pc := 12) (v := nI 1) X dX2_leave_12 rfl ?_
  refine v_isubN (pc := 13) X (by omega) dX2_leave_13 ?_
  refine v_put (pc := 14) X in_X2 tyX2 tyX2_ok nmX2 0 rfl rfl 3 (by decide) q156 (fun y h => h) rfl rfl rfl (Nat.le_of_ble_eq_true rfl) dX2_leave_14 (ws' := [(x, .inr (1, [.ref sa, .int (nI n), .ref ca, .int (nI (C - 1)), .ref pa, .int (nI np)])), (ca, .inl (dd 0, 4, .inl f))]) rfl ?_
  refine v_iload_n (pc := 17) X dX2_leave_17 rfl 2 rfl ?_
  refine v_eq (ws' := [(x, .inr (1, [.ref sa, .int (nI n), .ref ca, .int (nI (C - 1)), .ref pa, .int (nI np)])), (ca, .inl (dd 0, 4, .inl (shf f i i)))]) (by rw [shf_0]) rfl rfl ?_
  refine v_istore_n (pc := 18) (loc' := [(3, .int (nI i)), (2, .int (f i)), (0, .ref x), (1, .int (nI i))]) X dX2_leave_18 rfl (by decide) rfl ?_
  refine v_sub [2, 3, 1, 0] rfl ?_
  refine v_loop1 (S := Nat) (fun k => [(x, .inr (1, [.ref sa, .int (nI n), .ref ca, .int (nI (C - 1)), .ref pa, .int (nI np)])), (ca, .inl (dd 0, 4, .inl (shf f i k)))]) (fun k => [(0, .ref x), (1, .int (nI i)), (2, .int ((f i))), (3, .int (nI k))]) (fun k => i ≤ k ∧ k ≤ C - 1) (fun k => C - k) (fun k hI19 ih19 => ?_) i ⟨Nat.le_refl _, by omega⟩
  obtain ⟨hk1, hk2⟩ := hI19
  refine v_iload_n (pc := 19) X dX2_leave_19 rfl 3 rfl ?_
  refine v_aload_n (pc := 20) X dX2_leave_20 rfl 0 rfl ?_
  refine v_getM (pc := 21) X in_X2 (List.mem_of_getElem? (i := 0) rfl) rfl 3 (by decide) q156 (fun y h => h) rfl dX2_leave_21 ?_
  refine v_ic_geN (pc := 24) X (by omega) (by omega) 47 dX2_leave_24 (by decide) (fun h24 => ?_) (fun h24 => ?_)
  · have hk3 : k = C - 1 := by omega
    subst hk3
    refine v_aload_n (pc := 47) X dX2_leave_47 rfl 0 rfl ?_
    refine v_getM (pc := 48) X in_X2 (List.mem_of_getElem? (i := 0) rfl) rfl 2 (by decide) q153 (fun y h => h) rfl dX2_leave_48 ?_
    refine v_aload_n (pc := 51) X dX2_leave_51 rfl 0 rfl ?_
    refine v_getM (pc := 52) X in_X2 (List.mem_of_getElem? (i := 0) rfl) rfl 3 (by decide) q156 (fun y h => h) rfl dX2_leave_52 ?_
    refine v_iconst (pc := 55) (v := nI 0) X dX2_leave_55 rfl ?_
    refine v_iast (pc := 56) X 1 rfl rfl (by omega) (by decide) dX2_leave_56 (ws' := [(x, .inr (1, [.ref sa, .int (nI n), .ref ca, .int (nI (C - 1)), .ref pa, .int (nI np)])), (ca, .inl (dd 0, 4, .inl (upd (shf f i (C - 1)) (C - 1) ((nI 0)))))]) rfl ?_
    refine v_iload_n (pc := 57) X dX2_leave_57 rfl 2 rfl ?_
    exact v_iret (pc := 58) X hr dX2_leave_58 ⟨rfl, rfl⟩
  · refine v_aload_n (pc := 27) X dX2_leave_27 rfl 0 rfl ?_
    refine v_getM (pc := 28) X in_X2 (List.mem_of_getElem? (i := 0) rfl) rfl 2 (by decide) q153 (fun y h => h) rfl dX2_leave_28 ?_
    refine v_iload_n (pc := 31) X dX2_leave_31 rfl 3 rfl ?_
    refine v_aload_n (pc := 32) X dX2_leave_32 rfl 0 rfl ?_
    refine v_getM (pc := 33) X in_X2 (List.mem_of_getElem? (i := 0) rfl) rfl 2 (by decide) q153 (fun y h => h) rfl dX2_leave_33 ?_
    refine v_iload_n (pc := 36) X dX2_leave_36 rfl 3 rfl ?_
    refine v_iconst (pc := 37) (v := nI 1) X dX2_leave_37 rfl ?_
    refine v_iaddN (pc := 38) X dX2_leave_38 ?_
    refine v_iaM (pc := 39) X (List.mem_of_getElem? (i := 1) rfl) rfl (by omega) (by decide) dX2_leave_39 ?_
    refine v_iast (pc := 40) X 1 rfl rfl (by omega) (by decide) dX2_leave_40 (ws' := [(x, .inr (1, [.ref sa, .int (nI n), .ref ca, .int (nI (C - 1)), .ref pa, .int (nI np)])), (ca, .inl (dd 0, 4, .inl (shf f i (k + 1))))]) (by rw [show upd (shf f i k) k (((shf f i k) (k + 1))) = shf f i (k + 1) from shf_s f (by omega)]; rfl) ?_
    refine v_iinc (pc := 41) (v := (nI (k + 1))) (loc' := [(3, .int (nI (k + 1))), (0, .ref x), (1, .int (nI i)), (2, .int ((f i)))]) X dX2_leave_41 3 rfl (nI_add _ 1) (by decide) rfl ?_
    refine v_goto (pc := 44) X 19 dX2_leave_44 (by decide) ?_
    refine v_sub [1, 2, 3, 0] rfl ?_
    exact ih19 (k + 1) ⟨by omega, by omega⟩ (by omega)

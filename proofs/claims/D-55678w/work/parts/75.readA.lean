theorem vt_perm {p : Program} {l : Launch} {e : Env} {R : Room} {s : State} {m : MethodId} {args : Array Value} {below : List Frame} {meth : Method} {c : Code} {D : va_G} {A : Nat → Prop} {nL cells slots : Nat} {Q : State → Prop} {ws ws' : va_W} {pc : Nat} {loc : List (Nat × Value)} {E : String} {q : Nat} (h : ws.Perm ws') (k : VT p l e R s m args below meth c D A nL cells slots Q ws' pc loc E q) : VT p l e R s m args below meth c D A nL cells slots Q ws pc loc E q :=
  fun H locs ls st hP hD hS hl hce => k H locs ls st (P_perm h hP) (D_perm h hD) hS hl hce
theorem vt_less {p : Program} {l : Launch} {e : Env} {R : Room} {s : State} {m : MethodId} {args : Array Value} {below : List Frame} {meth : Method} {c : Code} {D : va_G} {A : Nat → Prop} {nL cells slots : Nat} {Q : State → Prop} {ws ws' : va_W} {pc : Nat} {loc : List (Nat × Value)} {E : String} {q : Nat} (h : ws'.Sublist ws) (k : VT p l e R s m args below meth c D A nL cells slots Q ws' pc loc E q) : VT p l e R s m args below meth c D A nL cells slots Q ws pc loc E q :=
  fun H locs ls st hP hD hS hl hce => k H locs ls st (P_sub h hP) (D_sub h hD) hS hl hce
theorem fl_mrg3 (a b c d e : va_W) : fl [a, b, c, d, e] = fl [a, b ++ c ++ d, e] := by simp [fl, List.append_assoc]
/-- what the reader notes of the vats read: the one before, the first out of place, the greatest -/
abbrev RS : Type := Int32 × Int32 × Nat
def rsV (s : RS) (v : Nat) : RS := (nI v, (if s.2.1 = -1 ∧ ¬ s.1 = -1 ∧ ¬ nI v = s.1 + nI 1 then nI v else s.2.1), max s.2.2 v)
def rsL (s : RS) (vs : List Nat) : RS := vs.foldl rsV s
theorem rsL_app (s : RS) (a b : List Nat) : rsL s (a ++ b) = rsL (rsL s a) b := List.foldl_append
theorem pP_d {t : List Nat} {n p c : Nat} (h : t[p]? = some c) (h1 : 48 ≤ c) (h2 : c ≤ 57) : pPart t (n + 1) p = (some (lf (c - 48)), p + 1) := by
  unfold pPart
  rw [if_neg (by rw [h]; simp; omega), if_pos (by unfold digF; rw [h]; simp; omega), getD_g h]
theorem pP_n {t : List Nat} {n p : Nat} (h : ¬ t[p]? = some 40) (h1 : ¬ digF t p = true) : pPart t (n + 1) p = (none, p) := by
  unfold pPart; rw [if_neg h, if_neg h1]
theorem pP_1 {t : List Nat} {n p q : Nat} (h : t[p]? = some 40) (h1 : pPart t n (p + 1) = (none, q)) : pPart t (n + 1) p = (none, q) := by
  unfold pPart; rw [if_pos h, h1]
theorem pP_2 {t : List Nat} {n p q r : Nat} {a : Tr} (h : t[p]? = some 40) (h1 : pPart t n (p + 1) = (some a, q)) (h2 : pPart t n q = (none, r)) : pPart t (n + 1) p = (none, r) := by
  unfold pPart; rw [if_pos h, h1]; dsimp only; rw [h2]
theorem pP_3 {t : List Nat} {n p q r : Nat} {a b : Tr} (h : t[p]? = some 40) (h1 : pPart t n (p + 1) = (some a, q)) (h2 : pPart t n q = (some b, r)) (h3 : ¬ t[r]? = some 41) : pPart t (n + 1) p = (none, r) := by
  unfold pPart; rw [if_pos h, h1]; dsimp only; rw [h2]; dsimp only; rw [if_neg h3]
theorem pP_4 {t : List Nat} {n p q r : Nat} {a b : Tr} (h : t[p]? = some 40) (h1 : pPart t n (p + 1) = (some a, q)) (h2 : pPart t n q = (some b, r)) (h3 : t[r]? = some 41) : pPart t (n + 1) p = (some (nd a b), r + 1) := by
  unfold pPart; rw [if_pos h, h1]; dsimp only; rw [h2]; dsimp only; rw [if_pos h3]
theorem hdX5_here : yX5_here.cls = RX5 ∧ yX5_here.cls ≠ "java/lang/invoke/MethodHandle" ∧ yX5_here.cls ≠ "java/lang/invoke/VarHandle" ∧ (parseMethodDescriptor yX5_here.desc).map (fun d => d.parameters.length) = some 0 := by decide +kernel
set_option maxHeartbeats 4000000 in
theorem c_X5_here {l_ : Launch} {D : va_G} {dd : Nat → ClassId} {x tb wa na va n co p : Nat} {mn ml : Int32} {s : RS} {f : Nat → Int32} {t : List Nat} {ws : va_W} (hx : (x, .inr (4, [.ref tb, .int (nI p), .int mn, .ref wa, .ref na, .int s.1, .int s.2.1, .int (nI s.2.2)])) ∈ ws) (htb : (tb, .inr (12, [.ref va, .int (nI co), .int ml, .int (nI t.length)])) ∈ ws) (hva : (va, .inl (dd 2, n, .inl f)) ∈ ws) (hS : SbI co n f t) (h60 : t.length ≤ 60) (hp : p ≤ t.length) : MW l_ D dd yX5_here cX5_here 1 (some .int) 5 0 0 170 [.ref x] (ws) (RI (fun r => hrI t p = r) ws) := by
  refine MW.intro (by decide) (Nat.le_of_ble_eq_true rfl) (fun p_ e_ s_ m_ as_ bl_ me_ c_ A_ X hr hnm => ?_)
  have X : VX p_ s_ m_ as_ me_ c_ cX5_here 1 RX5 D dd A_ := X
  refine v_eq (loc' := [(0, .ref x)]) rfl rfl rfl ?_
  refine v_aload_n (pc := 0) X dX5_here_0 rfl 0 rfl ?_
  refine v_getM (pc := 1) X in_X5 hx rfl 1 (by decide) q302 (fun y h => h) rfl dX5_here_1 ?_
  refine v_aload_n (pc := 4) X dX5_here_4 rfl 0 rfl ?_
  refine v_getM (pc := 5) X in_X5 hx rfl 0 (by decide) q301 (fun y h => h) rfl dX5_here_5 ?_
  refine v_read (pc := 8) X ⟨[], perm_nil _⟩ (r_V X (c_J3_length htb) htb rfl rfl (lw_V q1278 q689 q2448 q98 q690) hdJ3_length ⟨Nat.le_of_ble_eq_true rfl, Nat.le_of_ble_eq_true rfl⟩ rfl rfl (Nat.le_of_ble_eq_true rfl) dX5_here_8 ⟨Nat.le_of_ble_eq_true rfl, Nat.le_of_ble_eq_true rfl⟩) (fun r8 h8 => ?_)
  subst h8
  refine v_ic_geN (pc := 11) X (by omega) (by omega) 28 dX5_here_11 (by decide) (fun h11 => ?_) (fun h11 => ?_)
  · refine v_iconst (pc := 28) (v := -1) X dX5_here_28 rfl ?_
    exact v_iret (pc := 29) X hr dX5_here_29 ⟨⟨_, rfl, by unfold hrI; rw [List.getElem?_eq_none (by omega)]⟩, rfl⟩
  · obtain ⟨ch, hch⟩ : ∃ ch, t[p]? = some ch := ⟨_, List.getElem?_eq_getElem (show p < t.length by omega)⟩
    refine v_aload_n (pc := 14) X dX5_here_14 rfl 0 rfl ?_
    refine v_getM (pc := 15) X in_X5 hx rfl 0 (by decide) q301 (fun y h => h) rfl dX5_here_15 ?_
    refine v_aload_n (pc := 18) X dX5_here_18 rfl 0 rfl ?_
    refine v_getM (pc := 19) X in_X5 hx rfl 1 (by decide) q302 (fun y h => h) rfl dX5_here_19 ?_
    refine v_read (pc := 22) X ⟨[], perm_nil _⟩ (r_V X (c_J3_charAt hS.co htb hva hS (by omega) hch) htb rfl rfl (lw_V q1279 q1280 q1281 q98 q1282) hdJ3_charAt ⟨Nat.le_of_ble_eq_true rfl, Nat.le_of_ble_eq_true rfl⟩ rfl rfl (Nat.le_of_ble_eq_true rfl) dX5_here_22 ⟨Nat.le_of_ble_eq_true rfl, Nat.le_of_ble_eq_true rfl⟩) (fun r22 h22 => ?_)
    subst h22
    refine v_goto (pc := 25) X 29 dX5_here_25 (by decide) ?_
    exact v_iret (pc := 29) X hr dX5_here_29 ⟨⟨_, rfl, hr_some hch⟩, rfl⟩
theorem hdX5_skip : yX5_skip.cls = RX5 ∧ yX5_skip.cls ≠ "java/lang/invoke/MethodHandle" ∧ yX5_skip.cls ≠ "java/lang/invoke/VarHandle" ∧ (parseMethodDescriptor yX5_skip.desc).map (fun d => d.parameters.length) = some 1 := by decide +kernel
set_option maxHeartbeats 4000000 in
theorem c_X5_skip {l_ : Launch} {D : va_G} {dd : Nat → ClassId} {x tb wa na va n co p c : Nat} {mn ml : Int32} {s : RS} {f : Nat → Int32} {t : List Nat} {ws : va_W} (htb : (tb, .inr (12, [.ref va, .int (nI co), .int ml, .int (nI t.length)])) ∈ ws) (hva : (va, .inl (dd 2, n, .inl f)) ∈ ws) (hS : SbI co n f t) (h60 : t.length ≤ 60) (hp : p ≤ t.length) (hc : c < 1000) : MW l_ D dd yX5_skip cX5_skip 2 (some .boolean) 6 0 0 195 [.ref x, .int (nI c)] (fl [[(x, .inr (4, [.ref tb, .int (nI p), .int mn, .ref wa, .ref na, .int s.1, .int s.2.1, .int (nI s.2.2)]))], ws]) (fun r w => r = some (.int (bI (t[p]? = some c))) ∧ w = fl [[(x, .inr (4, [.ref tb, .int (nI ((if t[p]? = some c then p + 1 else p))), .int mn, .ref wa, .ref na, .int s.1, .int s.2.1, .int (nI s.2.2)]))], ws]) := by
  have ht6 : ∀ c ∈ t, c < 65536 := fun c hc => by obtain ⟨i, hi⟩ := List.getElem?_of_mem hc; exact hS.1.lt hi
  refine MW.intro (by decide) (Nat.le_of_ble_eq_true rfl) (fun p_ e_ s_ m_ as_ bl_ me_ c_ A_ X hr hnm => ?_)
  have X : VX p_ s_ m_ as_ me_ c_ cX5_skip 2 RX5 D dd A_ := X
  refine v_eq (loc' := [(0, .ref x), (1, .int (nI c))]) rfl rfl rfl ?_
  refine v_aload_n (pc := 0) X dX5_skip_0 rfl 0 rfl ?_
  refine v_read (pc := 1) X ⟨[], perm_nil _⟩ (r_V X (c_X5_here (s := (s.1, s.2.1, s.2.2)) (mem_fl 0 rfl List.mem_cons_self) (mem_fl 1 rfl htb) (mem_fl 1 rfl hva) hS h60 (by omega)) (mem_fl 0 rfl List.mem_cons_self) rfl rfl (lw_V q1274 q1276 qs19 q101 q1277) hdX5_here ⟨Nat.le_of_ble_eq_true rfl, Nat.le_of_ble_eq_true rfl⟩ rfl rfl (Nat.le_of_ble_eq_true rfl) dX5_skip_1 ⟨Nat.le_of_ble_eq_true rfl, Nat.le_of_ble_eq_true rfl⟩) (fun r1 h1 => ?_)
  subst h1
  refine v_iload_n (pc := 4) X dX5_skip_4 rfl 1 rfl ?_
  refine v_ic_eq (pc := 5) X 10 dX5_skip_5 (by decide) (fun h5 => ?_) (fun h5 => ?_)
  · refine v_aload_n (pc := 10) X dX5_skip_10 rfl 0 rfl ?_
    refine v_dup (pc := 11) X dX5_skip_11 rfl ?_
    refine v_getM (pc := 12) X in_X5 (mem_fl 0 rfl List.mem_cons_self) rfl 1 (by decide) q302 (fun y h => h) rfl dX5_skip_12 ?_
    refine v_iconst (pc := 15) (v := nI 1) X dX5_skip_15 rfl ?_
    refine v_iaddN (pc := 16) X dX5_skip_16 ?_
    refine v_put (pc := 17) X in_X5 tyX5 tyX5_ok nmX5 0 rfl rfl 1 (by decide) q302 (fun y h => h) rfl rfl rfl (Nat.le_of_ble_eq_true rfl) dX5_skip_17 (ws' := fl [[(x, .inr (4, [.ref tb, .int (nI (p + 1)), .int mn, .ref wa, .ref na, .int s.1, .int s.2.1, .int (nI s.2.2)]))], ws]) rfl ?_
    refine v_iconst (pc := 20) (v := nI 1) X dX5_skip_20 rfl ?_
    exact v_zret (pc := 21) X hr rfl dX5_skip_21 ⟨by rw [bI_t ((hr_eq ht6 (by omega)).mp h5)]; rfl, by rw [if_pos ((hr_eq ht6 (by omega)).mp h5)]⟩
  · refine v_iconst (pc := 8) (v := nI 0) X dX5_skip_8 rfl ?_
    exact v_zret (pc := 9) X hr rfl dX5_skip_9 ⟨by rw [bI_f (fun z => h5 ((hr_eq ht6 (by omega)).mpr z))]; rfl, by rw [if_neg (fun z => h5 ((hr_eq ht6 (by omega)).mpr z))]⟩
theorem hdX5_must : yX5_must.cls = RX5 ∧ yX5_must.cls ≠ "java/lang/invoke/MethodHandle" ∧ yX5_must.cls ≠ "java/lang/invoke/VarHandle" ∧ (parseMethodDescriptor yX5_must.desc).map (fun d => d.parameters.length) = some 1 := by decide +kernel
set_option maxHeartbeats 4000000 in
theorem c_X5_must {l_ : Launch} {D : va_G} {dd : Nat → ClassId} {x tb wa na va n co p c : Nat} {mn ml : Int32} {s : RS} {f : Nat → Int32} {t : List Nat} {ws : va_W} (hst : l_.stackTraces = false) (htb : (tb, .inr (12, [.ref va, .int (nI co), .int ml, .int (nI t.length)])) ∈ ws) (hva : (va, .inl (dd 2, n, .inl f)) ∈ ws) (hS : SbI co n f t) (h60 : t.length ≤ 60) (hp : p ≤ t.length) (hc : c < 1000) : XW l_ D dd yX5_must (ws_ yX5_must cX5_must 2 none) 8 1 10 220 [.ref x, .int (nI c)] (fl [[(x, .inr (4, [.ref tb, .int (nI p), .int mn, .ref wa, .ref na, .int s.1, .int s.2.1, .int (nI s.2.2)]))], ws]) (fun r w => r = none ∧ t[p]? = some c ∧ w = fl [[(x, .inr (4, [.ref tb, .int (nI ((p + 1))), .int mn, .ref wa, .ref na, .int s.1, .int s.2.1, .int (nI s.2.2)]))], ws]) (fun q E w => E = "VatBrackets$Fault" ∧ ∃ fs, w = (q, .inr (7, fs)) :: fl [[(x, .inr (4, [.ref tb, .int (nI p), .int mn, .ref wa, .ref na, .int s.1, .int s.2.1, .int (nI s.2.2)]))], ws] ∧ FaIs fs (nI p) ∧ ¬ t[p]? = some c) := by
  refine XW.intro (by decide) (Nat.le_of_ble_eq_true rfl) (fun p_ e_ s_ m_ as_ bl_ me_ c_ A_ X hr ht => ?_)
  have X : VX p_ s_ m_ as_ me_ c_ cX5_must 2 RX5 D dd A_ := X
  refine v_eq (loc' := [(0, .ref x), (1, .int (nI c))]) rfl rfl rfl ?_
  refine v_aload_n (pc := 0) X dX5_must_0 rfl 0 rfl ?_
  refine v_iload_n (pc := 1) X dX5_must_1 rfl 1 rfl ?_
  refine v_frame (pc := 2) X (wr := []) (fl_split 2 _) (r_V X (c_X5_skip (s := (s.1, s.2.1, s.2.2)) (c := c) htb hva hS h60 (by omega) (by omega)) (List.mem_of_getElem? (i := 0) rfl) rfl rfl (lw_V q1270 q1272 qs18 q101 q1273) hdX5_skip ⟨Nat.le_of_ble_eq_true rfl, Nat.le_of_ble_eq_true rfl⟩ rfl rfl (Nat.le_of_ble_eq_true rfl) dX5_must_2 ⟨Nat.le_of_ble_eq_true rfl, Nat.le_of_ble_eq_true rfl⟩) (fun v2 w2 h2 => ?_)
  obtain ⟨rfl, rfl⟩ := h2
  refine v_flj (a := [[(x, .inr (4, [.ref tb, .int (nI ((if t[p]? = some c then p + 1 else p))), .int mn, .ref wa, .ref na, .int s.1, .int s.2.1, .int (nI s.2.2)]))], ws]) (b := []) ?_
  refine v_eq (ws' := fl [[(x, .inr (4, [.ref tb, .int (nI ((if t[p]? = some c then p + 1 else p))), .int mn, .ref wa, .ref na, .int s.1, .int s.2.1, .int (nI s.2.2)]))], ws]) rfl rfl rfl ?_
  refine v_if_neB (pc := 5) X 20 dX5_must_5 (by decide) (fun h5 => ?_) (fun h5 => ?_)
  · refine v_eq (ws' := fl [[(x, .inr (4, [.ref tb, .int (nI ((p + 1))), .int mn, .ref wa, .ref na, .int s.1, .int s.2.1, .int (nI s.2.2)]))], ws]) (by rw [if_pos h5]) rfl rfl ?_
    refine v_widen (k := 1) (n := 10) (Nat.le_of_ble_eq_true rfl) (Nat.le_of_ble_eq_true rfl) ?_
    exact v_xr (v_vret (pc := 20) X hr dX5_must_20 ⟨rfl, h5, rfl⟩)
  · refine v_eq (ws' := fl [[(x, .inr (4, [.ref tb, .int (nI p), .int mn, .ref wa, .ref na, .int s.1, .int s.2.1, .int (nI s.2.2)]))], ws]) (by rw [if_neg h5]) rfl rfl ?_
    refine v_newE (pc := 8) (pi := 16) (ci := 7) (As := [.int (nI p)]) (post := fun fs => FaIs fs ((nI p))) X in_X8 tyX8 tyX8_ok q1293 q1294 q117 rfl (fun j hj => by rcases (show j = 0 ∨ j = 1 ∨ j = 2 ∨ j = 3 ∨ j = 4 ∨ j = 5 ∨ j = 6 by omega) with rfl | rfl | rfl | rfl | rfl | rfl | rfl <;> rfl) dX5_must_8 dX5_must_11 (fun ls H1 locs q hl hP k => lv_aload_n X.hx X.hb dX5_must_12 rfl (lv_at hl 0 rfl) (va_get X.hx X.hb X.hts in_X5 X.hown X.hK hP 0 rfl rfl 1 (by decide) (X.hts _ q302) (fun y h => h) rfl dX5_must_13 k)) (fun q => c_X8_init hst) q1304 q117 q1302 q1303 hdX8_init ⟨Nat.le_of_ble_eq_true rfl, Nat.le_of_ble_eq_true rfl⟩ rfl (Nat.le_of_ble_eq_true rfl) dX5_must_16 ⟨Nat.le_of_ble_eq_true rfl, Nat.le_of_ble_eq_true rfl⟩ (fun q8 fs8 hf8 => ?_)
    refine v_eq (ws' := fl [[(q8, .inr (7, fs8))], [(x, .inr (4, [.ref tb, .int (nI p), .int mn, .ref wa, .ref na, .int s.1, .int s.2.1, .int (nI s.2.2)]))], ws]) rfl rfl rfl ?_
    refine v_athrow (pc := 19) X (mem_fl 0 rfl List.mem_cons_self) rfl rfl dX5_must_19 ?_
    exact vt_out X (fun z hz => (ht z hz).elim) ((Nat.le_of_ble_eq_true rfl)) ((Nat.le_of_ble_eq_true rfl)) ⟨rfl, fs8, rfl, hf8, h5⟩
theorem hdX5_ends : yX5_ends.cls = RX5 ∧ yX5_ends.cls ≠ "java/lang/invoke/MethodHandle" ∧ yX5_ends.cls ≠ "java/lang/invoke/VarHandle" ∧ (parseMethodDescriptor yX5_ends.desc).map (fun d => d.parameters.length) = some 0 := by decide +kernel
set_option maxHeartbeats 4000000 in
theorem c_X5_ends {l_ : Launch} {D : va_G} {dd : Nat → ClassId} {x tb wa na va n co p : Nat} {mn ml : Int32} {s : RS} {f : Nat → Int32} {t : List Nat} {ws : va_W} (hst : l_.stackTraces = false) (htb : (tb, .inr (12, [.ref va, .int (nI co), .int ml, .int (nI t.length)])) ∈ ws) (hva : (va, .inl (dd 2, n, .inl f)) ∈ ws) (hS : SbI co n f t) (h60 : t.length ≤ 60) (hp : p ≤ t.length) : XW l_ D dd yX5_ends (ws_ yX5_ends cX5_ends 1 none) 8 1 10 130 [.ref x] (fl [[(x, .inr (4, [.ref tb, .int (nI p), .int mn, .ref wa, .ref na, .int s.1, .int s.2.1, .int (nI s.2.2)]))], ws]) (fun r w => r = none ∧ ¬ p < t.length ∧ w = fl [[(x, .inr (4, [.ref tb, .int (nI p), .int mn, .ref wa, .ref na, .int s.1, .int s.2.1, .int (nI s.2.2)]))], ws]) (fun q E w => E = "VatBrackets$Fault" ∧ ∃ fs, w = (q, .inr (7, fs)) :: fl [[(x, .inr (4, [.ref tb, .int (nI p), .int mn, .ref wa, .ref na, .int s.1, .int s.2.1, .int (nI s.2.2)]))], ws] ∧ FaIs fs (nI p) ∧ p < t.length) := by
  refine XW.intro (by decide) (Nat.le_of_ble_eq_true rfl) (fun p_ e_ s_ m_ as_ bl_ me_ c_ A_ X hr ht => ?_)
  have X : VX p_ s_ m_ as_ me_ c_ cX5_ends 1 RX5 D dd A_ := X
  refine v_eq (loc' := [(0, .ref x)]) rfl rfl rfl ?_
  refine v_aload_n (pc := 0) X dX5_ends_0 rfl 0 rfl ?_
  refine v_getM (pc := 1) X in_X5 (mem_fl 0 rfl List.mem_cons_self) rfl 1 (by decide) q302 (fun y h => h) rfl dX5_ends_1 ?_
  refine v_aload_n (pc := 4) X dX5_ends_4 rfl 0 rfl ?_
  refine v_getM (pc := 5) X in_X5 (mem_fl 0 rfl List.mem_cons_self) rfl 0 (by decide) q301 (fun y h => h) rfl dX5_ends_5 ?_
  refine v_read (pc := 8) X ⟨[], perm_nil _⟩ (r_V X (c_J3_length (mem_fl 1 rfl htb)) (mem_fl 1 rfl htb) rfl rfl (lw_V q1278 q689 q2448 q98 q690) hdJ3_length ⟨Nat.le_of_ble_eq_true rfl, Nat.le_of_ble_eq_true rfl⟩ rfl rfl (Nat.le_of_ble_eq_true rfl) dX5_ends_8 ⟨Nat.le_of_ble_eq_true rfl, Nat.le_of_ble_eq_true rfl⟩) (fun r8 h8 => ?_)
  subst h8
  refine v_ic_geN (pc := 11) X (by omega) (by omega) 26 dX5_ends_11 (by decide) (fun h11 => ?_) (fun h11 => ?_)
  · refine v_widen (k := 1) (n := 10) (Nat.le_of_ble_eq_true rfl) (Nat.le_of_ble_eq_true rfl) ?_
    exact v_xr (v_vret (pc := 26) X hr dX5_ends_26 ⟨rfl, (by omega), rfl⟩)
  · refine v_newE (pc := 14) (pi := 22) (ci := 7) (As := [.int (nI p)]) (post := fun fs => FaIs fs ((nI p))) X in_X8 tyX8 tyX8_ok q1293 q1294 q117 rfl (fun j hj => by rcases (show j = 0 ∨ j = 1 ∨ j = 2 ∨ j = 3 ∨ j = 4 ∨ j = 5 ∨ j = 6 by omega) with rfl | rfl | rfl | rfl | rfl | rfl | rfl <;> rfl) dX5_ends_14 dX5_ends_17 (fun ls H1 locs q hl hP k => lv_aload_n X.hx X.hb dX5_ends_18 rfl (lv_at hl 0 rfl) (va_get X.hx X.hb X.hts in_X5 X.hown X.hK hP 0 rfl rfl 1 (by decide) (X.hts _ q302) (fun y h => h) rfl dX5_ends_19 k)) (fun q => c_X8_init hst) q1304 q117 q1302 q1303 hdX8_init ⟨Nat.le_of_ble_eq_true rfl, Nat.le_of_ble_eq_true rfl⟩ rfl (Nat.le_of_ble_eq_true rfl) dX5_ends_22 ⟨Nat.le_of_ble_eq_true rfl, Nat.le_of_ble_eq_true rfl⟩ (fun q14 fs14 hf14 => ?_)
    refine v_eq (ws' := fl [[(q14, .inr (7, fs14))], [(x, .inr (4, [.ref tb, .int (nI p), .int mn, .ref wa, .ref na, .int s.1, .int s.2.1, .int (nI s.2.2)]))], ws]) rfl rfl rfl ?_
    refine v_athrow (pc := 25) X (mem_fl 0 rfl List.mem_cons_self) rfl rfl dX5_ends_25 ?_
    exact vt_out X (fun z hz => (ht z hz).elim) ((Nat.le_of_ble_eq_true rfl)) ((Nat.le_of_ble_eq_true rfl)) ⟨rfl, fs14, rfl, hf14, (by omega)⟩

theorem vt_eq {p : Program} {l : Launch} {e : Env} {R : Room} {s : State} {m : MethodId} {args : Array Value} {below : List Frame} {meth : Method} {c : Code} {D : va_G} {A : Nat → Prop} {nL cells slots : Nat} {Q : State → Prop} {dd : Nat → ClassId} {ws ws' : va_W} {pc : Nat} {loc : List (Nat × Value)} {E : String} {q : Nat} (h : ws = ws') (k : VT p l e R s m args below meth c D A nL cells slots Q ws' pc loc E q) : VT p l e R s m args below meth c D A nL cells slots Q ws pc loc E q := by subst h; exact k
theorem xw_fl (z : Nat × va_E) (a b : List va_W) : (z :: fl a) ++ fl b = fl ([z] :: (a ++ b)) := by simp [fl_flat]
/-- the words with all that begins them -/
def p21 : List (List Nat) := [[99, 111, 111, 112, 101, 114], [99, 111, 111, 112, 101], [115, 105, 100, 101], [112, 108, 97, 110], [99, 111, 111, 112], [116, 97, 107, 101], [112, 108, 97], [115, 101, 116], [115, 105, 100], [116, 97, 107], [99, 111, 111], [116, 97], [99, 111], [112, 108], [115, 105], [115, 101], [99], [112], [116], [115], []]
theorem p21_ok {u : List Nat} (h : begB u = true) : u ∈ p21 := by
  have h0 := (begB_ok h).1
  unfold begB at h
  rw [List.any_eq_true] at h
  obtain ⟨z, hz, h2⟩ := h
  have h3 : u <+: z.2 := of_decide_eq_true h2
  have h4 : ∀ z ∈ wds, ∀ k, k < 7 → z.2.take k ∈ p21 := by decide
  rw [List.prefix_iff_eq_take.mp h3]
  exact h4 z hz _ (by omega)
theorem wdG_mem {t : List Nat} {p : Nat} : ∀ (u : Nat) (w : List Nat), w ∈ p21 → wdG t p u w ∈ p21
  | 0, w, h => h
  | u + 1, w, h => by
    cases e : t[p + w.length]? with
    | none => rw [wdG_n e]; exact h
    | some c =>
      by_cases hb : begB (w ++ [c]) = true
      · rw [wdG_s e hb]; exact wdG_mem u _ (p21_ok hb)
      · rw [wdG_e e hb]; exact h
theorem wdF_mem (t : List Nat) (p : Nat) : wdF t p ∈ p21 := wdG_mem 8 [] (by decide)
theorem wdF_len (t : List Nat) (p : Nat) : (wdF t p).length ≤ 6 := by
  have h : ∀ w ∈ p21, w.length ≤ 6 := by decide
  exact h _ (wdF_mem t p)
theorem look_no {ps : List (Int × Int)} {d : Int} (h0 : ∀ w ∈ p21, (∀ z ∈ wds, ¬ w = z.2) → Op.lookupswitch.offset ps d (hsh w).toInt = d) {t : List Nat} {p : Nat} (h : ∀ z ∈ wds, ¬ wdF t p = z.2) : Op.lookupswitch.offset ps d (hsh (wdF t p)).toInt = d := h0 _ (wdF_mem t p) h
theorem look_n1 : ∀ w ∈ p21, (∀ z ∈ wds, ¬ w = z.2) → Op.lookupswitch.offset [(-1354752838, 91), (113762, 63), (3443497, 105), (3530071, 49), (3552391, 77)] 116 (hsh w).toInt = 116 := by decide +kernel
theorem nF_t {t : List Nat} {m q : Nat} : numF t m (q, true) = ((q, true), 0) := by simp [numF, needF]
def wcd (o : Nat) : List Nat := if o = 115 then [115, 105, 100, 101] else if o = 101 then [115, 101, 116] else if o = 116 then [116, 97, 107, 101] else if o = 99 then [99, 111, 111, 112, 101, 114] else [112, 108, 97, 110]
def NbIs (r : Nat → Int32) (k : Nat) (o : Ord3) : Prop := (o.1 ≠ 116 → r (2 * k) = nI o.2.1) ∧ (o.1 = 101 ∨ o.1 = 112 → r (2 * k + 1) = nI o.2.2)
theorem c_num {l_ : Launch} {D : va_G} {dd : Nat → ClassId} {x tb wa na va n co p k wh dg q v : Nat} {b : Bool} {ml : Int32} {s : RS} {f nf : Nat → Int32} {t : List Nat} {ws : va_W} (hst : l_.stackTraces = false) (htb : (tb, .inr (12, [.ref va, .int (nI co), .int ml, .int (nI t.length)])) ∈ ws) (hva : (va, .inl (dd 2, n, .inl f)) ∈ ws) (hS : SbI co n f t) (h60 : t.length ≤ 60) (hp : p ≤ t.length) (hk : k < 60) (hw : wh ≤ 1) (hd1 : 1 ≤ dg) (hd5 : dg ≤ 5) (hNF : numF t dg (p, false) = ((q, b), v)) : XW l_ D dd yX5_number (ws_ yX5_number cX5_number 5 none) 9 2 20 270 [.ref x, .int (nI wh), .int (nI dg)] (fl [[(x, .inr (4, [.ref tb, .int (nI p), .int (nI k), .ref wa, .ref na, .int s.1, .int s.2.1, .int (nI s.2.2)]))], [(na, .inl (dd 0, 120, .inl nf))], ws]) (fun r w => r = none ∧ b = false ∧ w = fl [[(x, .inr (4, [.ref tb, .int (nI q), .int (nI k), .ref wa, .ref na, .int s.1, .int s.2.1, .int (nI s.2.2)]))], [(na, .inl (dd 0, 120, .inl ((upd nf (2 * k + wh) (nI v)))))], ws]) (fun z E w => E = "VatBrackets$Fault" ∧ ∃ fs, b = true ∧ w = (z, .inr (7, fs)) :: fl [[(x, .inr (4, [.ref tb, .int (nI q), .int (nI k), .ref wa, .ref na, .int s.1, .int s.2.1, .int (nI s.2.2)]))], [(na, .inl (dd 0, 120, .inl nf))], ws] ∧ FaIs fs (nI q)) := by
  have h := c_X5_number (l_ := l_) (D := D) (s := s) (wa := wa) (na := na) (x := x) (nf := nf) hst htb hva hS h60 hp hk hw hd1 hd5
  rw [hNF] at h
  exact h
theorem hdX5_order : yX5_order.cls = RX5 ∧ yX5_order.cls ≠ "java/lang/invoke/MethodHandle" ∧ yX5_order.cls ≠ "java/lang/invoke/VarHandle" ∧ (parseMethodDescriptor yX5_order.desc).map (fun d => d.parameters.length) = some 0 := by decide +kernel
set_option maxHeartbeats 4000000 in
theorem c_X5_order {l_ : Launch} {D : va_G} {dd : Nat → ClassId} {x tb wa na va n co p k : Nat} {ml : Int32} {s : RS} {f nf : Nat → Int32} {t : List Nat} {ws : va_W} {wf : Nat → Option Nat} (hst : l_.stackTraces = false) (htb : (tb, .inr (12, [.ref va, .int (nI co), .int ml, .int (nI t.length)])) ∈ ws) (hva : (va, .inl (dd 2, n, .inl f)) ∈ ws) (hS : SbI co n f t) (h60 : t.length ≤ 60) (hp : p ≤ t.length) (hK : KT dd ws) (hk : k < 60) : XW l_ D dd yX5_order (ws_ yX5_order cX5_order 4 none) 13 60 650 470 [.ref x] (fl [[(x, .inr (4, [.ref tb, .int (nI p), .int (nI k), .ref wa, .ref na, .int s.1, .int s.2.1, .int (nI s.2.2)]))], [(wa, .inl (dd 5, 60, .inr (.inr (.inr (.inr wf)))))], [(na, .inl (dd 0, 120, .inl nf))], ws]) (fun r w_ => r = none ∧ (readO t p).1.2 = false ∧ ∃ q vq g hs hz nf2, w_ = fl [[(x, .inr (4, [.ref tb, .int (nI ((readO t p).1.1)), .int (nI ((k + 1))), .ref wa, .ref na, .int s.1, .int s.2.1, .int (nI s.2.2)]))], [(wa, .inl (dd 5, 60, .inr (.inr (.inr (.inr ((va_up wf k (some q))))))))], [(na, .inl (dd 0, 120, .inl nf2))], [(q, .inr (13, [.ref vq, .int (nI 0), .int hs, .int hz]))], [(vq, .inl (dd 2, (wcd (readO t p).2.1).length, .inl g))], ws] ∧ L1Is g (wcd (readO t p).2.1) ∧ hs = hsh (wcd (readO t p).2.1) ∧ NbIs nf2 k (readO t p).2 ∧ (∀ j, j < 2 * k → nf2 j = nf j) ∧ p + 3 ≤ (readO t p).1.1 ∧ (readO t p).1.1 ≤ t.length) (fun z E w_ => E = "VatBrackets$Fault" ∧ ∃ fs pos wf2 nf2, (readO t p).1 = (pos, true) ∧ w_ = (z, .inr (7, fs)) :: fl [[(x, .inr (4, [.ref tb, .int (nI pos), .int (nI k), .ref wa, .ref na, .int s.1, .int s.2.1, .int (nI s.2.2)]))], [(wa, .inl (dd 5, 60, .inr (.inr (.inr (.inr wf2)))))], [(na, .inl (dd 0, 120, .inl nf2))], ws] ∧ FaIs fs (nI pos)) := by
  have ht6 : ∀ c ∈ t, c < 65536 := fun c hc => by obtain ⟨i, hi⟩ := List.getElem?_of_mem hc; exact hS.1.lt hi
  obtain ⟨ka0, kh0, kz0, kf0, hk0, hkb0, hkT0⟩ := hK (100, [115, 105, 100, 101]) (List.mem_of_getElem? (i := 0) rfl)
  obtain ⟨ka1, kh1, kz1, kf1, hk1, hkb1, hkT1⟩ := hK (101, [115, 101, 116]) (List.mem_of_getElem? (i := 1) rfl)
  obtain ⟨ka2, kh2, kz2, kf2, hk2, hkb2, hkT2⟩ := hK (102, [116, 97, 107, 101]) (List.mem_of_getElem? (i := 2) rfl)
  obtain ⟨ka3, kh3, kz3, kf3, hk3, hkb3, hkT3⟩ := hK (103, [99, 111, 111, 112, 101, 114]) (List.mem_of_getElem? (i := 3) rfl)
  obtain ⟨ka4, kh4, kz4, kf4, hk4, hkb4, hkT4⟩ := hK (104, [112, 108, 97, 110]) (List.mem_of_getElem? (i := 4) rfl)
  have hwl6 := wdF_len t p
  refine XW.intro (by decide) (Nat.le_of_ble_eq_true rfl) (fun p_ e_ s_ m_ as_ bl_ me_ c_ A_ X hr ht => ?_)
  have X : VX p_ s_ m_ as_ me_ c_ cX5_order 4 RX5 D dd A_ := X
  refine v_eq (loc' := [(0, .ref x)]) rfl rfl rfl ?_
  refine v_aload_n (pc := 0) X dX5_order_0 rfl 0 rfl ?_
  refine v_frame (pc := 1) X (wr := fl [[(wa, .inl (dd 5, 60, .inr (.inr (.inr (.inr wf)))))], [(na, .inl (dd 0, 120, .inl nf))]]) ((fl_perm ((mv_perm 3 _).trans (mv_perm 1 _))).trans (fl_split 2 _)) (r_V X (c_X5_word (s := s) (mn := nI k) htb hva hS h60 hp hK) (List.mem_of_getElem? (i := 0) rfl) rfl rfl (lw_V q1637 q1639 qs32 q101 q1640) hdX5_word ⟨Nat.le_of_ble_eq_true rfl, Nat.le_of_ble_eq_true rfl⟩ rfl rfl (Nat.le_of_ble_eq_true rfl) dX5_order_1 ⟨Nat.le_of_ble_eq_true rfl, Nat.le_of_ble_eq_true rfl⟩) (fun v1 w1 h1 => ?_)
  obtain ⟨q, vq, g, rfl, rfl, hgT, hwl⟩ := h1
  refine v_flj (a := [[(x, .inr (4, [.ref tb, .int (nI ((p + (wdF t p).length))), .int (nI k), .ref wa, .ref na, .int s.1, .int s.2.1, .int (nI s.2.2)]))], [(q, .inr (13, [.ref vq, .int (nI 0), .int 0, .int 0]))], [(vq, .inl (dd 2, (wdF t p).length, .inl g))], ws]) (b := [[(wa, .inl (dd 5, 60, .inr (.inr (.inr (.inr wf)))))], [(na, .inl (dd 0, 120, .inl nf))]]) ?_
  refine v_eq (ws' := fl [[(x, .inr (4, [.ref tb, .int (nI ((p + (wdF t p).length))), .int (nI k), .ref wa, .ref na, .int s.1, .int s.2.1, .int (nI s.2.2)]))], [(q, .inr (13, [.ref vq, .int (nI 0), .int 0, .int 0]))], [(vq, .inl (dd 2, (wdF t p).length, .inl g))], ws, [(wa, .inl (dd 5, 60, .inr (.inr (.inr (.inr wf)))))], [(na, .inl (dd 0, 120, .inl nf))]]) rfl rfl rfl ?_
  refine v_astore_n (pc := 4) (loc' := [(1, .ref q), (0, .ref x)]) X dX5_order_4 rfl (by decide) rfl ?_
  refine v_aload_n (pc := 5) X dX5_order_5 rfl 1 rfl ?_
  refine v_getM (pc := 6) X in_X5 (mem_fl 0 rfl List.mem_cons_self) rfl 3 (by decide) q305 (fun y h => h) rfl dX5_order_6 ?_
  refine v_aload_n (pc := 9) X dX5_order_9 rfl 1 rfl ?_
  refine v_getM (pc := 10) X in_X5 (mem_fl 0 rfl List.mem_cons_self) rfl 2 (by decide) q303 (fun y h => h) rfl dX5_order_10 ?_
  refine v_aload_n (pc := 13) X dX5_order_13 rfl 0 rfl ?_
  refine v_perm (ws' := fl [[(x, .inr (4, [.ref tb, .int (nI ((p + (wdF t p).length))), .int (nI k), .ref wa, .ref na, .int s.1, .int s.2.1, .int (nI s.2.2)]))], [(q, .inr (13, [.ref vq, .int (nI 0), .int 0, .int 0]))], [(vq, .inl (dd 2, (wdF t p).length, .inl g))], [(wa, .inl (dd 5, 60, .inr (.inr (.inr (.inr wf)))))], [(na, .inl (dd 0, 120, .inl nf))], ws]) (fl_perm ((((((mv_perm 3 _).trans (mv_perm 5 _)).trans (mv_perm 5 _)).trans (mv_perm 5 _)).trans (mv_perm 5 _)).trans (mv_perm 5 _))) ?_
  refine v_aast (pc := 14) X 3 5 rfl rfl (mem_fl 1 rfl List.mem_cons_self) rfl rfl (by omega) (by decide) dX5_order_14 (ws' := fl [[(x, .inr (4, [.ref tb, .int (nI ((p + (wdF t p).length))), .int (nI k), .ref wa, .ref na, .int s.1, .int s.2.1, .int (nI s.2.2)]))], [(q, .inr (13, [.ref vq, .int (nI 0), .int 0, .int 0]))], [(vq, .inl (dd 2, (wdF t p).length, .inl g))], [(wa, .inl (dd 5, 60, .inr (.inr (.inr (.inr (va_up wf k (some q)))))))], [(na, .inl (dd 0, 120, .inl nf))], ws]) rfl ?_
  refine v_aload_n (pc := 15) X dX5_order_15 rfl 0 rfl ?_
  refine v_astore_n (pc := 16) (loc' := [(2, .ref q), (1, .ref q), (0, .ref x)]) X dX5_order_16 rfl (by decide) rfl ?_
  refine v_iconst (pc := 17) (v := -1) X dX5_order_17 rfl ?_
  refine v_istore_n (pc := 18) (loc' := [(3, .int ((-1))), (2, .ref q), (1, .ref q), (0, .ref x)]) X dX5_order_18 rfl (by decide) rfl ?_
  refine v_aload_n (pc := 19) X dX5_order_19 rfl 1 rfl ?_
  refine v_frame (pc := 20) X (wr := fl [[(x, .inr (4, [.ref tb, .int (nI ((p + (wdF t p).length))), .int (nI k), .ref wa, .ref na, .int s.1, .int s.2.1, .int (nI s.2.2)]))], [(wa, .inl (dd 5, 60, .inr (.inr (.inr (.inr (va_up wf k (some q)))))))], [(na, .inl (dd 0, 120, .inl nf))], ws]) ((fl_perm ((mv_perm 2 _).trans (mv_perm 2 _))).trans (fl_split 2 _)) (r_V X (c_J4_hashCode_0 hgT (by omega)) (List.mem_of_getElem? (i := 0) rfl) rfl rfl (lw_V q1768 q1769 q1770 q99 q1771) hdJ4_hashCode ⟨Nat.le_of_ble_eq_true rfl, Nat.le_of_ble_eq_true rfl⟩ rfl rfl (Nat.le_of_ble_eq_true rfl) dX5_order_20 ⟨Nat.le_of_ble_eq_true rfl, Nat.le_of_ble_eq_true rfl⟩) (fun v20 w20 h20 => ?_)
  obtain ⟨rfl, hs, hz, rfl, hhs⟩ := h20
  refine v_flj (a := [[(q, .inr (13, [.ref vq, .int (nI 0), .int hs, .int hz]))], [(vq, .inl (dd 2, (wdF t p).length, .inl g))]]) (b := [[(x, .inr (4, [.ref tb, .int (nI ((p + (wdF t p).length))), .int (nI k), .ref wa, .ref na, .int s.1, .int s.2.1, .int (nI s.2.2)]))], [(wa, .inl (dd 5, 60, .inr (.inr (.inr (.inr (va_up wf k (some q)))))))], [(na, .inl (dd 0, 120, .inl nf))], ws]) ?_
  refine v_eq (ws' := fl [[(q, .inr (13, [.ref vq, .int (nI 0), .int hs, .int hz]))], [(vq, .inl (dd 2, (wdF t p).length, .inl g))], [(x, .inr (4, [.ref tb, .int (nI ((p + (wdF t p).length))), .int (nI k), .ref wa, .ref na, .int s.1, .int s.2.1, .int (nI s.2.2)]))], [(wa, .inl (dd 5, 60, .inr (.inr (.inr (.inr (va_up wf k (some q)))))))], [(na, .inl (dd 0, 120, .inl nf))], ws]) rfl rfl rfl ?_
  rcases wd_ok t p with ⟨ew, eR⟩ | ⟨ew, eR⟩ | ⟨ew, eR⟩ | ⟨ew, eR⟩ | ⟨ew, eR⟩ | ⟨hne, eR⟩
  · refine v_look (pc := 23) (off := 49) X 72 dX5_order_23 (by decide) (by rw [ew]; decide +kernel) (by decide) ?_
    have eL : p + (wdF t p).length = p + 4 := by rw [ew]; rfl
    refine v_eq (ws' := fl [[(q, .inr (13, [.ref vq, .int (nI 0), .int hs, .int hz]))], [(vq, .inl (dd 2, (wdF t p).length, .inl g))], [(x, .inr (4, [.ref tb, .int (nI ((p + 4))), .int (nI k), .ref wa, .ref na, .int s.1, .int s.2.1, .int (nI s.2.2)]))], [(wa, .inl (dd 5, 60, .inr (.inr (.inr (.inr (va_up wf k (some q)))))))], [(na, .inl (dd 0, 120, .inl nf))], ws]) (by rw [eL]) rfl rfl ?_
    have hwl2 : p + 4 ≤ t.length := by have := hwl; rw [ew] at this; exact this
    refine v_aload_n (pc := 72) X dX5_order_72 rfl 1 rfl ?_
    refine v_ldcS (pc := 73) X (List.mem_of_getElem? (l := zT) (i := 0) rfl) dX5_order_73 ?_
    refine v_read (pc := 75) X ⟨[], perm_nil _⟩ (r_V X (c_J4_equals (u := [115, 105, 100, 101]) (mem_fl 0 rfl List.mem_cons_self) (mem_fl 1 rfl List.mem_cons_self) hgT (by omega) (mem_fl 5 rfl hk0) (mem_fl 5 rfl hkb0) hkT0 (by decide)) (mem_fl 0 rfl List.mem_cons_self) rfl rfl (lw_V q1829 q1830 q1831 q99 q1832) hdJ4_equals ⟨Nat.le_of_ble_eq_true rfl, Nat.le_of_ble_eq_true rfl⟩ rfl rfl (Nat.le_of_ble_eq_true rfl) dX5_order_75 ⟨Nat.le_of_ble_eq_true rfl, Nat.le_of_ble_eq_true rfl⟩) (fun r75 h75 => ?_)
    subst h75
    refine v_if_eqB (pc := 78) X 139 dX5_order_78 (by decide) (fun h78 => absurd ew h78) (fun h78 => ?_)
    refine v_iconst (pc := 81) (v := nI 0) X dX5_order_81 rfl ?_
    refine v_istore_n (pc := 82) (loc' := [(3, .int (nI 0)), (2, .ref q), (1, .ref q), (0, .ref x)]) X dX5_order_82 rfl (by decide) rfl ?_
    refine v_goto (pc := 83) X 139 dX5_order_83 (by decide) ?_
    refine v_iload_n (pc := 139) X dX5_order_139 rfl 0 rfl ?_
    refine v_tabIn (pc := 140) X 176 dX5_order_140 (by decide) (by decide) rfl (by decide) ?_
    rcases hn1 : numF t 2 (p + 4, false) with ⟨⟨q1, b1⟩, v1⟩
    rw [hn1] at eR
    dsimp only at eR
    have hb1 := numF_le (t := t) (m := 2) (s := (p + 4, false)) (by dsimp only; omega)
    rw [hn1] at hb1
    dsimp only at hb1
    refine v_aload_n (pc := 176) X dX5_order_176 rfl 3 rfl ?_
    refine v_iconst (pc := 177) (v := nI 0) X dX5_order_177 rfl ?_
    refine v_iconst (pc := 178) (v := nI 2) X dX5_order_178 rfl ?_
    refine v_frameX (pc := 179) X (wr := fl [[(q, .inr (13, [.ref vq, .int (nI 0), .int hs, .int hz]))], [(vq, .inl (dd 2, (wdF t p).length, .inl g))], [(wa, .inl (dd 5, 60, .inr (.inr (.inr (.inr (va_up wf k (some q)))))))]]) ((fl_perm (((mv_perm 5 _).trans (mv_perm 5 _)).trans (mv_perm 4 _))).trans (fl_split 3 _)) (x_V X (c_num (s := s) (wh := 0) hst htb hva hS h60 (by omega) hk (by decide) (by decide) (by decide) hn1) (List.mem_of_getElem? (i := 0) rfl) rfl rfl (lw_V q1837 q1839 qs33 q101 q1840) hdX5_number ⟨Nat.le_of_ble_eq_true rfl, Nat.le_of_ble_eq_true rfl⟩ rfl rfl (Nat.le_of_ble_eq_true rfl) dX5_order_179 ⟨Nat.le_of_ble_eq_true rfl, Nat.le_of_ble_eq_true rfl⟩) (fun q179 E179 w179 x179 => ?_) (fun v179 w179 h179 => ?_)
    · obtain ⟨rfl, fs1, rfl, rfl, hf1⟩ := x179
      refine vt_eq (dd := dd) (xw_fl _ [[(x, .inr (4, [.ref tb, .int (nI q1), .int (nI k), .ref wa, .ref na, .int s.1, .int s.2.1, .int (nI s.2.2)]))], [(na, .inl (dd 0, 120, .inl nf))], ws] [[(q, .inr (13, [.ref vq, .int (nI 0), .int hs, .int hz]))], [(vq, .inl (dd 2, (wdF t p).length, .inl g))], [(wa, .inl (dd 5, 60, .inr (.inr (.inr (.inr (va_up wf k (some q)))))))]]) ?_
      refine vt_perm (ws' := fl [[(q179, .inr (7, fs1))], [(x, .inr (4, [.ref tb, .int (nI q1), .int (nI k), .ref wa, .ref na, .int s.1, .int s.2.1, .int (nI s.2.2)]))], [(wa, .inl (dd 5, 60, .inr (.inr (.inr (.inr (va_up wf k (some q)))))))], [(na, .inl (dd 0, 120, .inl nf))], ws, [(q, .inr (13, [.ref vq, .int (nI 0), .int hs, .int hz]))], [(vq, .inl (dd 2, (wdF t p).length, .inl g))]]) (fl_perm (((((mv_perm 3 _).trans (mv_perm 3 _)).trans (mv_perm 6 _)).trans (mv_perm 4 _)).trans (mv_perm 4 _))) ?_
      refine vt_less (ws' := fl [[(q179, .inr (7, fs1))], [(x, .inr (4, [.ref tb, .int (nI q1), .int (nI k), .ref wa, .ref na, .int s.1, .int s.2.1, .int (nI s.2.2)]))], [(wa, .inl (dd 5, 60, .inr (.inr (.inr (.inr (va_up wf k (some q)))))))], [(na, .inl (dd 0, 120, .inl nf))], ws]) (fl_sub [[(q179, .inr (7, fs1))], [(x, .inr (4, [.ref tb, .int (nI q1), .int (nI k), .ref wa, .ref na, .int s.1, .int s.2.1, .int (nI s.2.2)]))], [(wa, .inl (dd 5, 60, .inr (.inr (.inr (.inr (va_up wf k (some q)))))))], [(na, .inl (dd 0, 120, .inl nf))], ws] [[(q, .inr (13, [.ref vq, .int (nI 0), .int hs, .int hz]))], [(vq, .inl (dd 2, (wdF t p).length, .inl g))]]) ?_
      exact vt_out X (fun z hz => (ht z hz).elim) (Nat.le_of_ble_eq_true rfl) (Nat.le_of_ble_eq_true rfl) (by rw [eR]; exact ⟨rfl, fs1, q1, _, _, rfl, rfl, hf1⟩)
    · obtain ⟨rfl, rfl, rfl⟩ := h179
      refine v_flj (a := [[(x, .inr (4, [.ref tb, .int (nI q1), .int (nI k), .ref wa, .ref na, .int s.1, .int s.2.1, .int (nI s.2.2)]))], [(na, .inl (dd 0, 120, .inl (upd nf (2 * k + 0) (nI v1))))], ws]) (b := [[(q, .inr (13, [.ref vq, .int (nI 0), .int hs, .int hz]))], [(vq, .inl (dd 2, (wdF t p).length, .inl g))], [(wa, .inl (dd 5, 60, .inr (.inr (.inr (.inr (va_up wf k (some q)))))))]]) ?_
      refine v_eq (ws' := fl [[(x, .inr (4, [.ref tb, .int (nI q1), .int (nI k), .ref wa, .ref na, .int s.1, .int s.2.1, .int (nI s.2.2)]))], [(na, .inl (dd 0, 120, .inl (upd nf (2 * k + 0) (nI v1))))], ws, [(q, .inr (13, [.ref vq, .int (nI 0), .int hs, .int hz]))], [(vq, .inl (dd 2, (wdF t p).length, .inl g))], [(wa, .inl (dd 5, 60, .inr (.inr (.inr (.inr (va_up wf k (some q)))))))]]) rfl rfl rfl ?_
      refine v_goto (pc := 182) X 239 dX5_order_182 (by decide) ?_
      refine v_aload_n (pc := 239) X dX5_order_239 rfl 3 rfl ?_
      refine v_dup (pc := 240) X dX5_order_240 rfl ?_
      refine v_getM (pc := 241) X in_X5 (mem_fl 0 rfl List.mem_cons_self) rfl 2 (by decide) q303 (fun y h => h) rfl dX5_order_241 ?_
      refine v_iconst (pc := 244) (v := nI 1) X dX5_order_244 rfl ?_
      refine v_iaddN (pc := 245) X dX5_order_245 ?_
      refine v_put (pc := 246) X in_X5 tyX5 tyX5_ok nmX5 0 rfl rfl 2 (by decide) q303 (fun y h => h) rfl rfl rfl (Nat.le_of_ble_eq_true rfl) dX5_order_246 (ws' := fl [[(x, .inr (4, [.ref tb, .int (nI q1), .int (nI (k + 1)), .ref wa, .ref na, .int s.1, .int s.2.1, .int (nI s.2.2)]))], [(na, .inl (dd 0, 120, .inl (upd nf (2 * k + 0) (nI v1))))], ws, [(q, .inr (13, [.ref vq, .int (nI 0), .int hs, .int hz]))], [(vq, .inl (dd 2, (wdF t p).length, .inl g))], [(wa, .inl (dd 5, 60, .inr (.inr (.inr (.inr (va_up wf k (some q)))))))]]) rfl ?_
      refine v_perm (ws' := fl [[(x, .inr (4, [.ref tb, .int (nI q1), .int (nI (k + 1)), .ref wa, .ref na, .int s.1, .int s.2.1, .int (nI s.2.2)]))], [(wa, .inl (dd 5, 60, .inr (.inr (.inr (.inr (va_up wf k (some q)))))))], [(na, .inl (dd 0, 120, .inl (upd nf (2 * k + 0) (nI v1))))], [(q, .inr (13, [.ref vq, .int (nI 0), .int hs, .int hz]))], [(vq, .inl (dd 2, (wdF t p).length, .inl g))], ws]) (fl_perm ((((((mv_perm 2 _).trans (mv_perm 4 _)).trans (mv_perm 4 _)).trans (mv_perm 4 _)).trans (mv_perm 5 _)).trans (mv_perm 5 _))) ?_
      refine v_widen (k := 60) (n := 650) (Nat.le_of_ble_eq_true rfl) (Nat.le_of_ble_eq_true rfl) ?_
      exact v_xr (v_vret (pc := 249) X hr dX5_order_249 (by rw [eR, ew]; rw [ew] at hgT hhs; exact ⟨rfl, rfl, q, vq, g, hs, hz, _, rfl, hgT, hhs (by decide), ⟨fun _ => upd_s _ _ _, fun z => by simp at z⟩, fun j hj => upd_n (by omega), by show p + 3 ≤ q1; omega, by show q1 ≤ t.length; omega⟩))
  · refine v_look (pc := 23) (off := 63) X 86 dX5_order_23 (by decide) (by rw [ew]; decide +kernel) (by decide) ?_
    have eL : p + (wdF t p).length = p + 3 := by rw [ew]; rfl
    refine v_eq (ws' := fl [[(q, .inr (13, [.ref vq, .int (nI 0), .int hs, .int hz]))], [(vq, .inl (dd 2, (wdF t p).length, .inl g))], [(x, .inr (4, [.ref tb, .int (nI ((p + 3))), .int (nI k), .ref wa, .ref na, .int s.1, .int s.2.1, .int (nI s.2.2)]))], [(wa, .inl (dd 5, 60, .inr (.inr (.inr (.inr (va_up wf k (some q)))))))], [(na, .inl (dd 0, 120, .inl nf))], ws]) (by rw [eL]) rfl rfl ?_
    have hwl2 : p + 3 ≤ t.length := by have := hwl; rw [ew] at this; exact this
    refine v_aload_n (pc := 86) X dX5_order_86 rfl 1 rfl ?_
    refine v_ldcS (pc := 87) X (List.mem_of_getElem? (l := zT) (i := 1) rfl) dX5_order_87 ?_
    refine v_read (pc := 89) X ⟨[], perm_nil _⟩ (r_V X (c_J4_equals (u := [115, 101, 116]) (mem_fl 0 rfl List.mem_cons_self) (mem_fl 1 rfl List.mem_cons_self) hgT (by omega) (mem_fl 5 rfl hk1) (mem_fl 5 rfl hkb1) hkT1 (by decide)) (mem_fl 0 rfl List.mem_cons_self) rfl rfl (lw_V q1829 q1830 q1831 q99 q1832) hdJ4_equals ⟨Nat.le_of_ble_eq_true rfl, Nat.le_of_ble_eq_true rfl⟩ rfl rfl (Nat.le_of_ble_eq_true rfl) dX5_order_89 ⟨Nat.le_of_ble_eq_true rfl, Nat.le_of_ble_eq_true rfl⟩) (fun r89 h89 => ?_)
    subst h89
    refine v_if_eqB (pc := 92) X 139 dX5_order_92 (by decide) (fun h92 => absurd ew h92) (fun h92 => ?_)
    refine v_iconst (pc := 95) (v := nI 1) X dX5_order_95 rfl ?_
    refine v_istore_n (pc := 96) (loc' := [(3, .int (nI 1)), (2, .ref q), (1, .ref q), (0, .ref x)]) X dX5_order_96 rfl (by decide) rfl ?_
    refine v_goto (pc := 97) X 139 dX5_order_97 (by decide) ?_
    refine v_iload_n (pc := 139) X dX5_order_139 rfl 0 rfl ?_
    refine v_tabIn (pc := 140) X 185 dX5_order_140 (by decide) (by decide) rfl (by decide) ?_
    rcases hn1 : numF t 1 (p + 3, false) with ⟨⟨q1, b1⟩, v1⟩
    rw [hn1] at eR
    dsimp only at eR
    have hb1 := numF_le (t := t) (m := 1) (s := (p + 3, false)) (by dsimp only; omega)
    rw [hn1] at hb1
    dsimp only at hb1
    refine v_aload_n (pc := 185) X dX5_order_185 rfl 3 rfl ?_
    refine v_iconst (pc := 186) (v := nI 0) X dX5_order_186 rfl ?_
    refine v_iconst (pc := 187) (v := nI 1) X dX5_order_187 rfl ?_
    refine v_frameX (pc := 188) X (wr := fl [[(q, .inr (13, [.ref vq, .int (nI 0), .int hs, .int hz]))], [(vq, .inl (dd 2, (wdF t p).length, .inl g))], [(wa, .inl (dd 5, 60, .inr (.inr (.inr (.inr (va_up wf k (some q)))))))]]) ((fl_perm (((mv_perm 5 _).trans (mv_perm 5 _)).trans (mv_perm 4 _))).trans (fl_split 3 _)) (x_V X (c_num (s := s) (wh := 0) hst htb hva hS h60 (by omega) hk (by decide) (by decide) (by decide) hn1) (List.mem_of_getElem? (i := 0) rfl) rfl rfl (lw_V q1837 q1839 qs33 q101 q1840) hdX5_number ⟨Nat.le_of_ble_eq_true rfl, Nat.le_of_ble_eq_true rfl⟩ rfl rfl (Nat.le_of_ble_eq_true rfl) dX5_order_188 ⟨Nat.le_of_ble_eq_true rfl, Nat.le_of_ble_eq_true rfl⟩) (fun q188 E188 w188 x188 => ?_) (fun v188 w188 h188 => ?_)
    · obtain ⟨rfl, fs1, rfl, rfl, hf1⟩ := x188
      refine vt_eq (dd := dd) (xw_fl _ [[(x, .inr (4, [.ref tb, .int (nI q1), .int (nI k), .ref wa, .ref na, .int s.1, .int s.2.1, .int (nI s.2.2)]))], [(na, .inl (dd 0, 120, .inl nf))], ws] [[(q, .inr (13, [.ref vq, .int (nI 0), .int hs, .int hz]))], [(vq, .inl (dd 2, (wdF t p).length, .inl g))], [(wa, .inl (dd 5, 60, .inr (.inr (.inr (.inr (va_up wf k (some q)))))))]]) ?_
      refine vt_perm (ws' := fl [[(q188, .inr (7, fs1))], [(x, .inr (4, [.ref tb, .int (nI q1), .int (nI k), .ref wa, .ref na, .int s.1, .int s.2.1, .int (nI s.2.2)]))], [(wa, .inl (dd 5, 60, .inr (.inr (.inr (.inr (va_up wf k (some q)))))))], [(na, .inl (dd 0, 120, .inl nf))], ws, [(q, .inr (13, [.ref vq, .int (nI 0), .int hs, .int hz]))], [(vq, .inl (dd 2, (wdF t p).length, .inl g))]]) (fl_perm (((((mv_perm 3 _).trans (mv_perm 3 _)).trans (mv_perm 6 _)).trans (mv_perm 4 _)).trans (mv_perm 4 _))) ?_
      refine vt_less (ws' := fl [[(q188, .inr (7, fs1))], [(x, .inr (4, [.ref tb, .int (nI q1), .int (nI k), .ref wa, .ref na, .int s.1, .int s.2.1, .int (nI s.2.2)]))], [(wa, .inl (dd 5, 60, .inr (.inr (.inr (.inr (va_up wf k (some q)))))))], [(na, .inl (dd 0, 120, .inl nf))], ws]) (fl_sub [[(q188, .inr (7, fs1))], [(x, .inr (4, [.ref tb, .int (nI q1), .int (nI k), .ref wa, .ref na, .int s.1, .int s.2.1, .int (nI s.2.2)]))], [(wa, .inl (dd 5, 60, .inr (.inr (.inr (.inr (va_up wf k (some q)))))))], [(na, .inl (dd 0, 120, .inl nf))], ws] [[(q, .inr (13, [.ref vq, .int (nI 0), .int hs, .int hz]))], [(vq, .inl (dd 2, (wdF t p).length, .inl g))]]) ?_
      exact vt_out X (fun z hz => (ht z hz).elim) (Nat.le_of_ble_eq_true rfl) (Nat.le_of_ble_eq_true rfl) (by rw [eR, nF_t]; exact ⟨rfl, fs1, q1, _, _, rfl, rfl, hf1⟩)
    · obtain ⟨rfl, rfl, rfl⟩ := h188
      refine v_flj (a := [[(x, .inr (4, [.ref tb, .int (nI q1), .int (nI k), .ref wa, .ref na, .int s.1, .int s.2.1, .int (nI s.2.2)]))], [(na, .inl (dd 0, 120, .inl (upd nf (2 * k + 0) (nI v1))))], ws]) (b := [[(q, .inr (13, [.ref vq, .int (nI 0), .int hs, .int hz]))], [(vq, .inl (dd 2, (wdF t p).length, .inl g))], [(wa, .inl (dd 5, 60, .inr (.inr (.inr (.inr (va_up wf k (some q)))))))]]) ?_
      refine v_eq (ws' := fl [[(x, .inr (4, [.ref tb, .int (nI q1), .int (nI k), .ref wa, .ref na, .int s.1, .int s.2.1, .int (nI s.2.2)]))], [(na, .inl (dd 0, 120, .inl (upd nf (2 * k + 0) (nI v1))))], ws, [(q, .inr (13, [.ref vq, .int (nI 0), .int hs, .int hz]))], [(vq, .inl (dd 2, (wdF t p).length, .inl g))], [(wa, .inl (dd 5, 60, .inr (.inr (.inr (.inr (va_up wf k (some q)))))))]]) rfl rfl rfl ?_
      rcases hn2 : numF t 2 (q1, false) with ⟨⟨q2, b2⟩, v2⟩
      rw [hn2] at eR
      dsimp only at eR
      have hb2 := numF_le (t := t) (m := 2) (s := (q1, false)) (by dsimp only; omega)
      rw [hn2] at hb2
      dsimp only at hb2
      refine v_aload_n (pc := 191) X dX5_order_191 rfl 3 rfl ?_
      refine v_iconst (pc := 192) (v := nI 1) X dX5_order_192 rfl ?_
      refine v_iconst (pc := 193) (v := nI 2) X dX5_order_193 rfl ?_
      refine v_frameX (pc := 194) X (wr := fl [[(q, .inr (13, [.ref vq, .int (nI 0), .int hs, .int hz]))], [(vq, .inl (dd 2, (wdF t p).length, .inl g))], [(wa, .inl (dd 5, 60, .inr (.inr (.inr (.inr (va_up wf k (some q)))))))]]) (fl_split 3 _) (x_V X (c_num (s := s) (wh := 1) hst htb hva hS h60 (by omega) hk (by decide) (by decide) (by decide) hn2) (List.mem_of_getElem? (i := 0) rfl) rfl rfl (lw_V q1837 q1839 qs33 q101 q1840) hdX5_number ⟨Nat.le_of_ble_eq_true rfl, Nat.le_of_ble_eq_true rfl⟩ rfl rfl (Nat.le_of_ble_eq_true rfl) dX5_order_194 ⟨Nat.le_of_ble_eq_true rfl, Nat.le_of_ble_eq_true rfl⟩) (fun q194 E194 w194 x194 => ?_) (fun v194 w194 h194 => ?_)
      · obtain ⟨rfl, fs1, rfl, rfl, hf1⟩ := x194
        refine vt_eq (dd := dd) (xw_fl _ [[(x, .inr (4, [.ref tb, .int (nI q2), .int (nI k), .ref wa, .ref na, .int s.1, .int s.2.1, .int (nI s.2.2)]))], [(na, .inl (dd 0, 120, .inl ((upd nf (2 * k + 0) (nI v1)))))], ws] [[(q, .inr (13, [.ref vq, .int (nI 0), .int hs, .int hz]))], [(vq, .inl (dd 2, (wdF t p).length, .inl g))], [(wa, .inl (dd 5, 60, .inr (.inr (.inr (.inr (va_up wf k (some q)))))))]]) ?_
        refine vt_perm (ws' := fl [[(q194, .inr (7, fs1))], [(x, .inr (4, [.ref tb, .int (nI q2), .int (nI k), .ref wa, .ref na, .int s.1, .int s.2.1, .int (nI s.2.2)]))], [(wa, .inl (dd 5, 60, .inr (.inr (.inr (.inr (va_up wf k (some q)))))))], [(na, .inl (dd 0, 120, .inl ((upd nf (2 * k + 0) (nI v1)))))], ws, [(q, .inr (13, [.ref vq, .int (nI 0), .int hs, .int hz]))], [(vq, .inl (dd 2, (wdF t p).length, .inl g))]]) (fl_perm (((((mv_perm 3 _).trans (mv_perm 3 _)).trans (mv_perm 6 _)).trans (mv_perm 4 _)).trans (mv_perm 4 _))) ?_
        refine vt_less (ws' := fl [[(q194, .inr (7, fs1))], [(x, .inr (4, [.ref tb, .int (nI q2), .int (nI k), .ref wa, .ref na, .int s.1, .int s.2.1, .int (nI s.2.2)]))], [(wa, .inl (dd 5, 60, .inr (.inr (.inr (.inr (va_up wf k (some q)))))))], [(na, .inl (dd 0, 120, .inl ((upd nf (2 * k + 0) (nI v1)))))], ws]) (fl_sub [[(q194, .inr (7, fs1))], [(x, .inr (4, [.ref tb, .int (nI q2), .int (nI k), .ref wa, .ref na, .int s.1, .int s.2.1, .int (nI s.2.2)]))], [(wa, .inl (dd 5, 60, .inr (.inr (.inr (.inr (va_up wf k (some q)))))))], [(na, .inl (dd 0, 120, .inl ((upd nf (2 * k + 0) (nI v1)))))], ws] [[(q, .inr (13, [.ref vq, .int (nI 0), .int hs, .int hz]))], [(vq, .inl (dd 2, (wdF t p).length, .inl g))]]) ?_
        exact vt_out X (fun z hz => (ht z hz).elim) (Nat.le_of_ble_eq_true rfl) (Nat.le_of_ble_eq_true rfl) (by rw [eR]; exact ⟨rfl, fs1, q2, _, _, rfl, rfl, hf1⟩)
      · obtain ⟨rfl, rfl, rfl⟩ := h194
        refine v_flj (a := [[(x, .inr (4, [.ref tb, .int (nI q2), .int (nI k), .ref wa, .ref na, .int s.1, .int s.2.1, .int (nI s.2.2)]))], [(na, .inl (dd 0, 120, .inl (upd ((upd nf (2 * k + 0) (nI v1))) (2 * k + 1) (nI v2))))], ws]) (b := [[(q, .inr (13, [.ref vq, .int (nI 0), .int hs, .int hz]))], [(vq, .inl (dd 2, (wdF t p).length, .inl g))], [(wa, .inl (dd 5, 60, .inr (.inr (.inr (.inr (va_up wf k (some q)))))))]]) ?_
        refine v_eq (ws' := fl [[(x, .inr (4, [.ref tb, .int (nI q2), .int (nI k), .ref wa, .ref na, .int s.1, .int s.2.1, .int (nI s.2.2)]))], [(na, .inl (dd 0, 120, .inl (upd ((upd nf (2 * k + 0) (nI v1))) (2 * k + 1) (nI v2))))], ws, [(q, .inr (13, [.ref vq, .int (nI 0), .int hs, .int hz]))], [(vq, .inl (dd 2, (wdF t p).length, .inl g))], [(wa, .inl (dd 5, 60, .inr (.inr (.inr (.inr (va_up wf k (some q)))))))]]) rfl rfl rfl ?_
        refine v_goto (pc := 197) X 239 dX5_order_197 (by decide) ?_
        refine v_aload_n (pc := 239) X dX5_order_239 rfl 3 rfl ?_
        refine v_dup (pc := 240) X dX5_order_240 rfl ?_
        refine v_getM (pc := 241) X in_X5 (mem_fl 0 rfl List.mem_cons_self) rfl 2 (by decide) q303 (fun y h => h) rfl dX5_order_241 ?_
        refine v_iconst (pc := 244) (v := nI 1) X dX5_order_244 rfl ?_
        refine v_iaddN (pc := 245) X dX5_order_245 ?_
        refine v_put (pc := 246) X in_X5 tyX5 tyX5_ok nmX5 0 rfl rfl 2 (by decide) q303 (fun y h => h) rfl rfl rfl (Nat.le_of_ble_eq_true rfl) dX5_order_246 (ws' := fl [[(x, .inr (4, [.ref tb, .int (nI q2), .int (nI (k + 1)), .ref wa, .ref na, .int s.1, .int s.2.1, .int (nI s.2.2)]))], [(na, .inl (dd 0, 120, .inl (upd ((upd nf (2 * k + 0) (nI v1))) (2 * k + 1) (nI v2))))], ws, [(q, .inr (13, [.ref vq, .int (nI 0), .int hs, .int hz]))], [(vq, .inl (dd 2, (wdF t p).length, .inl g))], [(wa, .inl (dd 5, 60, .inr (.inr (.inr (.inr (va_up wf k (some q)))))))]]) rfl ?_
        refine v_perm (ws' := fl [[(x, .inr (4, [.ref tb, .int (nI q2), .int (nI (k + 1)), .ref wa, .ref na, .int s.1, .int s.2.1, .int (nI s.2.2)]))], [(wa, .inl (dd 5, 60, .inr (.inr (.inr (.inr (va_up wf k (some q)))))))], [(na, .inl (dd 0, 120, .inl (upd ((upd nf (2 * k + 0) (nI v1))) (2 * k + 1) (nI v2))))], [(q, .inr (13, [.ref vq, .int (nI 0), .int hs, .int hz]))], [(vq, .inl (dd 2, (wdF t p).length, .inl g))], ws]) (fl_perm ((((((mv_perm 2 _).trans (mv_perm 4 _)).trans (mv_perm 4 _)).trans (mv_perm 4 _)).trans (mv_perm 5 _)).trans (mv_perm 5 _))) ?_
        refine v_widen (k := 60) (n := 650) (Nat.le_of_ble_eq_true rfl) (Nat.le_of_ble_eq_true rfl) ?_
        exact v_xr (v_vret (pc := 249) X hr dX5_order_249 (by rw [eR, ew]; rw [ew] at hgT hhs; exact ⟨rfl, rfl, q, vq, g, hs, hz, _, rfl, hgT, hhs (by decide), ⟨fun _ => (upd_n (by omega)).trans (upd_s _ _ _), fun _ => upd_s _ _ _⟩, fun j hj => (upd_n (by omega)).trans (upd_n (by omega)), by show p + 3 ≤ q2; omega, by show q2 ≤ t.length; omega⟩))
  · refine v_look (pc := 23) (off := 77) X 100 dX5_order_23 (by decide) (by rw [ew]; decide +kernel) (by decide) ?_
    have eL : p + (wdF t p).length = p + 4 := by rw [ew]; rfl
    refine v_eq (ws' := fl [[(q, .inr (13, [.ref vq, .int (nI 0), .int hs, .int hz]))], [(vq, .inl (dd 2, (wdF t p).length, .inl g))], [(x, .inr (4, [.ref tb, .int (nI ((p + 4))), .int (nI k), .ref wa, .ref na, .int s.1, .int s.2.1, .int (nI s.2.2)]))], [(wa, .inl (dd 5, 60, .inr (.inr (.inr (.inr (va_up wf k (some q)))))))], [(na, .inl (dd 0, 120, .inl nf))], ws]) (by rw [eL]) rfl rfl ?_
    have hwl2 : p + 4 ≤ t.length := by have := hwl; rw [ew] at this; exact this
    refine v_aload_n (pc := 100) X dX5_order_100 rfl 1 rfl ?_
    refine v_ldcS (pc := 101) X (List.mem_of_getElem? (l := zT) (i := 2) rfl) dX5_order_101 ?_
    refine v_read (pc := 103) X ⟨[], perm_nil _⟩ (r_V X (c_J4_equals (u := [116, 97, 107, 101]) (mem_fl 0 rfl List.mem_cons_self) (mem_fl 1 rfl List.mem_cons_self) hgT (by omega) (mem_fl 5 rfl hk2) (mem_fl 5 rfl hkb2) hkT2 (by decide)) (mem_fl 0 rfl List.mem_cons_self) rfl rfl (lw_V q1829 q1830 q1831 q99 q1832) hdJ4_equals ⟨Nat.le_of_ble_eq_true rfl, Nat.le_of_ble_eq_true rfl⟩ rfl rfl (Nat.le_of_ble_eq_true rfl) dX5_order_103 ⟨Nat.le_of_ble_eq_true rfl, Nat.le_of_ble_eq_true rfl⟩) (fun r103 h103 => ?_)
    subst h103
    refine v_if_eqB (pc := 106) X 139 dX5_order_106 (by decide) (fun h106 => absurd ew h106) (fun h106 => ?_)
    refine v_iconst (pc := 109) (v := nI 2) X dX5_order_109 rfl ?_
    refine v_istore_n (pc := 110) (loc' := [(3, .int (nI 2)), (2, .ref q), (1, .ref q), (0, .ref x)]) X dX5_order_110 rfl (by decide) rfl ?_
    refine v_goto (pc := 111) X 139 dX5_order_111 (by decide) ?_
    refine v_iload_n (pc := 139) X dX5_order_139 rfl 0 rfl ?_
    refine v_tabIn (pc := 140) X 200 dX5_order_140 (by decide) (by decide) rfl (by decide) ?_
    refine v_goto (pc := 200) X 239 dX5_order_200 (by decide) ?_
    refine v_aload_n (pc := 239) X dX5_order_239 rfl 3 rfl ?_
    refine v_dup (pc := 240) X dX5_order_240 rfl ?_
    refine v_getM (pc := 241) X in_X5 (mem_fl 2 rfl List.mem_cons_self) rfl 2 (by decide) q303 (fun y h => h) rfl dX5_order_241 ?_
    refine v_iconst (pc := 244) (v := nI 1) X dX5_order_244 rfl ?_
    refine v_iaddN (pc := 245) X dX5_order_245 ?_
    refine v_put (pc := 246) X in_X5 tyX5 tyX5_ok nmX5 2 rfl rfl 2 (by decide) q303 (fun y h => h) rfl rfl rfl (Nat.le_of_ble_eq_true rfl) dX5_order_246 (ws' := fl [[(q, .inr (13, [.ref vq, .int (nI 0), .int hs, .int hz]))], [(vq, .inl (dd 2, (wdF t p).length, .inl g))], [(x, .inr (4, [.ref tb, .int (nI ((p + 4))), .int (nI (k + 1)), .ref wa, .ref na, .int s.1, .int s.2.1, .int (nI s.2.2)]))], [(wa, .inl (dd 5, 60, .inr (.inr (.inr (.inr (va_up wf k (some q)))))))], [(na, .inl (dd 0, 120, .inl nf))], ws]) rfl ?_
    refine v_perm (ws' := fl [[(x, .inr (4, [.ref tb, .int (nI ((p + 4))), .int (nI (k + 1)), .ref wa, .ref na, .int s.1, .int s.2.1, .int (nI s.2.2)]))], [(wa, .inl (dd 5, 60, .inr (.inr (.inr (.inr (va_up wf k (some q)))))))], [(na, .inl (dd 0, 120, .inl nf))], [(q, .inr (13, [.ref vq, .int (nI 0), .int hs, .int hz]))], [(vq, .inl (dd 2, (wdF t p).length, .inl g))], ws]) (fl_perm ((((((mv_perm 5 _).trans (mv_perm 2 _)).trans (mv_perm 2 _)).trans (mv_perm 5 _)).trans (mv_perm 5 _)).trans (mv_perm 5 _))) ?_
    refine v_widen (k := 60) (n := 650) (Nat.le_of_ble_eq_true rfl) (Nat.le_of_ble_eq_true rfl) ?_
    exact v_xr (v_vret (pc := 249) X hr dX5_order_249 (by rw [eR, ew]; rw [ew] at hgT hhs; exact ⟨rfl, rfl, q, vq, g, hs, hz, _, rfl, hgT, hhs (by decide), ⟨fun z => absurd rfl z, fun z => by simp at z⟩, fun j hj => rfl, by show p + 3 ≤ (p + 4); omega, by show (p + 4) ≤ t.length; omega⟩))
  · refine v_look (pc := 23) (off := 91) X 114 dX5_order_23 (by decide) (by rw [ew]; decide +kernel) (by decide) ?_
    have eL : p + (wdF t p).length = p + 6 := by rw [ew]; rfl
    refine v_eq (ws' := fl [[(q, .inr (13, [.ref vq, .int (nI 0), .int hs, .int hz]))], [(vq, .inl (dd 2, (wdF t p).length, .inl g))], [(x, .inr (4, [.ref tb, .int (nI ((p + 6))), .int (nI k), .ref wa, .ref na, .int s.1, .int s.2.1, .int (nI s.2.2)]))], [(wa, .inl (dd 5, 60, .inr (.inr (.inr (.inr (va_up wf k (some q)))))))], [(na, .inl (dd 0, 120, .inl nf))], ws]) (by rw [eL]) rfl rfl ?_
    have hwl2 : p + 6 ≤ t.length := by have := hwl; rw [ew] at this; exact this
    refine v_aload_n (pc := 114) X dX5_order_114 rfl 1 rfl ?_
    refine v_ldcS (pc := 115) X (List.mem_of_getElem? (l := zT) (i := 3) rfl) dX5_order_115 ?_
    refine v_read (pc := 117) X ⟨[], perm_nil _⟩ (r_V X (c_J4_equals (u := [99, 111, 111, 112, 101, 114]) (mem_fl 0 rfl List.mem_cons_self) (mem_fl 1 rfl List.mem_cons_self) hgT (by omega) (mem_fl 5 rfl hk3) (mem_fl 5 rfl hkb3) hkT3 (by decide)) (mem_fl 0 rfl List.mem_cons_self) rfl rfl (lw_V q1829 q1830 q1831 q99 q1832) hdJ4_equals ⟨Nat.le_of_ble_eq_true rfl, Nat.le_of_ble_eq_true rfl⟩ rfl rfl (Nat.le_of_ble_eq_true rfl) dX5_order_117 ⟨Nat.le_of_ble_eq_true rfl, Nat.le_of_ble_eq_true rfl⟩) (fun r117 h117 => ?_)
    subst h117
    refine v_if_eqB (pc := 120) X 139 dX5_order_120 (by decide) (fun h120 => absurd ew h120) (fun h120 => ?_)
    refine v_iconst (pc := 123) (v := nI 3) X dX5_order_123 rfl ?_
    refine v_istore_n (pc := 124) (loc' := [(3, .int (nI 3)), (2, .ref q), (1, .ref q), (0, .ref x)]) X dX5_order_124 rfl (by decide) rfl ?_
    refine v_goto (pc := 125) X 139 dX5_order_125 (by decide) ?_
    refine v_iload_n (pc := 139) X dX5_order_139 rfl 0 rfl ?_
    refine v_tabIn (pc := 140) X 203 dX5_order_140 (by decide) (by decide) rfl (by decide) ?_
    rcases hn1 : numF t 5 (p + 6, false) with ⟨⟨q1, b1⟩, v1⟩
    rw [hn1] at eR
    dsimp only at eR
    have hb1 := numF_le (t := t) (m := 5) (s := (p + 6, false)) (by dsimp only; omega)
    rw [hn1] at hb1
    dsimp only at hb1
    refine v_aload_n (pc := 203) X dX5_order_203 rfl 3 rfl ?_
    refine v_iconst (pc := 204) (v := nI 0) X dX5_order_204 rfl ?_
    refine v_iconst (pc := 205) (v := nI 5) X dX5_order_205 rfl ?_
    refine v_frameX (pc := 206) X (wr := fl [[(q, .inr (13, [.ref vq, .int (nI 0), .int hs, .int hz]))], [(vq, .inl (dd 2, (wdF t p).length, .inl g))], [(wa, .inl (dd 5, 60, .inr (.inr (.inr (.inr (va_up wf k (some q)))))))]]) ((fl_perm (((mv_perm 5 _).trans (mv_perm 5 _)).trans (mv_perm 4 _))).trans (fl_split 3 _)) (x_V X (c_num (s := s) (wh := 0) hst htb hva hS h60 (by omega) hk (by decide) (by decide) (by decide) hn1) (List.mem_of_getElem? (i := 0) rfl) rfl rfl (lw_V q1837 q1839 qs33 q101 q1840) hdX5_number ⟨Nat.le_of_ble_eq_true rfl, Nat.le_of_ble_eq_true rfl⟩ rfl rfl (Nat.le_of_ble_eq_true rfl) dX5_order_206 ⟨Nat.le_of_ble_eq_true rfl, Nat.le_of_ble_eq_true rfl⟩) (fun q206 E206 w206 x206 => ?_) (fun v206 w206 h206 => ?_)
    · obtain ⟨rfl, fs1, rfl, rfl, hf1⟩ := x206
      refine vt_eq (dd := dd) (xw_fl _ [[(x, .inr (4, [.ref tb, .int (nI q1), .int (nI k), .ref wa, .ref na, .int s.1, .int s.2.1, .int (nI s.2.2)]))], [(na, .inl (dd 0, 120, .inl nf))], ws] [[(q, .inr (13, [.ref vq, .int (nI 0), .int hs, .int hz]))], [(vq, .inl (dd 2, (wdF t p).length, .inl g))], [(wa, .inl (dd 5, 60, .inr (.inr (.inr (.inr (va_up wf k (some q)))))))]]) ?_
      refine vt_perm (ws' := fl [[(q206, .inr (7, fs1))], [(x, .inr (4, [.ref tb, .int (nI q1), .int (nI k), .ref wa, .ref na, .int s.1, .int s.2.1, .int (nI s.2.2)]))], [(wa, .inl (dd 5, 60, .inr (.inr (.inr (.inr (va_up wf k (some q)))))))], [(na, .inl (dd 0, 120, .inl nf))], ws, [(q, .inr (13, [.ref vq, .int (nI 0), .int hs, .int hz]))], [(vq, .inl (dd 2, (wdF t p).length, .inl g))]]) (fl_perm (((((mv_perm 3 _).trans (mv_perm 3 _)).trans (mv_perm 6 _)).trans (mv_perm 4 _)).trans (mv_perm 4 _))) ?_
      refine vt_less (ws' := fl [[(q206, .inr (7, fs1))], [(x, .inr (4, [.ref tb, .int (nI q1), .int (nI k), .ref wa, .ref na, .int s.1, .int s.2.1, .int (nI s.2.2)]))], [(wa, .inl (dd 5, 60, .inr (.inr (.inr (.inr (va_up wf k (some q)))))))], [(na, .inl (dd 0, 120, .inl nf))], ws]) (fl_sub [[(q206, .inr (7, fs1))], [(x, .inr (4, [.ref tb, .int (nI q1), .int (nI k), .ref wa, .ref na, .int s.1, .int s.2.1, .int (nI s.2.2)]))], [(wa, .inl (dd 5, 60, .inr (.inr (.inr (.inr (va_up wf k (some q)))))))], [(na, .inl (dd 0, 120, .inl nf))], ws] [[(q, .inr (13, [.ref vq, .int (nI 0), .int hs, .int hz]))], [(vq, .inl (dd 2, (wdF t p).length, .inl g))]]) ?_
      exact vt_out X (fun z hz => (ht z hz).elim) (Nat.le_of_ble_eq_true rfl) (Nat.le_of_ble_eq_true rfl) (by rw [eR]; exact ⟨rfl, fs1, q1, _, _, rfl, rfl, hf1⟩)
    · obtain ⟨rfl, rfl, rfl⟩ := h206
      refine v_flj (a := [[(x, .inr (4, [.ref tb, .int (nI q1), .int (nI k), .ref wa, .ref na, .int s.1, .int s.2.1, .int (nI s.2.2)]))], [(na, .inl (dd 0, 120, .inl (upd nf (2 * k + 0) (nI v1))))], ws]) (b := [[(q, .inr (13, [.ref vq, .int (nI 0), .int hs, .int hz]))], [(vq, .inl (dd 2, (wdF t p).length, .inl g))], [(wa, .inl (dd 5, 60, .inr (.inr (.inr (.inr (va_up wf k (some q)))))))]]) ?_
      refine v_eq (ws' := fl [[(x, .inr (4, [.ref tb, .int (nI q1), .int (nI k), .ref wa, .ref na, .int s.1, .int s.2.1, .int (nI s.2.2)]))], [(na, .inl (dd 0, 120, .inl (upd nf (2 * k + 0) (nI v1))))], ws, [(q, .inr (13, [.ref vq, .int (nI 0), .int hs, .int hz]))], [(vq, .inl (dd 2, (wdF t p).length, .inl g))], [(wa, .inl (dd 5, 60, .inr (.inr (.inr (.inr (va_up wf k (some q)))))))]]) rfl rfl rfl ?_
      refine v_goto (pc := 209) X 239 dX5_order_209 (by decide) ?_
      refine v_aload_n (pc := 239) X dX5_order_239 rfl 3 rfl ?_
      refine v_dup (pc := 240) X dX5_order_240 rfl ?_
      refine v_getM (pc := 241) X in_X5 (mem_fl 0 rfl List.mem_cons_self) rfl 2 (by decide) q303 (fun y h => h) rfl dX5_order_241 ?_
      refine v_iconst (pc := 244) (v := nI 1) X dX5_order_244 rfl ?_
      refine v_iaddN (pc := 245) X dX5_order_245 ?_
      refine v_put (pc := 246) X in_X5 tyX5 tyX5_ok nmX5 0 rfl rfl 2 (by decide) q303 (fun y h => h) rfl rfl rfl (Nat.le_of_ble_eq_true rfl) dX5_order_246 (ws' := fl [[(x, .inr (4, [.ref tb, .int (nI q1), .int (nI (k + 1)), .ref wa, .ref na, .int s.1, .int s.2.1, .int (nI s.2.2)]))], [(na, .inl (dd 0, 120, .inl (upd nf (2 * k + 0) (nI v1))))], ws, [(q, .inr (13, [.ref vq, .int (nI 0), .int hs, .int hz]))], [(vq, .inl (dd 2, (wdF t p).length, .inl g))], [(wa, .inl (dd 5, 60, .inr (.inr (.inr (.inr (va_up wf k (some q)))))))]]) rfl ?_
      refine v_perm (ws' := fl [[(x, .inr (4, [.ref tb, .int (nI q1), .int (nI (k + 1)), .ref wa, .ref na, .int s.1, .int s.2.1, .int (nI s.2.2)]))], [(wa, .inl (dd 5, 60, .inr (.inr (.inr (.inr (va_up wf k (some q)))))))], [(na, .inl (dd 0, 120, .inl (upd nf (2 * k + 0) (nI v1))))], [(q, .inr (13, [.ref vq, .int (nI 0), .int hs, .int hz]))], [(vq, .inl (dd 2, (wdF t p).length, .inl g))], ws]) (fl_perm ((((((mv_perm 2 _).trans (mv_perm 4 _)).trans (mv_perm 4 _)).trans (mv_perm 4 _)).trans (mv_perm 5 _)).trans (mv_perm 5 _))) ?_
      refine v_widen (k := 60) (n := 650) (Nat.le_of_ble_eq_true rfl) (Nat.le_of_ble_eq_true rfl) ?_
      exact v_xr (v_vret (pc := 249) X hr dX5_order_249 (by rw [eR, ew]; rw [ew] at hgT hhs; exact ⟨rfl, rfl, q, vq, g, hs, hz, _, rfl, hgT, hhs (by decide), ⟨fun _ => upd_s _ _ _, fun z => by simp at z⟩, fun j hj => upd_n (by omega), by show p + 3 ≤ q1; omega, by show q1 ≤ t.length; omega⟩))
  · refine v_look (pc := 23) (off := 105) X 128 dX5_order_23 (by decide) (by rw [ew]; decide +kernel) (by decide) ?_
    have eL : p + (wdF t p).length = p + 4 := by rw [ew]; rfl
    refine v_eq (ws' := fl [[(q, .inr (13, [.ref vq, .int (nI 0), .int hs, .int hz]))], [(vq, .inl (dd 2, (wdF t p).length, .inl g))], [(x, .inr (4, [.ref tb, .int (nI ((p + 4))), .int (nI k), .ref wa, .ref na, .int s.1, .int s.2.1, .int (nI s.2.2)]))], [(wa, .inl (dd 5, 60, .inr (.inr (.inr (.inr (va_up wf k (some q)))))))], [(na, .inl (dd 0, 120, .inl nf))], ws]) (by rw [eL]) rfl rfl ?_
    have hwl2 : p + 4 ≤ t.length := by have := hwl; rw [ew] at this; exact this
    refine v_aload_n (pc := 128) X dX5_order_128 rfl 1 rfl ?_
    refine v_ldcS (pc := 129) X (List.mem_of_getElem? (l := zT) (i := 4) rfl) dX5_order_129 ?_
    refine v_read (pc := 131) X ⟨[], perm_nil _⟩ (r_V X (c_J4_equals (u := [112, 108, 97, 110]) (mem_fl 0 rfl List.mem_cons_self) (mem_fl 1 rfl List.mem_cons_self) hgT (by omega) (mem_fl 5 rfl hk4) (mem_fl 5 rfl hkb4) hkT4 (by decide)) (mem_fl 0 rfl List.mem_cons_self) rfl rfl (lw_V q1829 q1830 q1831 q99 q1832) hdJ4_equals ⟨Nat.le_of_ble_eq_true rfl, Nat.le_of_ble_eq_true rfl⟩ rfl rfl (Nat.le_of_ble_eq_true rfl) dX5_order_131 ⟨Nat.le_of_ble_eq_true rfl, Nat.le_of_ble_eq_true rfl⟩) (fun r131 h131 => ?_)
    subst h131
    refine v_if_eqB (pc := 134) X 139 dX5_order_134 (by decide) (fun h134 => absurd ew h134) (fun h134 => ?_)
    refine v_iconst (pc := 137) (v := nI 4) X dX5_order_137 rfl ?_
    refine v_istore_n (pc := 138) (loc' := [(3, .int (nI 4)), (2, .ref q), (1, .ref q), (0, .ref x)]) X dX5_order_138 rfl (by decide) rfl ?_
    refine v_iload_n (pc := 139) X dX5_order_139 rfl 0 rfl ?_
    refine v_tabIn (pc := 140) X 212 dX5_order_140 (by decide) (by decide) rfl (by decide) ?_
    rcases hn1 : numF t 1 (p + 4, false) with ⟨⟨q1, b1⟩, v1⟩
    rw [hn1] at eR
    dsimp only at eR
    have hb1 := numF_le (t := t) (m := 1) (s := (p + 4, false)) (by dsimp only; omega)
    rw [hn1] at hb1
    dsimp only at hb1
    refine v_aload_n (pc := 212) X dX5_order_212 rfl 3 rfl ?_
    refine v_iconst (pc := 213) (v := nI 0) X dX5_order_213 rfl ?_
    refine v_iconst (pc := 214) (v := nI 1) X dX5_order_214 rfl ?_
    refine v_frameX (pc := 215) X (wr := fl [[(q, .inr (13, [.ref vq, .int (nI 0), .int hs, .int hz]))], [(vq, .inl (dd 2, (wdF t p).length, .inl g))], [(wa, .inl (dd 5, 60, .inr (.inr (.inr (.inr (va_up wf k (some q)))))))]]) ((fl_perm (((mv_perm 5 _).trans (mv_perm 5 _)).trans (mv_perm 4 _))).trans (fl_split 3 _)) (x_V X (c_num (s := s) (wh := 0) hst htb hva hS h60 (by omega) hk (by decide) (by decide) (by decide) hn1) (List.mem_of_getElem? (i := 0) rfl) rfl rfl (lw_V q1837 q1839 qs33 q101 q1840) hdX5_number ⟨Nat.le_of_ble_eq_true rfl, Nat.le_of_ble_eq_true rfl⟩ rfl rfl (Nat.le_of_ble_eq_true rfl) dX5_order_215 ⟨Nat.le_of_ble_eq_true rfl, Nat.le_of_ble_eq_true rfl⟩) (fun q215 E215 w215 x215 => ?_) (fun v215 w215 h215 => ?_)
    · obtain ⟨rfl, fs1, rfl, rfl, hf1⟩ := x215
      refine vt_eq (dd := dd) (xw_fl _ [[(x, .inr (4, [.ref tb, .int (nI q1), .int (nI k), .ref wa, .ref na, .int s.1, .int s.2.1, .int (nI s.2.2)]))], [(na, .inl (dd 0, 120, .inl nf))], ws] [[(q, .inr (13, [.ref vq, .int (nI 0), .int hs, .int hz]))], [(vq, .inl (dd 2, (wdF t p).length, .inl g))], [(wa, .inl (dd 5, 60, .inr (.inr (.inr (.inr (va_up wf k (some q)))))))]]) ?_
      refine vt_perm (ws' := fl [[(q215, .inr (7, fs1))], [(x, .inr (4, [.ref tb, .int (nI q1), .int (nI k), .ref wa, .ref na, .int s.1, .int s.2.1, .int (nI s.2.2)]))], [(wa, .inl (dd 5, 60, .inr (.inr (.inr (.inr (va_up wf k (some q)))))))], [(na, .inl (dd 0, 120, .inl nf))], ws, [(q, .inr (13, [.ref vq, .int (nI 0), .int hs, .int hz]))], [(vq, .inl (dd 2, (wdF t p).length, .inl g))]]) (fl_perm (((((mv_perm 3 _).trans (mv_perm 3 _)).trans (mv_perm 6 _)).trans (mv_perm 4 _)).trans (mv_perm 4 _))) ?_
      refine vt_less (ws' := fl [[(q215, .inr (7, fs1))], [(x, .inr (4, [.ref tb, .int (nI q1), .int (nI k), .ref wa, .ref na, .int s.1, .int s.2.1, .int (nI s.2.2)]))], [(wa, .inl (dd 5, 60, .inr (.inr (.inr (.inr (va_up wf k (some q)))))))], [(na, .inl (dd 0, 120, .inl nf))], ws]) (fl_sub [[(q215, .inr (7, fs1))], [(x, .inr (4, [.ref tb, .int (nI q1), .int (nI k), .ref wa, .ref na, .int s.1, .int s.2.1, .int (nI s.2.2)]))], [(wa, .inl (dd 5, 60, .inr (.inr (.inr (.inr (va_up wf k (some q)))))))], [(na, .inl (dd 0, 120, .inl nf))], ws] [[(q, .inr (13, [.ref vq, .int (nI 0), .int hs, .int hz]))], [(vq, .inl (dd 2, (wdF t p).length, .inl g))]]) ?_
      exact vt_out X (fun z hz => (ht z hz).elim) (Nat.le_of_ble_eq_true rfl) (Nat.le_of_ble_eq_true rfl) (by rw [eR, nF_t]; exact ⟨rfl, fs1, q1, _, _, rfl, rfl, hf1⟩)
    · obtain ⟨rfl, rfl, rfl⟩ := h215
      refine v_flj (a := [[(x, .inr (4, [.ref tb, .int (nI q1), .int (nI k), .ref wa, .ref na, .int s.1, .int s.2.1, .int (nI s.2.2)]))], [(na, .inl (dd 0, 120, .inl (upd nf (2 * k + 0) (nI v1))))], ws]) (b := [[(q, .inr (13, [.ref vq, .int (nI 0), .int hs, .int hz]))], [(vq, .inl (dd 2, (wdF t p).length, .inl g))], [(wa, .inl (dd 5, 60, .inr (.inr (.inr (.inr (va_up wf k (some q)))))))]]) ?_
      refine v_eq (ws' := fl [[(x, .inr (4, [.ref tb, .int (nI q1), .int (nI k), .ref wa, .ref na, .int s.1, .int s.2.1, .int (nI s.2.2)]))], [(na, .inl (dd 0, 120, .inl (upd nf (2 * k + 0) (nI v1))))], ws, [(q, .inr (13, [.ref vq, .int (nI 0), .int hs, .int hz]))], [(vq, .inl (dd 2, (wdF t p).length, .inl g))], [(wa, .inl (dd 5, 60, .inr (.inr (.inr (.inr (va_up wf k (some q)))))))]]) rfl rfl rfl ?_
      rcases hn2 : numF t 1 (q1, false) with ⟨⟨q2, b2⟩, v2⟩
      rw [hn2] at eR
      dsimp only at eR
      have hb2 := numF_le (t := t) (m := 1) (s := (q1, false)) (by dsimp only; omega)
      rw [hn2] at hb2
      dsimp only at hb2
      refine v_aload_n (pc := 218) X dX5_order_218 rfl 3 rfl ?_
      refine v_iconst (pc := 219) (v := nI 1) X dX5_order_219 rfl ?_
      refine v_iconst (pc := 220) (v := nI 1) X dX5_order_220 rfl ?_
      refine v_frameX (pc := 221) X (wr := fl [[(q, .inr (13, [.ref vq, .int (nI 0), .int hs, .int hz]))], [(vq, .inl (dd 2, (wdF t p).length, .inl g))], [(wa, .inl (dd 5, 60, .inr (.inr (.inr (.inr (va_up wf k (some q)))))))]]) (fl_split 3 _) (x_V X (c_num (s := s) (wh := 1) hst htb hva hS h60 (by omega) hk (by decide) (by decide) (by decide) hn2) (List.mem_of_getElem? (i := 0) rfl) rfl rfl (lw_V q1837 q1839 qs33 q101 q1840) hdX5_number ⟨Nat.le_of_ble_eq_true rfl, Nat.le_of_ble_eq_true rfl⟩ rfl rfl (Nat.le_of_ble_eq_true rfl) dX5_order_221 ⟨Nat.le_of_ble_eq_true rfl, Nat.le_of_ble_eq_true rfl⟩) (fun q221 E221 w221 x221 => ?_) (fun v221 w221 h221 => ?_)
      · obtain ⟨rfl, fs1, rfl, rfl, hf1⟩ := x221
        refine vt_eq (dd := dd) (xw_fl _ [[(x, .inr (4, [.ref tb, .int (nI q2), .int (nI k), .ref wa, .ref na, .int s.1, .int s.2.1, .int (nI s.2.2)]))], [(na, .inl (dd 0, 120, .inl ((upd nf (2 * k + 0) (nI v1)))))], ws] [[(q, .inr (13, [.ref vq, .int (nI 0), .int hs, .int hz]))], [(vq, .inl (dd 2, (wdF t p).length, .inl g))], [(wa, .inl (dd 5, 60, .inr (.inr (.inr (.inr (va_up wf k (some q)))))))]]) ?_
        refine vt_perm (ws' := fl [[(q221, .inr (7, fs1))], [(x, .inr (4, [.ref tb, .int (nI q2), .int (nI k), .ref wa, .ref na, .int s.1, .int s.2.1, .int (nI s.2.2)]))], [(wa, .inl (dd 5, 60, .inr (.inr (.inr (.inr (va_up wf k (some q)))))))], [(na, .inl (dd 0, 120, .inl ((upd nf (2 * k + 0) (nI v1)))))], ws, [(q, .inr (13, [.ref vq, .int (nI 0), .int hs, .int hz]))], [(vq, .inl (dd 2, (wdF t p).length, .inl g))]]) (fl_perm (((((mv_perm 3 _).trans (mv_perm 3 _)).trans (mv_perm 6 _)).trans (mv_perm 4 _)).trans (mv_perm 4 _))) ?_
        refine vt_less (ws' := fl [[(q221, .inr (7, fs1))], [(x, .inr (4, [.ref tb, .int (nI q2), .int (nI k), .ref wa, .ref na, .int s.1, .int s.2.1, .int (nI s.2.2)]))], [(wa, .inl (dd 5, 60, .inr (.inr (.inr (.inr (va_up wf k (some q)))))))], [(na, .inl (dd 0, 120, .inl ((upd nf (2 * k + 0) (nI v1)))))], ws]) (fl_sub [[(q221, .inr (7, fs1))], [(x, .inr (4, [.ref tb, .int (nI q2), .int (nI k), .ref wa, .ref na, .int s.1, .int s.2.1, .int (nI s.2.2)]))], [(wa, .inl (dd 5, 60, .inr (.inr (.inr (.inr (va_up wf k (some q)))))))], [(na, .inl (dd 0, 120, .inl ((upd nf (2 * k + 0) (nI v1)))))], ws] [[(q, .inr (13, [.ref vq, .int (nI 0), .int hs, .int hz]))], [(vq, .inl (dd 2, (wdF t p).length, .inl g))]]) ?_
        exact vt_out X (fun z hz => (ht z hz).elim) (Nat.le_of_ble_eq_true rfl) (Nat.le_of_ble_eq_true rfl) (by rw [eR]; exact ⟨rfl, fs1, q2, _, _, rfl, rfl, hf1⟩)
      · obtain ⟨rfl, rfl, rfl⟩ := h221
        refine v_flj (a := [[(x, .inr (4, [.ref tb, .int (nI q2), .int (nI k), .ref wa, .ref na, .int s.1, .int s.2.1, .int (nI s.2.2)]))], [(na, .inl (dd 0, 120, .inl (upd ((upd nf (2 * k + 0) (nI v1))) (2 * k + 1) (nI v2))))], ws]) (b := [[(q, .inr (13, [.ref vq, .int (nI 0), .int hs, .int hz]))], [(vq, .inl (dd 2, (wdF t p).length, .inl g))], [(wa, .inl (dd 5, 60, .inr (.inr (.inr (.inr (va_up wf k (some q)))))))]]) ?_
        refine v_eq (ws' := fl [[(x, .inr (4, [.ref tb, .int (nI q2), .int (nI k), .ref wa, .ref na, .int s.1, .int s.2.1, .int (nI s.2.2)]))], [(na, .inl (dd 0, 120, .inl (upd ((upd nf (2 * k + 0) (nI v1))) (2 * k + 1) (nI v2))))], ws, [(q, .inr (13, [.ref vq, .int (nI 0), .int hs, .int hz]))], [(vq, .inl (dd 2, (wdF t p).length, .inl g))], [(wa, .inl (dd 5, 60, .inr (.inr (.inr (.inr (va_up wf k (some q)))))))]]) rfl rfl rfl ?_
        refine v_goto (pc := 224) X 239 dX5_order_224 (by decide) ?_
        refine v_aload_n (pc := 239) X dX5_order_239 rfl 3 rfl ?_
        refine v_dup (pc := 240) X dX5_order_240 rfl ?_
        refine v_getM (pc := 241) X in_X5 (mem_fl 0 rfl List.mem_cons_self) rfl 2 (by decide) q303 (fun y h => h) rfl dX5_order_241 ?_
        refine v_iconst (pc := 244) (v := nI 1) X dX5_order_244 rfl ?_
        refine v_iaddN (pc := 245) X dX5_order_245 ?_
        refine v_put (pc := 246) X in_X5 tyX5 tyX5_ok nmX5 0 rfl rfl 2 (by decide) q303 (fun y h => h) rfl rfl rfl (Nat.le_of_ble_eq_true rfl) dX5_order_246 (ws' := fl [[(x, .inr (4, [.ref tb, .int (nI q2), .int (nI (k + 1)), .ref wa, .ref na, .int s.1, .int s.2.1, .int (nI s.2.2)]))], [(na, .inl (dd 0, 120, .inl (upd ((upd nf (2 * k + 0) (nI v1))) (2 * k + 1) (nI v2))))], ws, [(q, .inr (13, [.ref vq, .int (nI 0), .int hs, .int hz]))], [(vq, .inl (dd 2, (wdF t p).length, .inl g))], [(wa, .inl (dd 5, 60, .inr (.inr (.inr (.inr (va_up wf k (some q)))))))]]) rfl ?_
        refine v_perm (ws' := fl [[(x, .inr (4, [.ref tb, .int (nI q2), .int (nI (k + 1)), .ref wa, .ref na, .int s.1, .int s.2.1, .int (nI s.2.2)]))], [(wa, .inl (dd 5, 60, .inr (.inr (.inr (.inr (va_up wf k (some q)))))))], [(na, .inl (dd 0, 120, .inl (upd ((upd nf (2 * k + 0) (nI v1))) (2 * k + 1) (nI v2))))], [(q, .inr (13, [.ref vq, .int (nI 0), .int hs, .int hz]))], [(vq, .inl (dd 2, (wdF t p).length, .inl g))], ws]) (fl_perm ((((((mv_perm 2 _).trans (mv_perm 4 _)).trans (mv_perm 4 _)).trans (mv_perm 4 _)).trans (mv_perm 5 _)).trans (mv_perm 5 _))) ?_
        refine v_widen (k := 60) (n := 650) (Nat.le_of_ble_eq_true rfl) (Nat.le_of_ble_eq_true rfl) ?_
        exact v_xr (v_vret (pc := 249) X hr dX5_order_249 (by rw [eR, ew]; rw [ew] at hgT hhs; exact ⟨rfl, rfl, q, vq, g, hs, hz, _, rfl, hgT, hhs (by decide), ⟨fun _ => (upd_n (by omega)).trans (upd_s _ _ _), fun _ => upd_s _ _ _⟩, fun j hj => (upd_n (by omega)).trans (upd_n (by omega)), by show p + 3 ≤ q2; omega, by show q2 ≤ t.length; omega⟩))
  · refine v_look (pc := 23) (off := 116) X 139 dX5_order_23 (by decide) (look_no look_n1 hne) (by decide) ?_
    refine v_iload_n (pc := 139) X dX5_order_139 rfl 0 rfl ?_
    refine v_tabOut (pc := 140) X 227 dX5_order_140 (Or.inl (by decide)) (by decide) ?_
    refine v_perm (ws' := fl [[(x, .inr (4, [.ref tb, .int (nI ((p + (wdF t p).length))), .int (nI k), .ref wa, .ref na, .int s.1, .int s.2.1, .int (nI s.2.2)]))], [(wa, .inl (dd 5, 60, .inr (.inr (.inr (.inr (va_up wf k (some q)))))))], [(na, .inl (dd 0, 120, .inl nf))], ws, [(q, .inr (13, [.ref vq, .int (nI 0), .int hs, .int hz]))], [(vq, .inl (dd 2, (wdF t p).length, .inl g))]]) (fl_perm ((((mv_perm 5 _).trans (mv_perm 5 _)).trans (mv_perm 5 _)).trans (mv_perm 5 _))) ?_
    refine v_less (ws' := fl [[(x, .inr (4, [.ref tb, .int (nI ((p + (wdF t p).length))), .int (nI k), .ref wa, .ref na, .int s.1, .int s.2.1, .int (nI s.2.2)]))], [(wa, .inl (dd 5, 60, .inr (.inr (.inr (.inr (va_up wf k (some q)))))))], [(na, .inl (dd 0, 120, .inl nf))], ws]) (fl_sub [[(x, .inr (4, [.ref tb, .int (nI ((p + (wdF t p).length))), .int (nI k), .ref wa, .ref na, .int s.1, .int s.2.1, .int (nI s.2.2)]))], [(wa, .inl (dd 5, 60, .inr (.inr (.inr (.inr (va_up wf k (some q)))))))], [(na, .inl (dd 0, 120, .inl nf))], ws] [[(q, .inr (13, [.ref vq, .int (nI 0), .int hs, .int hz]))], [(vq, .inl (dd 2, (wdF t p).length, .inl g))]]) ?_
    refine v_newE (pc := 227) (pi := 235) (ci := 7) (As := [.int (nI ((p + (wdF t p).length)))]) (post := fun fs => FaIs fs ((nI ((p + (wdF t p).length))))) X in_X8 tyX8 tyX8_ok q1293 q1294 q117 rfl (fun j hj => by rcases (show j = 0 ∨ j = 1 ∨ j = 2 ∨ j = 3 ∨ j = 4 ∨ j = 5 ∨ j = 6 by omega) with rfl | rfl | rfl | rfl | rfl | rfl | rfl <;> rfl) dX5_order_227 dX5_order_230 (fun ls H1 locs q hl hP k => lv_aload_n X.hx X.hb dX5_order_231 rfl (lv_at hl 3 rfl) (va_get X.hx X.hb X.hts in_X5 X.hown X.hK hP 0 rfl rfl 1 (by decide) (X.hts _ q302) (fun y h => h) rfl dX5_order_232 k)) (fun q => c_X8_init hst) q1304 q117 q1302 q1303 hdX8_init ⟨Nat.le_of_ble_eq_true rfl, Nat.le_of_ble_eq_true rfl⟩ rfl (Nat.le_of_ble_eq_true rfl) dX5_order_235 ⟨Nat.le_of_ble_eq_true rfl, Nat.le_of_ble_eq_true rfl⟩ (fun q227 fs227 hf227 => ?_)
    refine v_eq (ws' := fl [[(q227, .inr (7, fs227))], [(x, .inr (4, [.ref tb, .int (nI ((p + (wdF t p).length))), .int (nI k), .ref wa, .ref na, .int s.1, .int s.2.1, .int (nI s.2.2)]))], [(wa, .inl (dd 5, 60, .inr (.inr (.inr (.inr (va_up wf k (some q)))))))], [(na, .inl (dd 0, 120, .inl nf))], ws]) rfl rfl rfl ?_
    refine v_athrow (pc := 238) X (mem_fl 0 rfl List.mem_cons_self) rfl rfl dX5_order_238 ?_
    exact vt_out X (fun z hz => (ht z hz).elim) (Nat.le_of_ble_eq_true rfl) (Nat.le_of_ble_eq_true rfl) ⟨rfl, fs227, _, _, _, eR, rfl, hf227⟩

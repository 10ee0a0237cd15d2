set_option maxHeartbeats 4000000 in
theorem c_J3_append_L {l_ : Launch} {D : va_G} {dd : Nat → ClassId} {x va n : Nat} {ml : Int32} {f : Nat → Int32} {t : List Nat} {c : Nat} (hS : SbI 0 n f t) (hl : t.length < 90) (hc : c < 256) : MW l_ D dd yJ3_append_3 cJ3_append_3 2 (some (.object "java/lang/StringBuilder")) 7 2 760 290 [.ref x, .int (nI c)] ([(x, .inr (12, [.ref va, .int (nI 0), .int ml, .int (nI t.length)])), (va, .inl (dd 2, n, .inl f))]) (fun r w => r = some (.ref x) ∧ ∃ va2 n2 f2, w = [(x, .inr (12, [.ref va2, .int (nI 0), .int ml, .int (nI ((t ++ [c]).length))])), (va2, .inl (dd 2, n2, .inl f2))] ∧ SbI 0 n2 f2 (t ++ [c]) ∧ n ≤ n2) := by
  refine MW.intro (by decide) (Nat.le_of_ble_eq_true rfl) (fun p_ e_ s_ m_ as_ bl_ me_ c_ A_ X hr hnm => ?_)
  have X : VX p_ s_ m_ as_ me_ c_ cJ3_append_3 2 RJ3 D dd A_ := X
  refine v_eq (loc' := [(0, .ref x), (1, .int (nI c))]) rfl rfl rfl ?_
  refine v_aload_n (pc := 0) X dJ3_append_3_0 rfl 0 rfl ?_
  refine v_iload_n (pc := 1) X dJ3_append_3_1 rfl 1 rfl ?_
  refine v_frame (pc := 2) X (wr := []) (perm_nil _) (r_SU X (c_J2_append_3_0 hS hl (by omega)) (List.mem_of_getElem? (i := 0) rfl) rfl (lw_SU q804 q2447 q291 q805 q97 q806) hdJ2_append_3_su ⟨by dsimp only; omega, by dsimp only; omega⟩ rfl rfl (Nat.le_of_ble_eq_true rfl) dJ3_append_3_2 ⟨by dsimp only; omega, by dsimp only; omega⟩) (fun v2 w2 h2 => ?_)
  obtain ⟨rfl, va2, co2, n2, f2, rfl, hS2, hk2, hn2⟩ := h2
  refine v_eq (ws' := [(x, .inr (12, [.ref va2, .int (nI co2), .int ml, .int (nI ((t ++ [c]).length))])), (va2, .inl (dd 2, n2, .inl f2))]) rfl rfl rfl ?_
  refine v_pop (pc := 5) X dJ3_append_3_5 rfl ?_
  refine v_aload_n (pc := 6) X dJ3_append_3_6 rfl 0 rfl ?_
  refine v_widen (k := 2) (n := 760) (by omega) (by omega) ?_
  exact v_aret (pc := 7) X hr (Or.inl ⟨_, rfl⟩) dJ3_append_3_7 (by obtain rfl := hk2 hc; exact ⟨rfl, _, _, _, rfl, hS2, hn2⟩)
def trT : Tr → List Nat
  | .append a b => 40 :: (trT a ++ (trT b ++ [41]))
  | .tag v _ => dec2 v
  | _ => []
abbrev WrW (dd : Nat → ClassId) (x va n : Nat) (f : Nat → Int32) (cnt : Nat) (ml : Int32) (ws : va_W) : va_W := fl [[(x, .inr (12, [.ref va, .int (nI 0), .int ml, .int (nI cnt)]))], [(va, .inl (dd 2, n, .inl f))], ws]
def PWr (l : Launch) (D : va_G) (dd : Nat → ClassId) (fr mc ms lc : Nat) (As : List Value) (wc : va_W) (post : Option Value → va_W → Prop) : Tr → Nat → Prop
  | .append _ _ => fun a => MW l D dd yX10_writes cX10_writes 2 none fr mc ms lc (.ref a :: As) wc post
  | .tag _ _ => fun a => MW l D dd yX11_writes cX11_writes 2 none fr mc ms lc (.ref a :: As) wc post
  | _ => fun _ => True
theorem trT_nd (t : List Nat) (P Z : Tr) : t ++ [40] ++ trT P ++ trT Z ++ [41] = t ++ trT (.append P Z) := by
  show _ = t ++ 40 :: (trT P ++ (trT Z ++ [41]))
  simp
theorem hdP_writes : (xP "writes" "(Ljava/lang/StringBuilder;)V").cls ≠ "java/lang/invoke/MethodHandle" ∧ (xP "writes" "(Ljava/lang/StringBuilder;)V").cls ≠ "java/lang/invoke/VarHandle" ∧ (parseMethodDescriptor (xP "writes" "(Ljava/lang/StringBuilder;)V").desc).map (fun d => d.parameters.length) = some 1 := by decide +kernel
theorem v_pwrites {p : Program} {l : Launch} {e : Env} {R : Room} {s : State} {m : MethodId} {args : Array Value} {below : List Frame} {meth : Method} {c : Code} {cc : ByteArray} {nL : Nat} {own : String} {D : va_G} {dd : Nat → ClassId} {A : Nat → Prop} {cells slots : Nat} {Q : State → Prop} {ws : va_W} {pc : Nat} {loc : List (Nat × Value)} {st : List Value} {wc wr : va_W} {post : Option Value → va_W → Prop} {index count fr mc ms lc y : Nat} (X : VX p s m args meth c cc nL own D dd A) : ∀ (T : Tr) (a : Nat), PartIs wc T a → PWr l D dd fr mc ms lc [.ref y] wc post T a → ws.Perm (wc ++ wr) → Cond.methodLink own index (xP "writes" "(Ljava/lang/StringBuilder;)V") ∈ lw_all → fr + 1 ≤ R.frames ∧ 21 + lc ≤ R.locals → (st.map fun v => v.category).sum ≤ 8 → decode cc pc = .ok (.invokeinterface index count, 5) → cells + mc ≤ R.cells ∧ slots + ms ≤ R.slots →
    (∀ (v : Option Value) (w1 : va_W), post v w1 → V p l e R s m args below meth c D A nL (cells + mc) (slots + ms) Q (w1 ++ wr) (pc + 5) loc (v.toList ++ st)) → V p l e R s m args below meth c D A nL cells slots Q ws pc loc (.ref y :: .ref a :: st)
  | .append _ _, a, hp, hM, hs, hlink, hR, hW, d, hf, kk => by
    obtain ⟨b, c, he, -, -⟩ := hp
    exact v_frame5 X hs (r_F X hM he rfl rfl (lw_F hlink q1577 q1579 q119 q1581) (by decide +kernel) hdP_writes ⟨hR.1, by omega⟩ rfl rfl hW d hf) kk
  | .tag v _, a, hp, hM, hs, hlink, hR, hW, d, hf, kk => v_frame5 X hs (r_F X hM hp rfl rfl (lw_F hlink q1585 q1587 q120 q1589) (by decide +kernel) hdP_writes ⟨hR.1, by omega⟩ rfl rfl hW d hf) kk
  | .nil, _, hp, _, _, _, _, _, _, _, _ => hp.elim
  | .line, _, hp, _, _, _, _, _, _, _, _ => hp.elim
  | .align _, _, hp, _, _, _, _, _, _, _, _ => hp.elim
  | .text _, _, hp, _, _, _, _, _, _, _, _ => hp.elim
  | .nest _ _, _, hp, _, _, _, _, _, _, _, _ => hp.elim
  | .group _ _, _, hp, _, _, _, _, _, _, _, _ => hp.elim
theorem hdX10_writes : yX10_writes.cls = RX10 ∧ yX10_writes.cls ≠ "java/lang/invoke/MethodHandle" ∧ yX10_writes.cls ≠ "java/lang/invoke/VarHandle" ∧ (parseMethodDescriptor yX10_writes.desc).map (fun d => d.parameters.length) = some 1 := by decide +kernel
set_option maxHeartbeats 4000000 in
theorem c_X10_writes {l_ : Launch} {D : va_G} {dd : Nat → ClassId} {x a b c va n : Nat} {ml : Int32} {f : Nat → Int32} {t : List Nat} {P Z : Tr} {ws : va_W} (h1 : (a, .inr (8, [.ref b, .ref c])) ∈ ws) (h2 : PartIs ws P b) (h3 : PartIs ws Z c) (ihx : ∀ (va n : Nat) (f : Nat → Int32) (t : List Nat), SbI 0 n f t → t.length + (trT P).length < 85 → PWr l_ D dd (dep P + 8) (2 * (trT P).length) (760 * (trT P).length) (24 * dep P + 312) [.ref x] (WrW dd x va n f t.length ml ws) (fun v_ w => v_ = none ∧ ∃ va2 n2 f2, w = WrW dd x va2 n2 f2 (t ++ trT P).length ml ws ∧ SbI 0 n2 f2 (t ++ trT P)) P b) (ihz : ∀ (va n : Nat) (f : Nat → Int32) (t : List Nat), SbI 0 n f t → t.length + (trT Z).length < 85 → PWr l_ D dd (dep Z + 8) (2 * (trT Z).length) (760 * (trT Z).length) (24 * dep Z + 312) [.ref x] (WrW dd x va n f t.length ml ws) (fun v_ w => v_ = none ∧ ∃ va2 n2 f2, w = WrW dd x va2 n2 f2 (t ++ trT Z).length ml ws ∧ SbI 0 n2 f2 (t ++ trT Z)) Z c) (hS : SbI 0 n f t) (hl : t.length + ((trT P).length + (trT Z).length + 2) < 85) : MW l_ D dd yX10_writes cX10_writes 2 none (dep (.append P Z) + 8) (2 * ((trT P).length + (trT Z).length + 2)) (760 * ((trT P).length + (trT Z).length + 2)) (24 * dep (.append P Z) + 312) [.ref a, .ref x] (WrW dd x va n f t.length ml ws) (fun v_ w => v_ = none ∧ ∃ va2 n2 f2, w = WrW dd x va2 n2 f2 (t ++ trT (.append P Z)).length ml ws ∧ SbI 0 n2 f2 (t ++ trT (.append P Z))) := by
  refine MW.intro (by decide) (Nat.le_of_ble_eq_true rfl) (fun p_ e_ s_ m_ as_ bl_ me_ c_ A_ X hr hnm => ?_)
  have X : VX p_ s_ m_ as_ me_ c_ cX10_writes 2 RX10 D dd A_ := X
  refine v_eq (loc' := [(0, .ref a), (1, .ref x)]) rfl rfl rfl ?_
  refine v_aload_n (pc := 0) X dX10_writes_0 rfl 1 rfl ?_
  refine v_bipush (pc := 1) (v := nI 40) X dX10_writes_1 rfl ?_
  refine v_frame (pc := 3) X (wr := fl [ws]) (fl_split 2 _) (r_V X (c_J3_append_L (t := t) (c := 40) hS (by omega) (by decide)) (List.mem_of_getElem? (i := 0) rfl) rfl rfl (lw_V q1582 q801 q802 q98 q803) hdJ3_append_3 ⟨by show _ ≤ max (dep P) (dep Z) + 1 + 8; omega, by show _ ≤ 24 * (max (dep P) (dep Z) + 1) + 312; omega⟩ rfl rfl (Nat.le_of_ble_eq_true rfl) dX10_writes_3 ⟨by dsimp only; omega, by dsimp only; omega⟩) (fun v3 w3 h3 => ?_)
  obtain ⟨rfl, bv, bn, bf, rfl, hbS, hbn⟩ := h3
  refine v_flj (a := [[(x, .inr (12, [.ref bv, .int (nI 0), .int ml, .int (nI ((t ++ [40]).length))]))], [(bv, .inl (dd 2, bn, .inl bf))]]) (b := [ws]) ?_
  refine v_eq (ws' := fl [[(x, .inr (12, [.ref bv, .int (nI 0), .int ml, .int (nI ((t ++ [40]).length))]))], [(bv, .inl (dd 2, bn, .inl bf))], ws]) rfl rfl rfl ?_
  have hlb : (t ++ [40]).length = t.length + 1 := by rw [List.length_append]; rfl
  refine v_pop (pc := 6) X dX10_writes_6 rfl ?_
  refine v_aload_n (pc := 7) X dX10_writes_7 rfl 0 rfl ?_
  refine v_getM (pc := 8) X in_X10 (mem_fl 2 rfl h1) rfl 0 (by decide) q1321 (fun y h => h) rfl dX10_writes_8 ?_
  refine v_aload_n (pc := 11) X dX10_writes_11 rfl 1 rfl ?_
  refine v_pwrites (pc := 12) X P b (h2.mono (fun q hq => mem_fl 2 rfl hq)) (ihx bv bn bf ((t ++ [40])) hbS (by omega)) (fl_split 3 _) q1584 ⟨by show dep P + 8 + 1 ≤ max (dep P) (dep Z) + 1 + 8; omega, by show 21 + (24 * dep P + 312) ≤ 24 * (max (dep P) (dep Z) + 1) + 312; omega⟩ (Nat.le_of_ble_eq_true rfl) dX10_writes_12 ⟨by dsimp only; omega, by dsimp only; omega⟩ (fun v12 w12 h12 => ?_)
  obtain ⟨rfl, dv, dn, df, rfl, hdS⟩ := h12
  refine v_flj (a := [[(x, .inr (12, [.ref dv, .int (nI 0), .int ml, .int (nI (((t ++ [40]) ++ trT P).length))]))], [(dv, .inl (dd 2, dn, .inl df))], ws]) (b := []) ?_
  refine v_eq (ws' := fl [[(x, .inr (12, [.ref dv, .int (nI 0), .int ml, .int (nI (((t ++ [40]) ++ trT P).length))]))], [(dv, .inl (dd 2, dn, .inl df))], ws]) rfl rfl rfl ?_
  have hld : ((t ++ [40]) ++ trT P).length = ((t ++ [40])).length + (trT P).length := List.length_append
  refine v_aload_n (pc := 17) X dX10_writes_17 rfl 0 rfl ?_
  refine v_getM (pc := 18) X in_X10 (mem_fl 2 rfl h1) rfl 1 (by decide) q1323 (fun y h => h) rfl dX10_writes_18 ?_
  refine v_aload_n (pc := 21) X dX10_writes_21 rfl 1 rfl ?_
  refine v_pwrites (pc := 22) X Z c (h3.mono (fun q hq => mem_fl 2 rfl hq)) (ihz dv dn df ((t ++ [40] ++ trT P)) hdS (by omega)) (fl_split 3 _) q1584 ⟨by show dep Z + 8 + 1 ≤ max (dep P) (dep Z) + 1 + 8; omega, by show 21 + (24 * dep Z + 312) ≤ 24 * (max (dep P) (dep Z) + 1) + 312; omega⟩ (Nat.le_of_ble_eq_true rfl) dX10_writes_22 ⟨by dsimp only; omega, by dsimp only; omega⟩ (fun v22 w22 h22 => ?_)
  obtain ⟨rfl, gv, gn, gf, rfl, hgS⟩ := h22
  refine v_flj (a := [[(x, .inr (12, [.ref gv, .int (nI 0), .int ml, .int (nI (((t ++ [40] ++ trT P) ++ trT Z).length))]))], [(gv, .inl (dd 2, gn, .inl gf))], ws]) (b := []) ?_
  refine v_eq (ws' := fl [[(x, .inr (12, [.ref gv, .int (nI 0), .int ml, .int (nI (((t ++ [40] ++ trT P) ++ trT Z).length))]))], [(gv, .inl (dd 2, gn, .inl gf))], ws]) rfl rfl rfl ?_
  have hlg : ((t ++ [40] ++ trT P) ++ trT Z).length = ((t ++ [40] ++ trT P)).length + (trT Z).length := List.length_append
  refine v_aload_n (pc := 27) X dX10_writes_27 rfl 1 rfl ?_
  refine v_bipush (pc := 28) (v := nI 41) X dX10_writes_28 rfl ?_
  refine v_frame (pc := 30) X (wr := fl [ws]) (fl_split 2 _) (r_V X (c_J3_append_L (t := (t ++ [40] ++ trT P ++ trT Z)) (c := 41) hgS (by omega) (by decide)) (List.mem_of_getElem? (i := 0) rfl) rfl rfl (lw_V q1582 q801 q802 q98 q803) hdJ3_append_3 ⟨by show _ ≤ max (dep P) (dep Z) + 1 + 8; omega, by show _ ≤ 24 * (max (dep P) (dep Z) + 1) + 312; omega⟩ rfl rfl (Nat.le_of_ble_eq_true rfl) dX10_writes_30 ⟨by dsimp only; omega, by dsimp only; omega⟩) (fun v30 w30 h30 => ?_)
  obtain ⟨rfl, kv, kn, kf, rfl, hkS, hkn⟩ := h30
  refine v_flj (a := [[(x, .inr (12, [.ref kv, .int (nI 0), .int ml, .int (nI (((t ++ [40] ++ trT P ++ trT Z) ++ [41]).length))]))], [(kv, .inl (dd 2, kn, .inl kf))]]) (b := [ws]) ?_
  refine v_eq (ws' := fl [[(x, .inr (12, [.ref kv, .int (nI 0), .int ml, .int (nI (((t ++ [40] ++ trT P ++ trT Z) ++ [41]).length))]))], [(kv, .inl (dd 2, kn, .inl kf))], ws]) rfl rfl rfl ?_
  have hlk : ((t ++ [40] ++ trT P ++ trT Z) ++ [41]).length = (t ++ [40] ++ trT P ++ trT Z).length + 1 := by rw [List.length_append]; rfl
  refine v_pop (pc := 33) X dX10_writes_33 rfl ?_
  refine v_widen (k := (2 * ((trT P).length + (trT Z).length + 2))) (n := (760 * ((trT P).length + (trT Z).length + 2))) (by omega) (by omega) ?_
  exact v_vret (pc := 34) X hr dX10_writes_34 (by rw [trT_nd] at hkS ⊢; exact ⟨rfl, _, _, _, rfl, hkS⟩)
theorem hdX11_writes : yX11_writes.cls = RX11 ∧ yX11_writes.cls ≠ "java/lang/invoke/MethodHandle" ∧ yX11_writes.cls ≠ "java/lang/invoke/VarHandle" ∧ (parseMethodDescriptor yX11_writes.desc).map (fun d => d.parameters.length) = some 1 := by decide +kernel
set_option maxHeartbeats 4000000 in
theorem c_X11_writes {l_ : Launch} {D : va_G} {dd : Nat → ClassId} {x a va n v : Nat} {ml : Int32} {f : Nat → Int32} {t : List Nat} {z : Tr} {ws : va_W} (hp : (a, .inr (9, [.int (nI v)])) ∈ ws) (hv : v < 100) (hS : SbI 0 n f t) (hl : t.length + (dec2 v).length < 85) : MW l_ D dd yX11_writes cX11_writes 2 none 8 (2 * (dec2 v).length) (760 * (dec2 v).length) 312 [.ref a, .ref x] (WrW dd x va n f t.length ml ws) (fun v_ w => v_ = none ∧ ∃ va2 n2 f2, w = WrW dd x va2 n2 f2 (t ++ trT (.tag v z)).length ml ws ∧ SbI 0 n2 f2 (t ++ trT (.tag v z))) := by
  have hd1 : 1 ≤ (dec2 v).length := by rw [dec2_l]; split <;> omega
  refine MW.intro (by decide) (Nat.le_of_ble_eq_true rfl) (fun p_ e_ s_ m_ as_ bl_ me_ c_ A_ X hr hnm => ?_)
  have X : VX p_ s_ m_ as_ me_ c_ cX11_writes 2 RX11 D dd A_ := X
  refine v_eq (loc' := [(0, .ref a), (1, .ref x)]) rfl rfl rfl ?_
  refine v_aload_n (pc := 0) X dX11_writes_0 rfl 1 rfl ?_
  refine v_aload_n (pc := 1) X dX11_writes_1 rfl 0 rfl ?_
  refine v_getM (pc := 2) X in_X11 (mem_fl 2 rfl hp) rfl 0 (by decide) q1341 (fun y h => h) rfl dX11_writes_2 ?_
  refine v_frame (pc := 5) X (wr := fl [ws]) (fl_split 2 _) (r_V X (c_J3_append_2 hS (by omega) hv) (List.mem_of_getElem? (i := 0) rfl) rfl rfl (lw_V q1590 q643 q644 q98 q645) hdJ3_append_2 ⟨Nat.le_of_ble_eq_true rfl, Nat.le_of_ble_eq_true rfl⟩ rfl rfl (Nat.le_of_ble_eq_true rfl) dX11_writes_5 ⟨by dsimp only; omega, by dsimp only; omega⟩) (fun v5 w5 h5 => ?_)
  obtain ⟨rfl, bv, bn, bf, rfl, hbS⟩ := h5
  refine v_flj (a := [[(x, .inr (12, [.ref bv, .int (nI 0), .int ml, .int (nI ((t ++ dec2 v).length))]))], [(bv, .inl (dd 2, bn, .inl bf))]]) (b := [ws]) ?_
  refine v_eq (ws' := fl [[(x, .inr (12, [.ref bv, .int (nI 0), .int ml, .int (nI ((t ++ dec2 v).length))]))], [(bv, .inl (dd 2, bn, .inl bf))], ws]) rfl rfl rfl ?_
  refine v_pop (pc := 8) X dX11_writes_8 rfl ?_
  refine v_widen (k := (2 * (dec2 v).length)) (n := (760 * (dec2 v).length)) (by omega) (by omega) ?_
  exact v_vret (pc := 9) X hr dX11_writes_9 ⟨rfl, _, _, _, rfl, hbS⟩
theorem c_pwrites {l_ : Launch} {D : va_G} {dd : Nat → ClassId} {x : Nat} {ml : Int32} {ws : va_W} : ∀ (T : Tr) (a : Nat), PartIs ws T a → (∀ v ∈ lvs T, v < 100) → ∀ (va n : Nat) (f : Nat → Int32) (t : List Nat), SbI 0 n f t → t.length + (trT T).length < 85 → PWr l_ D dd (dep T + 8) (2 * (trT T).length) (760 * (trT T).length) (24 * dep T + 312) [.ref x] (WrW dd x va n f t.length ml ws) (fun v_ w => v_ = none ∧ ∃ va2 n2 f2, w = WrW dd x va2 n2 f2 (t ++ trT T).length ml ws ∧ SbI 0 n2 f2 (t ++ trT T)) T a
  | .append P Z, a, hp, hv, va, n, f, t, hS, hl => by
    obtain ⟨b, c, h1, h2, h3⟩ := hp
    have e : (trT (.append P Z)).length = (trT P).length + (trT Z).length + 2 := by
      show (40 :: (trT P ++ (trT Z ++ [41]))).length = _
      simp only [List.length_cons, List.length_append, List.length_nil]
      omega
    have h := c_X10_writes (l_ := l_) (D := D) (dd := dd) (va := va) (x := x) (ml := ml) h1 h2 h3 (c_pwrites P b h2 (fun v h => hv v (List.mem_append_left _ h))) (c_pwrites Z c h3 (fun v h => hv v (List.mem_append_right _ h))) hS (by omega)
    rw [← e] at h
    exact h
  | .tag v z, a, hp, hv, va, n, f, t, hS, hl => c_X11_writes (z := z) hp (hv v (List.mem_singleton.mpr rfl)) hS hl
  | .nil, _, hp, _, _, _, _, _, _, _ => hp.elim
  | .line, _, hp, _, _, _, _, _, _, _ => hp.elim
  | .align _, _, hp, _, _, _, _, _, _, _ => hp.elim
  | .text _, _, hp, _, _, _, _, _, _, _ => hp.elim
  | .nest _ _, _, hp, _, _, _, _, _, _, _ => hp.elim
  | .group _ _, _, hp, _, _, _, _, _, _, _ => hp.elim

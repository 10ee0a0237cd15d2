/-! BASE4: references in arrays, members of other classes, copies, Math, ends -/
section BASE5
variable {p : Program} {l : Launch} {e : Env} {R : Room} {s : State} {m : MethodId} {args : Array Value} {below : List Frame} {meth : Method} {c : Code} {cc : ByteArray} {nL : Nat} {own : String} {D : va_G} {dd : Nat → ClassId} {A : Nat → Prop} {cells slots : Nat} {Q : State → Prop} {ws : va_W} {pc : Nat} {loc : List (Nat × Value)} {st : List Value}
theorem v_getM {ref C : String} {T : u_T} {N ci index : Nat} {a : Nat} {fs : List Value} {v : Value} (X : VX p s m args meth c cc nL own D dd A) (hin : ∀ w ∈ u_ws C T N, w ∈ lw_all) (he : (a, .inr (ci, fs)) ∈ ws) (hc : vwCl[ci]? = some (C, T, N)) (k : Nat) (hk : k < N) (hlink : Cond.fieldLink own index ref (T k).2.1 (T k).2.2.1 ∈ lw_all) (hsame : ∀ x, s.fieldFound? (T k).1 (T k).2.1 (T k).2.2.1 = some x → s.fieldFound? ref (T k).2.1 (T k).2.2.1 = some x) (hv : fs[k]? = some v) (d : decode cc pc = .ok (.getfield index, 3)) (kk : V p l e R s m args below meth c D A nL cells slots Q ws (pc + 3) loc (v :: st)) : V p l e R s m args below meth c D A nL cells slots Q ws pc loc (.ref a :: st) := by
  obtain ⟨q0, h0⟩ := List.getElem?_of_mem he
  exact v_get X hin q0 h0 hc k hk hlink hsame hv d kk
/-- a nest mate's field -/
theorem v_getN {ref C host : String} {T : u_T} {N ci index : Nat} {a : Nat} {fs : List Value} {v : Value} (X : VX p s m args meth c cc nL own D dd A) (hin : ∀ w ∈ u_ws C T N, w ∈ lw_all) (he : (a, .inr (ci, fs)) ∈ ws) (hc : vwCl[ci]? = some (C, T, N)) (k : Nat) (hk : k < N) (hlink : Cond.fieldLinkNest own index ref (T k).2.1 (T k).2.2.1 host ∈ lw_tbl) (hsame : ∀ x, s.fieldFound? (T k).1 (T k).2.1 (T k).2.2.1 = some x → s.fieldFound? ref (T k).2.1 (T k).2.2.1 = some x) (hv : fs[k]? = some v) (d : decode cc pc = .ok (.getfield index, 3)) (kk : V p l e R s m args below meth c D A nL cells slots Q ws (pc + 3) loc (v :: st)) : V p l e R s m args below meth c D A nL cells slots Q ws pc loc (.ref a :: st) := by
  obtain ⟨q0, h0⟩ := List.getElem?_of_mem he
  exact fun H locs ls hP hD hS hl => va_getN X.hx X.hb X.hts hin X.hown X.hK hP q0 h0 hc k hk (va_Nw.use rfl (X.nw hlink rfl)) hsame hv d (kk H locs ls hP hD hS hl)
theorem v_gets {z : String × String × String × Value} {ref : String} {index : Nat} (X : VX p s m args meth c cc nL own D dd A) (hz : z ∈ zS) (hlink : Cond.fieldLink own index ref z.2.1 z.2.2.1 ∈ lw_all) (hsame : ∀ x, s.fieldFound? z.1 z.2.1 z.2.2.1 = some x → s.fieldFound? ref z.2.1 z.2.2.1 = some x) (d : decode cc pc = .ok (.getstatic index, 3)) (kk : V p l e R s m args below meth c D A nL cells slots Q ws (pc + 3) loc (z.2.2.2 :: st)) : V p l e R s m args below meth c D A nL cells slots Q ws pc loc st :=
  fun H locs ls hP hD hS hl => va_gets X.hx X.hb (X.hG.2.2.1.1 z hz) hS X.hown (X.hts _ hlink) hsame d (kk H locs ls hP hD hS hl)
/-- a text of the reader's switches -/
theorem v_ldcS {z : Nat × String × Nat} (X : VX p s m args meth c cc nL RX5 D dd A) (hz : z ∈ zT) (d : decode cc pc = .ok (.ldc z.1, 2)) (kk : V p l e R s m args below meth c D A nL cells slots Q ws (pc + 2) loc (.ref (dd z.2.2) :: st)) : V p l e R s m args below meth c D A nL cells slots Q ws pc loc st :=
  fun H locs ls hP hD hS hl => va_ldcS X.hx X.hb X.hown (X.hG.2.2.2.2.2.1 z hz) d (kk H locs ls hP hD hS hl)
theorem v_aald {a n j : Nat} {f : Nat → Option Nat} {i : Int32} {cB : ClassId} {C : String} (X : VX p s m args meth c cc nL own D dd A) (t0 : Nat) (ht : (tysG dd)[t0]? = some (cB, .object C)) (ha : (a, .inl (cB, n, .inr (.inr (.inr (.inr f))))) ∈ ws) (hi : i = nI j) (hj : j < n) (hn : n < 2 ^ 31) (d : decode cc pc = .ok (.aaload, 1)) (kk : V p l e R s m args below meth c D A nL cells slots Q ws (pc + 1) loc (va_rf (f j) :: st)) : V p l e R s m args below meth c D A nL cells slots Q ws pc loc (.int i :: .ref a :: st) := by
  subst hi
  intro H locs ls hP hD hS hl
  obtain ⟨q0, h0⟩ := List.getElem?_of_mem ha
  refine va_aldq X.hx X.hb X.hK hP q0 t0 h0 ht (vp_in_nI hj hn) d ?_
  rw [nI_clamp (Nat.lt_trans hj hn)]
  exact kk H locs ls hP hD hS hl
theorem v_aaldS {a n j y : Nat} {f : Nat → Option Nat} {i : Int32} {cB : ClassId} {C : String} (X : VX p s m args meth c cc nL own D dd A) (t0 : Nat) (ht : (tysG dd)[t0]? = some (cB, .object C)) (ha : (a, .inl (cB, n, .inr (.inr (.inr (.inr f))))) ∈ ws) (hi : i = nI j) (hj : j < n) (hn : n < 2 ^ 31) (hy : f j = some y) (d : decode cc pc = .ok (.aaload, 1)) (kk : V p l e R s m args below meth c D A nL cells slots Q ws (pc + 1) loc (.ref y :: st)) : V p l e R s m args below meth c D A nL cells slots Q ws pc loc (.int i :: .ref a :: st) :=
  v_aald X t0 ht ha hi hj hn d (v_st (by rw [hy]; rfl) kk)
theorem v_aast {a n j v : Nat} {vs : List Value} {f : Nat → Option Nat} {i : Int32} {cB : ClassId} {ci : Nat} {qc : vw_C} {ws' : va_W} (X : VX p s m args meth c cc nL own D dd A) (q0 t0 : Nat) (ht : (tysG dd)[t0]? = some (cB, .object qc.1)) (ha : ws[q0]? = some (a, .inl (cB, n, .inr (.inr (.inr (.inr f)))))) (hv : (v, .inr (ci, vs)) ∈ ws) (hc : vwCl[ci]? = some qc) (hi : i = nI j) (hj : j < n) (hn : n < 2 ^ 31) (d : decode cc pc = .ok (.aastore, 1)) (hw : ws.set q0 (a, .inl (cB, n, .inr (.inr (.inr (.inr (va_up f j (some v))))))) = ws') (kk : V p l e R s m args below meth c D A nL cells slots Q ws' (pc + 1) loc st) : V p l e R s m args below meth c D A nL cells slots Q ws pc loc (.ref v :: .int i :: .ref a :: st) := by
  subst hi; subst hw
  intro H locs ls hP hD hS hl
  obtain ⟨qk, hk⟩ := List.getElem?_of_mem hv
  refine va_astq X.hx X.hb X.hK hP hD hS q0 t0 qk ci ha ht hk hc (vp_in_nI hj hn) d (fun H1 locs1 => ?_)
  rw [nI_clamp (Nat.lt_trans hj hn)]
  exact fun hP hD hS => kk H1 locs1 ls hP hD hS hl
theorem v_aastN {a n j : Nat} {f : Nat → Option Nat} {i : Int32} {cB : ClassId} {C : String} {ws' : va_W} (X : VX p s m args meth c cc nL own D dd A) (q0 t0 : Nat) (ht : (tysG dd)[t0]? = some (cB, .object C)) (ha : ws[q0]? = some (a, .inl (cB, n, .inr (.inr (.inr (.inr f)))))) (hi : i = nI j) (hj : j < n) (hn : n < 2 ^ 31) (d : decode cc pc = .ok (.aastore, 1)) (hw : ws.set q0 (a, .inl (cB, n, .inr (.inr (.inr (.inr (va_up f j none)))))) = ws') (kk : V p l e R s m args below meth c D A nL cells slots Q ws' (pc + 1) loc st) : V p l e R s m args below meth c D A nL cells slots Q ws pc loc (.null :: .int i :: .ref a :: st) := by
  subst hi; subst hw
  intro H locs ls hP hD hS hl
  refine va_astqN X.hx X.hb X.hK hP hD hS q0 t0 ha ht (vp_in_nI hj hn) d (fun H1 locs1 => ?_)
  rw [nI_clamp (Nat.lt_trans hj hn)]
  exact fun hP hD hS => kk H1 locs1 ls hP hD hS hl
theorem v_iaM {a n j : Nat} {f : Nat → Int32} {i : Int32} (X : VX p s m args meth c cc nL own D dd A) (ha : (a, .inl (dd 0, n, .inl f)) ∈ ws) (hi : i = nI j) (hj : j < n) (hn : n < 2 ^ 31) (d : decode cc pc = .ok (.iaload, 1)) (kk : V p l e R s m args below meth c D A nL cells slots Q ws (pc + 1) loc (.int (f j) :: st)) : V p l e R s m args below meth c D A nL cells slots Q ws pc loc (.int i :: .ref a :: st) := by
  obtain ⟨q0, h0⟩ := List.getElem?_of_mem ha
  exact v_iald X q0 h0 hi hj hn d kk
theorem v_bald {a n j : Nat} {f : Nat → Int32} {i : Int32} (X : VX p s m args meth c cc nL own D dd A) (ha : (a, .inl (dd 2, n, .inl f)) ∈ ws) (hi : i = nI j) (hj : j < n) (hn : n < 2 ^ 31) (d : decode cc pc = .ok (.baload, 1)) (kk : V p l e R s m args below meth c D A nL cells slots Q ws (pc + 1) loc (.int (f j) :: st)) : V p l e R s m args below meth c D A nL cells slots Q ws pc loc (.int i :: .ref a :: st) := by
  subst hi
  intro H locs ls hP hD hS hl
  obtain ⟨q0, h0⟩ := List.getElem?_of_mem ha
  refine va_bald X.hx X.hb X.hK hP q0 2 h0 rfl (vp_in_nI hj hn) d ?_
  rw [nI_clamp (Nat.lt_trans hj hn)]
  exact kk H locs ls hP hD hS hl
theorem v_bast {a n j : Nat} {f : Nat → Int32} {i x : Int32} {ws' : va_W} (X : VX p s m args meth c cc nL own D dd A) (q0 : Nat) (ha : ws[q0]? = some (a, .inl (dd 2, n, .inl f))) (hi : i = nI j) (hj : j < n) (hn : n < 2 ^ 31) (d : decode cc pc = .ok (.bastore, 1)) (hw : ws.set q0 (a, .inl (dd 2, n, .inl (upd f j (vp_nar .byte x)))) = ws') (kk : V p l e R s m args below meth c D A nL cells slots Q ws' (pc + 1) loc st) : V p l e R s m args below meth c D A nL cells slots Q ws pc loc (.int x :: .int i :: .ref a :: st) := by
  subst hi; subst hw
  intro H locs ls hP hD hS hl
  refine va_bast X.hx X.hb X.hK hP hD hS q0 2 ha rfl (vp_in_nI hj hn) d (fun H1 locs1 => ?_)
  rw [nI_clamp (Nat.lt_trans hj hn)]
  exact fun hP hD hS => kk H1 locs1 ls hP hD hS hl
theorem v_alenM {a : Nat} {cA : ClassId} {x : vp_A} {ty : FieldType} (X : VX p s m args meth c cc nL own D dd A) (t0 : Nat) (ha : (a, .inl (cA, x)) ∈ ws) (ht : (tysG dd)[t0]? = some (cA, ty)) (d : decode cc pc = .ok (.arraylength, 1)) (kk : V p l e R s m args below meth c D A nL cells slots Q ws (pc + 1) loc (.int (nI x.1) :: st)) : V p l e R s m args below meth c D A nL cells slots Q ws pc loc (.ref a :: st) := by
  obtain ⟨q0, h0⟩ := List.getElem?_of_mem ha
  exact v_alen X q0 t0 h0 ht d kk
/-! System.arraycopy -/
theorem v_copyi {index : Nat} {a0 a1 n0 n1 sp dp n : Nat} {c0 : ClassId} {ty : FieldType} {f g : Nat → Int32} {ws' : va_W} (X : VX p s m args meth c cc nL own D dd A) (hl0 : Cond.methodLink own index arraycopyName ∈ lw_all) (hi0 : Cond.initialized "java/lang/System" ∈ lw_all) (q0 q1 t0 : Nat) (ha0 : ws[q0]? = some (a0, .inl (c0, n0, .inl f))) (ha1 : ws[q1]? = some (a1, .inl (c0, n1, .inl g))) (ht : (tysG dd)[t0]? = some (c0, ty)) (hpr : refKind ty = false) (h4 : sp + n ≤ n0) (h5 : dp + n ≤ n1) (hb : sp < 2 ^ 31 ∧ dp < 2 ^ 31 ∧ n < 2 ^ 31) (hfit : ∀ i, i < n → fits ty (.int (f (sp + i))) = true) (hfr : 1 ≤ R.frames) (hlo : 8 + (nativeFrameWords "java/lang/System" "arraycopy" 5 + 11) ≤ R.locals) (hW : (st.map fun v => v.category).sum ≤ 8) (d : decode cc pc = .ok (.invokestatic index, 3)) (hw : ws.set q1 (a1, .inl (c0, n1, .inl (va_cpy f g sp dp n))) = ws') (kk : V p l e R s m args below meth c D A nL cells slots Q ws' (pc + 3) loc st) : V p l e R s m args below meth c D A nL cells slots Q ws pc loc (.int (nI n) :: .int (nI dp) :: .ref a1 :: .int (nI sp) :: .ref a0 :: st) := by
  subst hw
  intro H locs ls hP hD hS hl
  have e1 : (nI sp).toNatClampNeg = sp := nI_clamp hb.1
  have e2 : (nI dp).toNatClampNeg = dp := nI_clamp hb.2.1
  have e3 : (nI n).toNatClampNeg = n := nI_clamp hb.2.2
  refine va_copyi X.hx X.hb (X.hml.trans hl.1.symm) X.hown (X.hts _ hl0) (X.hts _ q461) (X.hts _ q460) (X.hts _ hi0) X.hK hP hD hS q0 q1 t0 t0 ha0 ha1 ht ht hpr (nI_pos hb.1) (nI_pos hb.2.1) (nI_pos hb.2.2) (by rw [e1, e3]; exact h4) (by rw [e2, e3]; exact h5) (fun i hi => by rw [e1]; exact hfit i (by rw [e3] at hi; exact hi)) hfr (by omega) d (fun H1 locs1 => ?_)
  rw [e1, e2, e3]
  exact fun hP hD hS => kk H1 locs1 ls hP hD hS hl
/-- of references: all that are copied stand in the world, objects of one class, the array's own -/
theorem v_copyq {index : Nat} {a0 a1 n0 n1 sp dp n ci : Nat} {c0 : ClassId} {qc : vw_C} {f g : Nat → Option Nat} {ws' : va_W} (X : VX p s m args meth c cc nL own D dd A) (hl0 : Cond.methodLink own index arraycopyName ∈ lw_all) (hi0 : Cond.initialized "java/lang/System" ∈ lw_all) (q0 q1 t0 : Nat) (hc : vwCl[ci]? = some qc) (ha0 : ws[q0]? = some (a0, .inl (c0, n0, .inr (.inr (.inr (.inr f)))))) (ha1 : ws[q1]? = some (a1, .inl (c0, n1, .inr (.inr (.inr (.inr g)))))) (ht : (tysG dd)[t0]? = some (c0, .object qc.1)) (h4 : sp + n ≤ n0) (h5 : dp + n ≤ n1) (hb : sp < 2 ^ 31 ∧ dp < 2 ^ 31 ∧ n < 2 ^ 31) (hel : ∀ i, i < n → ∀ y, f (sp + i) = some y → ∃ fs, (y, .inr (ci, fs)) ∈ ws) (hfr : 1 ≤ R.frames) (hlo : 8 + (nativeFrameWords "java/lang/System" "arraycopy" 5 + 11) ≤ R.locals) (hW : (st.map fun v => v.category).sum ≤ 8) (d : decode cc pc = .ok (.invokestatic index, 3)) (hw : ws.set q1 (a1, .inl (c0, n1, .inr (.inr (.inr (.inr (va_cpy f g sp dp n)))))) = ws') (kk : V p l e R s m args below meth c D A nL cells slots Q ws' (pc + 3) loc st) : V p l e R s m args below meth c D A nL cells slots Q ws pc loc (.int (nI n) :: .int (nI dp) :: .ref a1 :: .int (nI sp) :: .ref a0 :: st) := by
  subst hw
  intro H locs ls hP hD hS hl
  have e1 : (nI sp).toNatClampNeg = sp := nI_clamp hb.1
  have e2 : (nI dp).toNatClampNeg = dp := nI_clamp hb.2.1
  have e3 : (nI n).toNatClampNeg = n := nI_clamp hb.2.2
  refine va_copyq (C := qc.1) X.hx X.hb (X.hml.trans hl.1.symm) X.hown (X.hts _ hl0) (X.hts _ q461) (X.hts _ q460) (X.hts _ hi0) X.hK hP hD hS q0 q1 t0 t0 ha0 ha1 ht ht (nI_pos hb.1) (nI_pos hb.2.1) (nI_pos hb.2.2) (by rw [e1, e3]; exact h4) (by rw [e2, e3]; exact h5) (fun i hi y hy => ?_) (fun comp c1 h1 h2 => ?_) hfr (by omega) d (fun H1 locs1 => ?_)
  · rw [e3] at hi; rw [e1] at hy
    obtain ⟨fs, hm⟩ := hel i hi y hy
    obtain ⟨k, hk⟩ := List.getElem?_of_mem hm
    exact va_recv X.hK hP hc hk
  · cases h1.symm.trans h2
    have hcl := (X.hK.1 ci _ hc).2
    cases hcl.1.symm.trans h1
    exact va_assign hcl
  · rw [e1, e2, e3]
    exact fun hP hD hS => kk H1 locs1 ls hP hD hS hl
/-! Math -/
theorem v_max {index : Nat} {x y : Int32} (X : VX p s m args meth c cc nL own D dd A) (hl0 : Cond.methodLink own index Lib.Math.max.name ∈ lw_all) (hfr : 1 ≤ R.frames ∧ 21 ≤ R.locals) (hW : (st.map fun v => v.category).sum ≤ 8) (hc : cells ≤ R.cells ∧ slots ≤ R.slots) (d : decode cc pc = .ok (.invokestatic index, 3)) (kk : V p l e R s m args below meth c D A nL cells slots Q ws (pc + 3) loc (.int (if x < y then y else x) :: st)) : V p l e R s m args below meth c D A nL cells slots Q ws pc loc (.int y :: .int x :: st) :=
  fun H locs ls hP hD hS hl => va_mmax X.hx X.hb (X.hml.trans hl.1.symm) X.hown (X.hts _ hl0) (X.hts _ q551) (X.hts _ q107) (X.hts _ q552) hfr.1 (by omega) hc.1 hc.2 d (kk H locs ls hP hD hS hl)
theorem v_min {index : Nat} {x y : Int32} (X : VX p s m args meth c cc nL own D dd A) (hl0 : Cond.methodLink own index Lib.Math.min.name ∈ lw_all) (hfr : 1 ≤ R.frames ∧ 21 ≤ R.locals) (hW : (st.map fun v => v.category).sum ≤ 8) (hc : cells ≤ R.cells ∧ slots ≤ R.slots) (d : decode cc pc = .ok (.invokestatic index, 3)) (kk : V p l e R s m args below meth c D A nL cells slots Q ws (pc + 3) loc (.int (if y < x then y else x) :: st)) : V p l e R s m args below meth c D A nL cells slots Q ws pc loc (.int y :: .int x :: st) :=
  fun H locs ls hP hD hS hl => va_mmin X.hx X.hb (X.hml.trans hl.1.symm) X.hown (X.hts _ hl0) (X.hts _ q457) (X.hts _ q107) (X.hts _ q458) hfr.1 (by omega) hc.1 hc.2 d (kk H locs ls hP hD hS hl)
theorem v_maxN {index a b : Nat} (X : VX p s m args meth c cc nL own D dd A) (hl0 : Cond.methodLink own index Lib.Math.max.name ∈ lw_all) (ha : a < 2 ^ 31) (hb : b < 2 ^ 31) (hfr : 1 ≤ R.frames ∧ 21 ≤ R.locals) (hW : (st.map fun v => v.category).sum ≤ 8) (hc : cells ≤ R.cells ∧ slots ≤ R.slots) (d : decode cc pc = .ok (.invokestatic index, 3)) (kk : V p l e R s m args below meth c D A nL cells slots Q ws (pc + 3) loc (.int (nI (max a b)) :: st)) : V p l e R s m args below meth c D A nL cells slots Q ws pc loc (.int (nI b) :: .int (nI a) :: st) :=
  v_max X hl0 hfr hW hc d (v_top (by
    by_cases h : a < b
    · rw [if_pos ((nI_ltI ha hb).mpr h), Nat.max_eq_right (by omega)]
    · rw [if_neg (fun z => h ((nI_ltI ha hb).mp z)), Nat.max_eq_left (by omega)]) kk)
theorem v_minN {index a b : Nat} (X : VX p s m args meth c cc nL own D dd A) (hl0 : Cond.methodLink own index Lib.Math.min.name ∈ lw_all) (ha : a < 2 ^ 31) (hb : b < 2 ^ 31) (hfr : 1 ≤ R.frames ∧ 21 ≤ R.locals) (hW : (st.map fun v => v.category).sum ≤ 8) (hc : cells ≤ R.cells ∧ slots ≤ R.slots) (d : decode cc pc = .ok (.invokestatic index, 3)) (kk : V p l e R s m args below meth c D A nL cells slots Q ws (pc + 3) loc (.int (nI (min a b)) :: st)) : V p l e R s m args below meth c D A nL cells slots Q ws pc loc (.int (nI b) :: .int (nI a) :: st) :=
  v_min X hl0 hfr hW hc d (v_top (by
    by_cases h : b < a
    · rw [if_pos ((nI_ltI hb ha).mpr h), Nat.min_eq_right (by omega)]
    · rw [if_neg (fun z => h ((nI_ltI hb ha).mp z)), Nat.min_eq_left (by omega)]) kk)
/-! ends, casts, nulls -/
theorem v_aret {post : Option Value → va_W → Prop} {a : Nat} {rt : FieldType} (X : VX p s m args meth c cc nL own D dd A) (hr : meth.sig.returnType = some rt) (hrt : (∃ n, rt = .object n) ∨ ∃ t, rt = .array t) (d : decode cc pc = .ok (.areturn, 1)) (h : post (some (.ref a)) ws) : V p l e R s m args below meth c D A nL cells slots (MQ below (QW D A post) args s cells slots A) ws pc loc [.ref a] :=
  fun H locs ls hP hD hS hl => W.aret X.hx X.hb hr hrt (Or.inr ⟨a, rfl⟩) (fun t ht hW => ⟨⟨_, ws, rfl, h, by rw [ht]; exact hP, hD⟩, hS.F ht⟩) hS.2.2 d X.hlk
theorem v_castS {index a ci : Nat} {fs : List Value} {qc : vw_C} (X : VX p s m args meth c cc nL own D dd A) (he : (a, .inr (ci, fs)) ∈ ws) (hc : vwCl[ci]? = some qc) (hlink : Cond.classLink own index qc.1 ∈ lw_all) (d : decode cc pc = .ok (.checkcast index, 3)) (kk : V p l e R s m args below meth c D A nL cells slots Q ws (pc + 3) loc (.ref a :: st)) : V p l e R s m args below meth c D A nL cells slots Q ws pc loc (.ref a :: st) := by
  intro H locs ls hP hD hS hl
  obtain ⟨k, hk⟩ := List.getElem?_of_mem he
  exact va_castS X.hx X.hb X.hown (X.hts _ hlink) (X.hK.1 ci _ hc).2 (va_recv X.hK hP hc hk) d (kk H locs ls hP hD hS hl)
theorem v_ifnull {off : Int} {a : Nat} (X : VX p s m args meth c cc nL own D dd A) (d : decode cc pc = .ok (.ifnull off, 3)) (kk : V p l e R s m args below meth c D A nL cells slots Q ws (pc + 3) loc st) : V p l e R s m args below meth c D A nL cells slots Q ws pc loc (.ref a :: st) :=
  fun H locs ls hP hD hS hl => lv_ifnull X.hx X.hb d (kk H locs ls hP hD hS hl)
theorem v_ifnonnull {off : Int} {a : Nat} (X : VX p s m args meth c cc nL own D dd A) (tgt : Nat) (d : decode cc pc = .ok (.ifnonnull off, 3)) (ht : (pc : Int) + off = (tgt : Int)) (kk : V p l e R s m args below meth c D A nL cells slots Q ws tgt loc st) : V p l e R s m args below meth c D A nL cells slots Q ws pc loc (.ref a :: st) :=
  fun H locs ls hP hD hS hl => lv_ifnonnull X.hx X.hb d ht (kk H locs ls hP hD hS hl)
theorem v_ifnullN {off : Int} (X : VX p s m args meth c cc nL own D dd A) (tgt : Nat) (d : decode cc pc = .ok (.ifnull off, 3)) (ht : (pc : Int) + off = (tgt : Int)) (kk : V p l e R s m args below meth c D A nL cells slots Q ws tgt loc st) : V p l e R s m args below meth c D A nL cells slots Q ws pc loc (.null :: st) :=
  fun H locs ls hP hD hS hl => lv_ifnullN X.hx X.hb d ht (kk H locs ls hP hD hS hl)
theorem v_ifnonnullN {off : Int} (X : VX p s m args meth c cc nL own D dd A) (d : decode cc pc = .ok (.ifnonnull off, 3)) (kk : V p l e R s m args below meth c D A nL cells slots Q ws (pc + 3) loc st) : V p l e R s m args below meth c D A nL cells slots Q ws pc loc (.null :: st) :=
  fun H locs ls hP hD hS hl => lv_ifnonnullN X.hx X.hb d (kk H locs ls hP hD hS hl)
/-- Object.<init> -/
theorem v_objInit {index a : Nat} (X : VX p s m args meth c cc nL own D dd A) (hl0 : Cond.methodLink own index Lib.objectInit ∈ lw_all) (hi : Cond.instanceMethod Lib.objectInit ∈ lw_all) (hcd : Cond.code Lib.objectInit ⟨#[0xb1]⟩ 1 none ∈ lw_all) (hfr : 1 ≤ R.frames ∧ 20 ≤ R.locals) (hW : (st.map fun v => v.category).sum ≤ 8) (d : decode cc pc = .ok (.invokespecial index, 3)) (kk : V p l e R s m args below meth c D A nL cells slots Q ws (pc + 3) loc st) : V p l e R s m args below meth c D A nL cells slots Q ws pc loc (.ref a :: st) :=
  fun H locs ls hP hD hS hl => W.objInit X.hx X.hb X.hown (X.hts _ hl0) (X.hts _ hi) (X.hts _ hcd) rfl (hl.1.trans X.hml.symm) rfl d hfr.1 (by show 2 * 0 + _ + 12 ≤ _; omega) (kk H locs ls hP hD hS hl)
end BASE5

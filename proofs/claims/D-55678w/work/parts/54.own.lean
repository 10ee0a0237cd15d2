/-! BASE8: making an exception of our own: the constructor of the class above, on the object itself -/
def sx_L (own : String) (ic : Nat) (C obj : String) (names : List String) : List Cond :=
  (Bundle.throwableAtoms ++ Bundle.chain0Atoms C names ++ [Cond.methodLink own ic (Bundle.init0 C)]).filter vx_no ++ [Cond.selects obj Bundle.tFill0 Bundle.tFill0, .selects obj Bundle.tFill Bundle.tFill, .lays obj Bundle.tN "cause" "Ljava/lang/Throwable;", .lays obj Bundle.tN "stackTrace" Bundle.steD, .lays obj Bundle.tN "suppressedExceptions" Bundle.listD, .fieldLink Bundle.tN 198 Bundle.tN "backtrace" "Ljava/lang/Object;", .lays Bundle.tN Bundle.tN "backtrace" "Ljava/lang/Object;", .lays obj Bundle.tN "backtrace" "Ljava/lang/Object;"]
/-- the object at q is as 'new' made it -/
def Frs (D : va_G) (ci q : Nat) (U : State) : Prop := ∃ k : Class, U.vm.classes[D.1 ci]? = some k ∧ U.heap[q]? = some (freshCell (D.1 ci) k)
theorem Frs.same {D : va_G} {ci q : Nat} {s U : State} (hv : s.vm.Alike U.vm) (hh : U.heap[q]? = s.heap[q]?) (h : Frs D ci q s) : Frs D ci q U := by
  obtain ⟨k, h1, h2⟩ := h
  obtain ⟨k', hk', he⟩ := hv.2.2 _ _ h1
  refine ⟨k', hk', ?_⟩
  rw [hh, h2, he]
section BASE8
variable {p : Program} {l : Launch} {e : Env} {R : Room} {s : State} {m : MethodId} {args : Array Value} {below : List Frame} {meth : Method} {c : Code} {cc : ByteArray} {nL : Nat} {own : String} {D : va_G} {dd : Nat → ClassId} {A : Nat → Prop} {cells slots : Nat} {Q : State → Prop} {ws : va_W} {pc : Nat} {loc : List (Nat × Value)} {st : List Value}
set_option maxHeartbeats 4000000 in
theorem w_super {C obj : String} {names : List String} {ic ci q : Nat} {qc : vw_C} {fs : List Value} {ls : Array Slot} {rest : List Value} (X : VX p s m args meth c cc nL own D dd A) (hst : l.stackTraces = false) (hcls : Bundle.fit C = true) (hnames : ∀ n ∈ names, Bundle.fit n = true)
    (hat : ∀ w ∈ sx_L own ic C obj names, Wd w) (hc : vwCl[ci]? = some qc) (hobj : qc.1 = obj) (hF : Frs D ci q s) (hA : A q) (hsize : ls.size = nL)
    (d : decode cc pc = .ok (.invokespecial ic, 3)) (hR : names.length + 3 < R.frames ∧ 13 * (names.length + 1) + 50 ≤ R.locals) (hW : (rest.map fun v => v.category).sum ≤ 8)
    (hP : va_P D vwCl [(q, .inr (ci, fs))] s.heap)
    (kk : ∀ (H1 : Heap) (locs1 : List Loc) (g : Nat → Value), va_P D vwCl [(q, .inr (ci, (List.range qc.2.2).map g))] H1 → va_S A s.heap H1 locs1 → W p l e R s m args below meth c H1 locs1 cells slots Q (F0 m (pc + 3) ls rest)) : W p l e R s m args below meth c s.heap [] cells slots Q (F0 m pc ls (.ref q :: rest)) := by
  intro T hT X'
  have htr : e.platform.stackTraces = false := (show e.platform.stackTraces = l.stackTraces by rw [X'.admits.platform]).trans hst
  obtain ⟨hb1, -⟩ := hat_of (X := X) hat
  have hU := X.hG.2.2.1.2.1
  have hNn := X.hG.2.2.1.2.2.1
  have h0 : ∀ w ∈ Bundle.throwableAtoms ++ Bundle.chain0Atoms C names ++ [Cond.methodLink own ic (Bundle.init0 C)], w.before args s = true := vx_own (fun w hw => hb1 w (List.mem_append_left _ hw)) (vx_isRefq hU.1) (vx_isRefq hNn.1) hU.2.word hNn.2.word
  have h2 : ∀ w ∈ [Cond.selects obj Bundle.tFill0 Bundle.tFill0, .selects obj Bundle.tFill Bundle.tFill, .lays obj Bundle.tN "cause" "Ljava/lang/Throwable;", .lays obj Bundle.tN "stackTrace" Bundle.steD, .lays obj Bundle.tN "suppressedExceptions" Bundle.listD, .fieldLink Bundle.tN 198 Bundle.tN "backtrace" "Ljava/lang/Object;", .lays Bundle.tN Bundle.tN "backtrace" "Ljava/lang/Object;", .lays obj Bundle.tN "backtrace" "Ljava/lang/Object;"], w.holds args s none s [] = true := fun w hw => hb1 w (List.mem_append_right _ hw)
  have howns : e.platform.frameOwnsMonitors = true := by rw [X'.admits.platform]
  have hfin : e.platform.finalization = false := by rw [X'.admits.platform]
  have hpl : e.platform.magicAccessors = ({} : Platform).magicAccessors := by rw [X'.admits.platform]
  obtain ⟨Th, Z, L, LZ, Y⟩ := ThrowableC.of_atoms (args := args) howns hfin hpl (fun x hx => h0 x (List.mem_append_left _ (List.mem_append_left _ hx)))
  obtain ⟨P1, Ps, hlen, L1, hL, hP1m, hlink1, hlink⟩ := Bundle.chain0 (args := args) hpl Y.init0 names C hcls hnames (fun x hx => h0 x (List.mem_append_left _ (List.mem_append_right _ hx)))
  obtain ⟨kX, hk, hcell⟩ := hF
  obtain ⟨hslots, hfO, kO, hkO, hord⟩ := X.hK.1 ci _ hc
  cases Option.some.inj (hkO.symm.trans hk)
  rw [hobj] at hfO
  have hsel0 : selectMethod e.platform s.vm (D.1 ci) Th.fill0 = .method Th.fill0 := by
    obtain ⟨c2, r2, m2, q1, q2, q3, q4, -⟩ := Cond.selects_spec (h2 (.selects obj Bundle.tFill0 Bundle.tFill0) (by simp))
    cases Option.some.inj (q1.symm.trans hfO)
    cases Option.some.inj (q2.symm.trans (State.methodFound?_of_named Y.fill0 (by decide)))
    cases Option.some.inj (q3.symm.trans Y.fill0)
    rw [Launch.admits_selectMethod X'.admits]; exact q4
  have hselF : selectMethod e.platform s.vm (D.1 ci) Th.fill = .method Th.fill := by
    obtain ⟨c2, r2, m2, q1, q2, q3, q4, -⟩ := Cond.selects_spec (h2 (.selects obj Bundle.tFill Bundle.tFill) (by simp))
    cases Option.some.inj (q1.symm.trans hfO)
    cases Option.some.inj (q2.symm.trans (State.methodFound?_of_named Y.fill (by decide)))
    cases Option.some.inj (q3.symm.trans Y.fill)
    rw [Launch.admits_selectMethod X'.admits]; exact q4
  obtain ⟨cellS0, hcS0, hiss⟩ := Y.statics
  obtain ⟨u0, hu0⟩ := Cond.staticRefV Y.unassigned L.unassignedStatic L.statics hcS0 hiss (vx_isRefq (args := args) hU.1)
  obtain ⟨sen, hsen⟩ := Cond.staticRefV Y.sentinel L.sentinelStatic L.statics hcS0 hiss (vx_isRefq (args := args) hNn.1)
  obtain ⟨ci198, i198, fB, hk198, hg198, ha198, hsB, -, hnB, htB, hffB⟩ := Cond.ownField (t := .object "java/lang/Object") Y.found L.cls (by decide +kernel) (h2 (.fieldLink Bundle.tN 198 Bundle.tN "backtrace" "Ljava/lang/Object;") (by simp)) (h2 (.lays Bundle.tN Bundle.tN "backtrace" "Ljava/lang/Object;") (by simp)) e.platform hpl
  have hcellT : T.heap[q]? = some (freshCell (D.1 ci) kX) := by rw [hT]; exact hcell
  have hcellS : T.heap[Th.aS]? = some cellS0 := by rw [hT]; exact hcS0
  have hknownS : cellS0.vm ≠ .unknown := by
    intro hu
    rw [hu] at hiss
    cases hiss
  have hneS : Th.aS ≠ q := by
    intro hq
    rw [hq] at hcS0
    cases hcell.symm.trans hcS0
    cases hiss
  obtain ⟨tyC, dC, hdC, hdnC⟩ := Cond.laysAt hfO hk Y.cause (h2 (.lays obj Bundle.tN "cause" "Ljava/lang/Throwable;") (by simp))
  obtain ⟨tyS, dS, hdS, hdnS⟩ := Cond.laysAt hfO hk Y.stack (h2 (.lays obj Bundle.tN "stackTrace" Bundle.steD) (by simp))
  obtain ⟨tyP, dP, hdP, hdnP⟩ := Cond.laysAt hfO hk Y.supp (h2 (.lays obj Bundle.tN "suppressedExceptions" Bundle.listD) (by simp))
  obtain ⟨tyB, dB, hdB, hdnB⟩ := Cond.laysAt hfO hk hffB (h2 (.lays obj Bundle.tN "backtrace" "Ljava/lang/Object;") (by simp))
  have bC := Cond.laysApart hdB hdC hdnB hdnC (by rw [hnB, Y.causeName]; decide)
  have bS := Cond.laysApart hdB hdS hdnB hdnS (by rw [hnB, Y.stackName]; decide)
  have bP := Cond.laysApart hdB hdP hdnB hdnP (by rw [hnB, Y.suppName]; decide)
  have hskip : SkipFacts Th e.platform s (fun u => u) u0 ((preparedCellV Th.toThrowableT (freshCell (D.1 ci) kX) q u0 sen).withEntry T.cur) :=
    ⟨{ ci198 := ci198, i198 := i198, fBack := fB }, ⟨hk198, hg198, ha198, hsB⟩, by
      have := fresh_default (c := D.1 ci) tyB
      rw [htB] at this
      simpa [preparedCellV, Cell.setSlot, Cell.withEntry, Array.getElem?_setIfInBounds, bC, bS, bP, bC.symm, bS.symm, bP.symm, defaultValue] using this, fun _ _ => rfl⟩
  have hd6 : decode c.code pc = .ok (.invokespecial ic, 3) := by rw [X.hb]; exact d
  obtain ⟨tm, methC, cdC, kC, vm₁, hnC, -, -, -, -, -, -, -, hW₁, st1⟩ := Steps.initCold (tb := p.tables) (e := e) (below := below) (s := s) (U := T) X'.here X.hx X'.warmed hpl X.hown (t := Bundle.init0 C) rfl rfl (Bundle.fit_spec hcls).2
    (h0 (.methodLink own ic (Bundle.init0 C)) (by simp)) (h0 (.instanceMethod (Bundle.init0 C)) (by cases names <;> simp [Bundle.chain0Atoms, Bundle.passAtoms])) (bytes := Bundle.five) (maxL := 1) (h0 (.code (Bundle.init0 C) Bundle.five 1 none) (by cases names <;> simp [Bundle.chain0Atoms, Bundle.passAtoms]))
    (f := F0 m pc ls (.ref q :: rest)) rfl (a := q) (rest := rest) rfl hd6
  cases Option.some.inj (hnC.symm.trans hP1m)
  have X₁ := X'.noted hW₁
  obtain ⟨vm₂, X₂, st2⟩ := X₁.ctorPlainOffV X.hx (g := F0 m pc ls rest) rfl (hsize.trans X.hml.symm) Th L Z LZ (P1 :: Ps)
    (fun P hP => by rcases List.mem_cons.mp hP with rfl | hP; exact L1; exact hL P hP) ⟨hlink1, hlink⟩ (u0 := u0) (sen := sen) (self := q) (cell := freshCell (D.1 ci) kX) (cellS := cellS0)
    hcellT (fun _ => by simp) (by simp) rfl rfl hsel0 hselF hcellS hneS hknownS hu0 hsen
    (Takes.of_laid hk hord tyC (by rw [Y.causeType]; rfl)) (Takes.of_laid hk hord tyS (by rw [Y.stackType]; exact fits_refV_array _ u0)) (Takes.of_laid hk hord tyP (by rw [Y.suppType]; exact fits_refV_object _ sen)) Y.objLocals hskip htr [] hd6
    (by simp only [List.length_cons, hlen]; omega) (by simp only [List.length_cons, hlen]; show 2 * 0 + _ + _ ≤ _; omega)
  have hlt : q < ((T.setVm vm₁).setVm vm₂).heap.size := (Array.getElem?_eq_some_iff.mp hcellT).1
  obtain ⟨ce, hce⟩ : ∃ ce, ce = ((preparedCellV Th.toThrowableT (freshCell (D.1 ci) kX) q u0 sen).setSlot Th.fStack.slot u0.v) := ⟨_, rfl⟩
  rw [← hce] at X₂ st2
  have hcv : ce.vm = .none := by rw [hce]; rfl
  have hcc : ce.cls = D.1 ci := by rw [hce]; rfl
  have hcz : ce.slots.size = (freshCell (D.1 ci) kX).slots.size := by rw [hce]; simp [preparedCellV, Cell.setSlot]
  obtain ⟨r, hr, cell2, g1, g2, g3, g4⟩ := hP 0 _ rfl
  cases hr.symm.trans hc
  cases g1.symm.trans hcell
  have hall : ∀ k, ∃ v, k < qc.2.2 → ce.slots[D.2 ci k]? = some v := by
    intro k
    by_cases hk : k < qc.2.2
    · have := (Array.getElem?_eq_some_iff.mp (g4 k hk)).1
      exact ⟨ce.slots[D.2 ci k]'(by rw [hcz]; exact this), fun _ => Array.getElem?_eq_getElem _⟩
    · exact ⟨.null, fun z => absurd z hk⟩
  have hvm : ((T.setVm vm₁).setVm vm₂).heap = s.heap := hT
  have hh : (((T.setVm vm₁).setVm vm₂).setCell q ce).heap[q]? = some ce := heapAt_setCell_self (s := (T.setVm vm₁).setVm vm₂) ce hlt
  have hoth : ∀ z : Nat, z ≠ q → (((T.setVm vm₁).setVm vm₂).setCell q ce).heap[z]? = s.heap[z]? := fun z hz => by
    rw [← hvm]; simp [State.setCell, Array.getElem?_setIfInBounds, Ne.symm hz]
  have hsz : (((T.setVm vm₁).setVm vm₂).setCell q ce).heap.size = s.heap.size := by rw [← hvm]; simp [State.setCell]
  obtain ⟨t, a1, b1⟩ := kk _ _ (fun k => (hall k).choose) (by
      intro k z hz
      have hz0 : k < 1 := (List.getElem?_eq_some_iff.mp hz).1
      rw [show k = 0 by omega] at hz
      cases hz
      refine ⟨_, hc, ce, hh, hcc, hcv, fun j hj => ?_⟩
      rw [(hall j).choose_spec hj]
      unfold vp_V
      rw [List.getD_eq_getElem?_getD, List.getElem?_map, List.getElem?_range hj]
      rfl) ⟨Nat.le_of_eq hsz.symm, fun z _ h2 => hoth z (fun e => h2 (by rw [e]; exact hA)), fun z hz => by
        simp only [List.nil_append, List.mem_cons, List.not_mem_nil, or_false] at hz
        rcases hz with rfl | rfl | rfl | rfl <;> exact hA⟩ _ rfl X₂
  refine ⟨t, st1 _ (fun acts => ?_), b1⟩
  rw [doInvoke_state]
  exact st2 _ a1
end BASE8

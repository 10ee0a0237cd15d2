/-! numbers with a point; accounts -/
section FPR
variable {p : Program} {l : Launch} {e : Env} {R : Room} {s : State} {m : MethodId} {args : Array Value} {below : List Frame} {meth : Method} {c : Code} {cc : ByteArray} {nL : Nat} {own : String} {D : va_G} {dd : Nat → ClassId} {A : Nat → Prop} {cells slots : Nat} {Q : State → Prop} {ws : va_W} {pc : Nat} {loc : List (Nat × Value)} {st : List Value}
theorem v_i2d {x : Int32} (X : VX p s m args meth c cc nL own D dd A) (d : decode cc pc = .ok (.i2d, 1)) (k : V p l e R s m args below meth c D A nL cells slots Q ws (pc + 1) loc (.double (FP.i2d x) :: st)) : V p l e R s m args below meth c D A nL cells slots Q ws pc loc (.int x :: st) :=
  fun H locs ls hP hD hS hl => lv_i2d X.hx X.hb d (k H locs ls hP hD hS hl)
theorem v_i2f {x : Int32} (X : VX p s m args meth c cc nL own D dd A) (d : decode cc pc = .ok (.i2f, 1)) (k : V p l e R s m args below meth c D A nL cells slots Q ws (pc + 1) loc (.float (FP.i2f x) :: st)) : V p l e R s m args below meth c D A nL cells slots Q ws pc loc (.int x :: st) :=
  fun H locs ls hP hD hS hl => lv_i2f X.hx X.hb d (k H locs ls hP hD hS hl)
theorem v_ddiv {x y : UInt64} (X : VX p s m args meth c cc nL own D dd A) (hne : vf_n64 (FP.ddiv x y)) (d : decode cc pc = .ok (.ddiv, 1)) (k : V p l e R s m args below meth c D A nL cells slots Q ws (pc + 1) loc (.double (FP.ddiv x y) :: st)) : V p l e R s m args below meth c D A nL cells slots Q ws pc loc (.double y :: .double x :: st) :=
  fun H locs ls hP hD hS hl => lv_ddiv X.hx X.hb d hne (k H locs ls hP hD hS hl)
theorem v_fdiv {x y : UInt32} (X : VX p s m args meth c cc nL own D dd A) (hne : vf_n32 (FP.fdiv x y)) (d : decode cc pc = .ok (.fdiv, 1)) (k : V p l e R s m args below meth c D A nL cells slots Q ws (pc + 1) loc (.float (FP.fdiv x y) :: st)) : V p l e R s m args below meth c D A nL cells slots Q ws pc loc (.float y :: .float x :: st) :=
  fun H locs ls hP hD hS hl => lv_fdiv X.hx X.hb d hne (k H locs ls hP hD hS hl)
theorem v_dconst0 (X : VX p s m args meth c cc nL own D dd A) (d : decode cc pc = .ok (.dconst 0, 1)) (k : V p l e R s m args below meth c D A nL cells slots Q ws (pc + 1) loc (.double FP.dconst0 :: st)) : V p l e R s m args below meth c D A nL cells slots Q ws pc loc st :=
  fun H locs ls hP hD hS hl => lv_dconst0 X.hx X.hb d (k H locs ls hP hD hS hl)
theorem v_fconst0 (X : VX p s m args meth c cc nL own D dd A) (d : decode cc pc = .ok (.fconst 0, 1)) (k : V p l e R s m args below meth c D A nL cells slots Q ws (pc + 1) loc (.float FP.fconst0 :: st)) : V p l e R s m args below meth c D A nL cells slots Q ws pc loc st :=
  fun H locs ls hP hD hS hl => lv_fconst0 X.hx X.hb d (k H locs ls hP hD hS hl)
theorem t_dret {x : Nat} {ad : Nat → Nat} {σ : Tw} {post : Option Value → Tw → Prop} {v : UInt64} (X : VX p s m args meth c cc nL own D dd A) (hr : meth.sig.returnType = some .double) (d : decode cc pc = .ok (.dreturn, 1)) (h : post (some (.double v)) σ) : V p l e R s m args below meth c D A nL cells slots (MQ below (QW D A (fun v w => ∃ σ', w = tw x ad dd σ' ∧ post v σ')) args s cells slots A) (tw x ad dd σ) pc loc [.double v] :=
  v_dret X hr d ⟨σ, rfl, h⟩
theorem t_fret {x : Nat} {ad : Nat → Nat} {σ : Tw} {post : Option Value → Tw → Prop} {v : UInt32} (X : VX p s m args meth c cc nL own D dd A) (hr : meth.sig.returnType = some .float) (d : decode cc pc = .ok (.freturn, 1)) (h : post (some (.float v)) σ) : V p l e R s m args below meth c D A nL cells slots (MQ below (QW D A (fun v w => ∃ σ', w = tw x ad dd σ' ∧ post v σ')) args s cells slots A) (tw x ad dd σ) pc loc [.float v] :=
  v_fret X hr d ⟨σ, rfl, h⟩
end FPR
set_option maxRecDepth 1000000 in
theorem mean_ok : ∀ n : Fin 10, ∀ s : Fin 451, 0 < n.val → vf_n64 (FP.ddiv (FP.i2d (nI s.val)) (FP.i2d (nI n.val))) := by
  unfold vf_n64; decide +kernel
/-- how many orders a run of so many pourings has -/
def catW (d : Nat) : Nat := (Dv (fun _ => 0) 0 d).2.2.2.1
theorem dpW {sd sd2 : Nat → Nat} : ∀ (n f g d : Nat), d ≤ n → (dp sd n f (f + d)).2.2.2.1 = (dp sd2 n g (g + d)).2.2.2.1
  | 0, f, g, d, _ => rfl
  | n + 1, f, g, d, h => by
    show (dpFold (dp sd n) _ f (f + d) (f + d - f)).2.2.2.1 = (dpFold (dp sd2 n) _ g (g + d) (g + d - g)).2.2.2.1
    rw [Nat.add_sub_cancel_left, Nat.add_sub_cancel_left]
    have key : ∀ i, i ≤ d → (dpFold (dp sd n) (fun s => prN sd f s (f + d)) f (f + d) i).2.2.2.1 = (dpFold (dp sd2 n) (fun s => prN sd2 g s (g + d)) g (g + d) i).2.2.2.1 := by
      intro i
      induction i with
      | zero =>
        intro _
        show (if f = f + d then 1 else 0) = if g = g + d then 1 else 0
        by_cases e : d = 0
        · rw [if_pos (by omega), if_pos (by omega)]
        · rw [if_neg (by omega), if_neg (by omega)]
      | succ i ih =>
        intro hi
        show _ + _ * _ = _ + _ * _
        rw [ih (by omega)]
        have a := dpW (sd := sd) (sd2 := sd2) n f g i (by omega)
        have b := dpW (sd := sd) (sd2 := sd2) n (f + i + 1) (g + i + 1) (d - (i + 1)) (by omega)
        rw [show f + i + 1 + (d - (i + 1)) = f + d by omega, show g + i + 1 + (d - (i + 1)) = g + d by omega] at b
        rw [a, b]
    exact key d (Nat.le_refl _)
theorem Dv_ways (sd : Nat → Nat) (f d : Nat) : (Dv sd f (f + d)).2.2.2.1 = catW d := by
  unfold catW Dv
  rw [Nat.add_sub_cancel_left, Nat.sub_zero]
  have := dpW (sd := sd) (sd2 := fun _ => 0) d f 0 d (Nat.le_refl _)
  rw [Nat.zero_add] at this
  exact this
theorem catW_v : catW 0 = 1 ∧ catW 1 = 1 ∧ catW 2 = 2 ∧ catW 3 = 5 ∧ catW 4 = 14 ∧ catW 5 = 42 ∧ catW 6 = 132 ∧ catW 7 = 429 := by decide +kernel
theorem dpB {sd : Nat → Nat} : ∀ (n f l : Nat), (dp sd n f l).2.2.2.2 ≤ (dp sd n f l).2.2.2.1
  | 0, f, l => Nat.le_refl _
  | n + 1, f, l => by
    show (dpFold (dp sd n) _ f l (l - f)).2.2.2.2 ≤ (dpFold (dp sd n) _ f l (l - f)).2.2.2.1
    have key : ∀ i, (dpFold (dp sd n) (fun s => prN sd f s l) f l i).2.2.2.2 ≤ (dpFold (dp sd n) (fun s => prN sd f s l) f l i).2.2.2.1 := by
      intro i
      induction i with
      | zero => exact Nat.le_refl _
      | succ i ih =>
        have a := dpB (sd := sd) n f (f + i)
        have b := dpB (sd := sd) n (f + i + 1) l
        have c := Nat.mul_le_mul a b
        show (dpStep _ _ _ _ _ _).2.2.2.2 ≤ (dpStep _ _ _ _ _ _).2.2.2.1
        unfold dpStep
        dsimp only
        split
        · omega
        · split <;> omega
    exact key _
theorem Dv_best (sd : Nat → Nat) (f l : Nat) : (Dv sd f l).2.2.2.2 ≤ (Dv sd f l).2.2.2.1 := dpB _ f l
set_option maxRecDepth 1000000 in
theorem share_ok : ∀ d : Fin 8, ∀ b : Fin 430, b.val ≤ catW d.val → vf_n32 (FP.fdiv (FP.i2f (nI b.val)) (FP.i2f (nI (catW d.val)))) := by
  unfold vf_n32; decide +kernel
def sumS (sd : Nat → Nat) : Nat → Nat
  | 0 => 0
  | k + 1 => sumS sd k + sd k
theorem sumS_le {sd : Nat → Nat} (h : ∀ i, sd i ≤ 50) : ∀ k, sumS sd k ≤ 50 * k
  | 0 => Nat.le_refl _
  | k + 1 => by have := sumS_le h k; have := h k; unfold sumS; omega
def setLn (a : AS) (t : List Nat) : AS := (a.1, a.2.1, a.2.2.1, a.2.2.2.1, a.2.2.2.2.1, a.2.2.2.2.2.1, a.2.2.2.2.2.2.1, t)
theorem tr_ln {σ τ : Tw} {a : AS} {t : List Nat} (h : TRel σ a) (hC : Ch (12 :: scQ) (13 :: scQN) σ τ) (hL : LnIs τ t) (h80 : t.length ≤ 80) (hc : ∀ c ∈ t, c < 65536) : TRel τ (setLn a t) := by
  obtain ⟨h1, h2, h3, h4, h5, h6, h7, h8, h9, h10, -⟩ := h
  have r0 := hC.1 0 (by decide) (by decide)
  have r2 := hC.1 2 (by decide) (by decide)
  have r4 := hC.1 4 (by decide) (by decide)
  have r6 := hC.1 6 (by decide) (by decide)
  exact ⟨by rw [show τ 0 = σ 0 from r0]; exact h1, h2, h3.same r2 (hC.2 3 (by decide)), h4, by rw [hC.2 5 (by decide)]; exact h5, by rw [show τ 4 = σ 4 from r4]; exact h6, h7.same r6 (hC.2 7 (by decide)), by rw [hC.2 8 (by decide)]; exact h8, by rw [hC.2 9 (by decide)]; exact h9, by rw [hC.2 10 (by decide)]; exact h10, hL, h80, hc⟩
theorem txt_ch {sp : Nat → Nat → Nat} (h : SpOk sp) : ∀ (n f l : Nat), l - f ≤ n → l < 8 → f < 9 → ∀ c ∈ txt sp f l, c < 65536
  | 0, f, l, h1, _, h3, c, hc => by
    rw [txt_1 (by omega), List.mem_singleton] at hc; omega
  | n + 1, f, l, h1, h2, h3, c, hc => by
    by_cases hl : f < l
    · have hs := h f l hl
      rw [txt_eq h hl] at hc
      rcases List.mem_cons.mp hc with e | hc
      · omega
      · rcases List.mem_append.mp hc with hc | hc
        · exact txt_ch h n f (sp f l) (by omega) (by omega) (by omega) c hc
        · rcases List.mem_append.mp hc with hc | hc
          · exact txt_ch h n (sp f l + 1) l (by omega) (by omega) (by omega) c hc
          · rw [List.mem_singleton] at hc; omega
    · rw [txt_1 (by omega), List.mem_singleton] at hc; omega
theorem dec2_ch {v : Nat} (h : v < 100) : ∀ c ∈ dec2 v, c < 65536 := by
  intro c hc
  unfold dec2 at hc
  split at hc <;> simp at hc <;> omega
theorem sdTx_ch {sd : Nat → Nat} (h : ∀ i, sd i ≤ 50) : ∀ k, ∀ c ∈ sdTx sd k, c < 65536
  | 0, c, hc => by cases hc
  | k + 1, c, hc => by
    unfold sdTx at hc
    rcases List.mem_append.mp hc with hc | hc
    · exact sdTx_ch h k c hc
    · rcases List.mem_append.mp hc with hc | hc
      · split at hc
        · cases hc
        · rw [List.mem_singleton] at hc; omega
      · exact dec2_ch (by have := h k; omega) c hc
/-- the pourings tell the order -/
theorem pl_txt {sp sp2 : Nat → Nat → Nat} (h : SpOk sp) (h2 : SpOk sp2) : ∀ (n f l : Nat), l - f ≤ n → pl sp f l = pl sp2 f l → txt sp f l = txt sp2 f l
  | 0, f, l, hn, _ => by rw [txt_1 (by omega), txt_1 (by omega)]
  | n + 1, f, l, hn, e => by
    by_cases hl : f < l
    · have hs := h f l hl
      have hs2 := h2 f l hl
      rw [pl_eq h hl, pl_eq h2 hl, ← List.append_assoc, ← List.append_assoc] at e
      obtain ⟨e1, e2⟩ := List.append_inj' e rfl
      have e3 : sp f l = sp2 f l := by
        injection e2 with e2 _
        injection e2 with _ e2
        injection e2
      rw [e3] at e1
      obtain ⟨e4, e5⟩ := List.append_inj e1 (by rw [pl_length h, pl_length h2])
      rw [txt_eq h hl, txt_eq h2 hl, e3, pl_txt h h2 n f (sp2 f l) (by omega) e4, pl_txt h h2 n (sp2 f l + 1) l (by omega) e5]
    · rw [txt_1 (by omega), txt_1 (by omega)]
/-- a plan's order as brackets -/
noncomputable def txP (b : Blk) (i : Nat) : List Nat := by
  classical
  exact if h : ∃ t, ∀ f l sp, PlanAt b i f l sp → txt sp f l = t then h.choose else []
theorem txP_eq {b : Blk} {i f l : Nat} {sp : Nat → Nat → Nat} (h : PlanAt b i f l sp) : txP b i = txt sp f l := by
  have hx : ∃ t, ∀ f l sp, PlanAt b i f l sp → txt sp f l = t := by
    refine ⟨txt sp f l, fun f2 l2 sp2 h2 => ?_⟩
    obtain ⟨a1, a2, a3⟩ := h.eqs
    obtain ⟨b1, b2, b3⟩ := h2.eqs
    have e1 : f2 = f := b1.symm.trans a1
    have e2 : l2 = l := b2.symm.trans a2
    subst e1; subst e2
    exact pl_txt h2.2.2.1 h.2.2.1 _ f2 l2 (Nat.le_refl _) (b3.symm.trans a3)
  unfold txP
  rw [dif_pos hx]
  exact (hx.choose_spec f l sp h).symm
def lineA (a : AS) (u v : Int32) : AS × Nat × Int32 := if isRunP (nS a.1) u v then (setLn a (txt (spD (sdN a.1)) u.toNatClampNeg v.toNatClampNeg), 0, nI (txt (spD (sdN a.1)) u.toNatClampNeg v.toNatClampNeg).length) else (a, 1, 0)
noncomputable def planLineA (a : AS) (u : Int32) : AS × Nat × Int32 := if nI 0 ≤ u ∧ u ≤ nI (nP a.1) - nI 1 then (setLn a (txP a.1 u.toNatClampNeg), 0, nI (txP a.1 u.toNatClampNeg).length) else (a, 1, 0)
def sidesLineA (a : AS) : AS × Int32 := (setLn a (sdTx (sdN a.1) (nS a.1)), nI (sdTx (sdN a.1) (nS a.1)).length)
def charQ (a : AS) (u : Int32) : Nat × Int32 := if nI 0 ≤ u ∧ u ≤ nI a.2.2.2.2.2.2.2.length - nI 1 then (0, nI (a.2.2.2.2.2.2.2.getD u.toNatClampNeg 0)) else (1, 0)
def appA (a : AS) (c : Nat) : AS × Nat × Int32 := if a.2.2.2.1.length = 60 then (a, 1, 0) else ((a.1, a.2.1, a.2.2.1, a.2.2.2.1 ++ [c], a.2.2.2.2), 0, nI (a.2.2.2.1.length + 1))
def refQ (a : AS) (d : Int32) : Nat × Int32 := if a.2.2.2.2.2.1 = 0 then (1, 0) else (0, if d = 0 then a.2.2.2.2.2.1 else a.2.2.2.2.2.2.1)
def accQ (a : AS) (w : Int32) : Nat × Int32 :=
  if w = nI 0 then (0, nI (nS a.1)) else if w = nI 1 then (0, nI (nS a.1 - 1)) else if w = nI 2 then (0, nI (nC a.1)) else if w = nI 3 then (0, nI (nP a.1)) else if w = nI 4 then (0, nI (cntB (fun p => decide (pE a.1 p < nS a.1 - 1)) (nP a.1)))
  else if w = nI 5 then (0, nI (allL (nS a.1) (sdN a.1))) else if w = nI 6 then (0, nI (allM (nS a.1) (sdN a.1))) else if w = nI 7 then (0, nI (sumS (sdN a.1) (nS a.1))) else if w = nI 8 then (0, nI a.2.2.2.1.length) else if w = nI 9 then (0, nI a.2.1.length) else (1, 0)
def undoA (a : AS) : AS × Nat × Int32 := if h : a.2.1 = [] then (a, 1, 0) else ((a.2.1.getLast h, a.2.1.dropLast, a.2.2), 0, nI (a.2.1.length - 1))
def saveA (a : AS) : AS × Int32 := ((a.1, a.2.1, some a.1, a.2.2.2), nI (nS a.1 - 1))
def restA (a : AS) : AS × Nat × Int32 := match a.2.2.1 with | none => (a, 1, 0) | some b => ((b, [], a.2.2), 0, nI (nS b - 1))
theorem tr_in {σ τ : Tw} {a : AS} {t : List Nat} (h : TRel σ a) (hC : Ch (6 :: scQ) (7 :: scQN) σ τ) (hI : InIs τ t) : TRel τ (a.1, a.2.1, a.2.2.1, t, a.2.2.2.2) := by
  obtain ⟨h1, h2, h3, h4, h5, h6, h7, h8, h9, h10, h11, h12⟩ := h
  have r0 := hC.1 0 (by decide) (by decide)
  have r2 := hC.1 2 (by decide) (by decide)
  have r4 := hC.1 4 (by decide) (by decide)
  have r12 := hC.1 12 (by decide) (by decide)
  exact ⟨by rw [r0]; exact h1, h2, h3.same r2 (hC.2 3 (by decide)), h4, by rw [hC.2 5 (by decide)]; exact h5, by rw [r4]; exact h6, hI, by rw [hC.2 8 (by decide)]; exact h8, by rw [hC.2 9 (by decide)]; exact h9, by rw [hC.2 10 (by decide)]; exact h10, h11.same r12 (hC.2 13 (by decide)), h12⟩
theorem tr_back {σ τ : Tw} {a : AS} {g : Blk} {hs : List Blk} (h : TRel σ a) (hC : Ch (0 :: scQ) (3 :: scQN) σ τ) (hg : BEq (τ 0) g) (hw : WFB g) (h3 : τ 99 3 = nI hs.length) (hp : ∀ (i : Nat) (b : Blk), hs[i]? = some b → a.2.1[i]? = some b) (h8 : hs.length ≤ 8) : TRel τ (g, hs, a.2.2) := by
  obtain ⟨k1, k2, k3, k4, k5, k6, k7, k8, k9, k10, k11, k12⟩ := h
  have r2 := hC.1 2 (by decide) (by decide)
  have r4 := hC.1 4 (by decide) (by decide)
  have r6 := hC.1 6 (by decide) (by decide)
  have r12 := hC.1 12 (by decide) (by decide)
  refine ⟨hg, hw, ⟨h3, h8, fun i b hi => by rw [r2]; exact k3.2.2 i b (hp i b hi)⟩, fun b hb => ?_, by rw [hC.2 5 (by decide)]; exact k5, by rw [r4]; exact k6, k7.same r6 (hC.2 7 (by decide)), by rw [hC.2 8 (by decide)]; exact k8, by rw [hC.2 9 (by decide)]; exact k9, by rw [hC.2 10 (by decide)]; exact k10, k11.same r12 (hC.2 13 (by decide)), k12⟩
  obtain ⟨i, hi, he⟩ := List.getElem_of_mem hb
  exact k4 b (List.mem_of_getElem? (hp i b (by rw [List.getElem?_eq_getElem hi, he])))
theorem tr_save {σ τ : Tw} {a : AS} (h : TRel σ a) (hC : Ch (4 :: scQ) (5 :: scQN) σ τ) (h4 : BEq (τ 4) a.1) (h5 : τ 99 5 = 1) : TRel τ (a.1, a.2.1, some a.1, a.2.2.2) := by
  obtain ⟨k1, k2, k3, k4, k5, k6, k7, k8, k9, k10, k11, k12⟩ := h
  have r0 := hC.1 0 (by decide) (by decide)
  have r2 := hC.1 2 (by decide) (by decide)
  have r6 := hC.1 6 (by decide) (by decide)
  have r12 := hC.1 12 (by decide) (by decide)
  exact ⟨by rw [r0]; exact k1, k2, k3.same r2 (hC.2 3 (by decide)), k4, by rw [h5, bI_t]; simp, fun b hb => by cases hb; exact ⟨h4, k2⟩, k7.same r6 (hC.2 7 (by decide)), by rw [hC.2 8 (by decide)]; exact k8, by rw [hC.2 9 (by decide)]; exact k9, by rw [hC.2 10 (by decide)]; exact k10, k11.same r12 (hC.2 13 (by decide)), k12⟩
theorem pE_eq {b b' : Blk} {i f l : Nat} {sp : Nat → Nat → Nat} (h : PlanAt b i f l sp) (he : BEq b b') (hi : i < 4) : PlanAt b' i f l sp := h.congr (fun d hd => (he _ (by omega)).symm)
theorem catW_le (d : Nat) (h : d < 8) : catW d < 430 := by
  have := catW_v
  rcases (show d = 0 ∨ d = 1 ∨ d = 2 ∨ d = 3 ∨ d = 4 ∨ d = 5 ∨ d = 6 ∨ d = 7 by omega) with rfl | rfl | rfl | rfl | rfl | rfl | rfl | rfl <;> omega
theorem hist_last {σ : Tw} {hs : List Blk} (h : HsIs σ hs) (hne : hs ≠ []) : ∀ (τ : Tw) (f : Nat → Int32), BEq (rw2 τ 0 (va_cpy (σ 2) f ((hs.length - 1) * 112) 0 112) 0) (hs.getLast hne) := by
  intro τ f j hj
  rw [rw2_s]
  unfold va_cpy
  rw [if_pos (by omega), ← h.2.2 (hs.length - 1) (hs.getLast hne) (by rw [List.getLast_eq_getElem, List.getElem?_eq_getElem]) j hj]
  congr 1

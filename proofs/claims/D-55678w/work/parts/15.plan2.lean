/-! plans in a block -/
def PlanAt (b : Blk) (i f l : Nat) (sp : Nat → Nat → Nat) : Prop :=
  f ≤ l ∧ l < 8 ∧ SpOk sp ∧ b (16 + 24 * i + 0) = nI f ∧ b (16 + 24 * i + 1) = nI l ∧ ∀ (k : Nat) (e : Nat × Nat × Nat), (pl sp f l)[k]? = some e → b (16 + 24 * i + (3 + 3 * k + 0)) = nI e.1 ∧ b (16 + 24 * i + (3 + 3 * k + 1)) = nI e.2.1 ∧ b (16 + 24 * i + (3 + 3 * k + 2)) = nI e.2.2
def pcost (n : Nat) (sd : Nat → Nat) (e : Nat × Nat × Nat) : Int32 := if e.2.1 < n - 1 then nI (prN sd e.1 e.2.2 e.2.1) else -1
def sumL (sd : Nat → Nat) (L : List (Nat × Nat × Nat)) : Nat := (L.map (fun e => prN sd e.1 e.2.2 e.2.1)).sum
def plCost (n l : Nat) (sd : Nat → Nat) (L : List (Nat × Nat × Nat)) : Int32 := if l < n - 1 then nI (sumL sd L) else -1
theorem sumL_take {sd : Nat → Nat} {L : List (Nat × Nat × Nat)} {k : Nat} {e : Nat × Nat × Nat} (h : L[k]? = some e) : sumL sd (L.take (k + 1)) = sumL sd (L.take k) + prN sd e.1 e.2.2 e.2.1 := by
  unfold sumL
  rw [List.take_add_one, h]
  simp
theorem sumL_le {sd : Nat → Nat} (h50 : ∀ i, sd i ≤ 50) : ∀ L : List (Nat × Nat × Nat), sumL sd L ≤ 125000 * L.length
  | [] => Nat.le_refl _
  | e :: L => by
    have h1 := sumL_le h50 L
    have h2 := pr50 h50 e.1 e.2.2 e.2.1
    have e1 : sumL sd (e :: L) = prN sd e.1 e.2.2 e.2.1 + sumL sd L := by simp [sumL]
    rw [e1, List.length_cons]
    omega
theorem get_lt {α : Type} {L : List α} {k : Nat} (h : k < L.length) : ∃ e, L[k]? = some e := ⟨L[k], List.getElem?_eq_getElem h⟩
/-- the plans without one -/
def dropB (b : Blk) (i m : Nat) : Blk := fun j => if j = 15 then nI m else if 16 + 24 * i ≤ j ∧ j < 16 + 24 * m then b (j + 24) else if 16 + 24 * m ≤ j ∧ j < 16 + 24 * m + 24 then 0 else b j
def opDrop (b : Blk) (np : Nat) (a : Int32) : OpR := if nI 0 ≤ a ∧ a ≤ nI np - nI 1 then (0, none, nI (np - 1), dropB b a.toNatClampNeg (np - 1)) else (1, none, 0, b)
def drop1 (b : Blk) (i k : Nat) : Blk := fun j => if 16 + 24 * i ≤ j ∧ j < k then b (j + 24) else b j
def drop2 (b : Blk) (m k : Nat) : Blk := fun j => if 16 + 24 * m ≤ j ∧ j < 16 + 24 * m + k then 0 else b j
theorem drop1_0 (b : Blk) (i : Nat) : drop1 b i (16 + 24 * i) = b := by
  funext j; unfold drop1; rw [if_neg (by omega)]
theorem drop1_s {b : Blk} {i k : Nat} (h : 16 + 24 * i ≤ k) : upd (drop1 b i k) k (drop1 b i k (k + 24)) = drop1 b i (k + 1) := by
  funext j
  by_cases e : j = k
  · subst e
    rw [upd_s]; unfold drop1
    rw [if_neg (by omega), if_pos (by omega)]
  · rw [upd_n e]; unfold drop1
    by_cases h2 : 16 + 24 * i ≤ j ∧ j < k
    · rw [if_pos h2, if_pos (by omega)]
    · rw [if_neg h2, if_neg (by omega)]
theorem drop2_0 (b : Blk) (m : Nat) : drop2 b m 0 = b := by
  funext j; unfold drop2; rw [if_neg (by omega)]
theorem drop2_s (b : Blk) (m k : Nat) : upd (drop2 b m k) (16 + 24 * m + k) 0 = drop2 b m (k + 1) := by
  funext j
  by_cases e : j = 16 + 24 * m + k
  · subst e
    rw [upd_s]; unfold drop2
    rw [if_pos (by omega)]
  · rw [upd_n e]; unfold drop2
    by_cases h2 : 16 + 24 * m ≤ j ∧ j < 16 + 24 * m + k
    · rw [if_pos h2, if_pos (by omega)]
    · rw [if_neg h2, if_neg (by omega)]
theorem drop12 {b : Blk} {i m : Nat} (h : i ≤ m) : drop2 (drop1 (upd b 15 (nI m)) i (16 + 24 * m)) m 24 = dropB b i m := by
  funext j
  unfold drop2 drop1 dropB
  by_cases e : j = 15
  · subst e
    rw [if_neg (by omega), if_neg (by omega), upd_s, if_pos rfl]
  rw [if_neg e]
  by_cases h1 : 16 + 24 * m ≤ j ∧ j < 16 + 24 * m + 24
  · rw [if_pos h1, if_neg (by omega), if_pos h1]
  rw [if_neg h1]
  by_cases h2 : 16 + 24 * i ≤ j ∧ j < 16 + 24 * m
  · rw [if_pos h2, if_pos h2, upd_n (by omega)]
  · rw [if_neg h2, if_neg h2, if_neg h1, upd_n e]
theorem tab_of (a : Int32) (m : Nat) : (∃ j : Nat, j ≤ m ∧ a = nI j) ∨ (a.toInt < 0 ∨ (m : Int) < a.toInt) := by
  by_cases h1 : a.toInt < 0
  · exact Or.inr (Or.inl h1)
  by_cases h2 : (m : Int) < a.toInt
  · exact Or.inr (Or.inr h2)
  have hb := Int32.toInt_lt a
  refine Or.inl ⟨a.toInt.toNat, by omega, ?_⟩
  apply Int32.toInt_inj.mp
  rw [nI_toInt (by omega)]
  omega
/-- a plan's run and pourings, read off the block -/
def pF (b : Blk) (i : Nat) : Nat := (b (16 + 24 * i + 0)).toNatClampNeg
def pE (b : Blk) (i : Nat) : Nat := (b (16 + 24 * i + 1)).toNatClampNeg
def pL (b : Blk) (i : Nat) : List (Nat × Nat × Nat) := (List.range (pE b i - pF b i)).map fun k => ((b (16 + 24 * i + (3 + 3 * k + 0))).toNatClampNeg, (b (16 + 24 * i + (3 + 3 * k + 1))).toNatClampNeg, (b (16 + 24 * i + (3 + 3 * k + 2))).toNatClampNeg)
theorem PlanAt.eqs {b : Blk} {i f l : Nat} {sp : Nat → Nat → Nat} (h : PlanAt b i f l sp) : pF b i = f ∧ pE b i = l ∧ pL b i = pl sp f l := by
  obtain ⟨hfl, hl8, hsp, h0, h1, he⟩ := h
  have e0 : pF b i = f := by unfold pF; rw [h0]; exact nI_clamp (by omega)
  have e1 : pE b i = l := by unfold pE; rw [h1]; exact nI_clamp (by omega)
  refine ⟨e0, e1, ?_⟩
  have hlen := pl_length hsp f l
  apply List.ext_getElem?
  intro k
  unfold pL
  rw [e0, e1, List.getElem?_map]
  by_cases hk : k < l - f
  · rw [List.getElem?_range hk]
    obtain ⟨e, hke⟩ := get_lt (L := pl sp f l) (k := k) (by omega)
    have hee := pl_mem hsp (List.mem_of_getElem? hke)
    rw [hke]
    obtain ⟨a1, a2, a3⟩ := he k e hke
    dsimp only [Option.map]
    rw [a1, a2, a3, nI_clamp (by omega), nI_clamp (by omega), nI_clamp (by omega)]
  · rw [List.getElem?_eq_none (by rw [List.length_range]; omega), List.getElem?_eq_none (by omega)]
    rfl
/-- all plans that are there -/
def PlansOk (b : Blk) (np : Nat) : Prop := ∀ i : Nat, i < np → ∃ (f l : Nat) (sp : Nat → Nat → Nat), PlanAt b i f l sp
def qPlanOf (b : Blk) (n np : Nat) (sd : Nat → Nat) (a w : Int32) : Nat × Int32 :=
  if nI 0 ≤ a ∧ a ≤ nI np - nI 1 then
    (if w = nI 0 then (0, nI (pF b a.toNatClampNeg)) else if w = nI 1 then (0, nI (pE b a.toNatClampNeg)) else if w = nI 2 then (0, nI (pE b a.toNatClampNeg - pF b a.toNatClampNeg)) else if w = nI 3 then (0, b (16 + 24 * a.toNatClampNeg + 2)) else if w = nI 4 then (0, plCost n (pE b a.toNatClampNeg) sd (pL b a.toNatClampNeg))
     else if w = nI 5 then (0, if pE b a.toNatClampNeg < n - 1 then nI (sumL sd (pL b a.toNatClampNeg)) - nI (Dv sd (pF b a.toNatClampNeg) (pE b a.toNatClampNeg)).1 else -1) else (2, 0))
  else (1, 0)
def qPouring (b : Blk) (n np : Nat) (sd : Nat → Nat) (a k w : Int32) : Nat × Int32 :=
  if nI 0 ≤ a ∧ a ≤ nI np - nI 1 then
    (if nI 0 ≤ k ∧ k ≤ nI (pE b a.toNatClampNeg - pF b a.toNatClampNeg) - nI 1 then
      (if nI 0 ≤ w ∧ w ≤ nI 3 then (0, if w = nI 3 then pcost n sd ((pL b a.toNatClampNeg).getD k.toNatClampNeg (0, 0, 0)) else b (16 + 24 * a.toNatClampNeg + (3 + 3 * k.toNatClampNeg + w.toNatClampNeg))) else (3, 0))
     else (2, 0))
  else (1, 0)
theorem nI_inj {a b : Nat} (ha : a < 1000) (hb : b < 1000) (h : nI a = nI b) : a = b := (nI_eq (by omega) (by omega)).mp h
theorem nI_dne {a b : Nat} (ha : a < 1000) (hb : b < 1000) (h : a ≠ b) : ¬ nI a = nI b := fun z => h (nI_inj ha hb z)
theorem out_ne {w : Int32} {m : Nat} (h : w.toInt < 0 ∨ (m : Int) < w.toInt) {k : Nat} (hk : k ≤ m) (hm : m < 1000) : ¬ w = nI k := by
  intro e; rw [e, nI_toInt (by omega)] at h; omega
section TAB
variable {p : Program} {l : Launch} {e : Env} {R : Room} {s : State} {m : MethodId} {args : Array Value} {below : List Frame} {meth : Method} {c : Code} {cc : ByteArray} {nL : Nat} {own : String} {D : va_G} {dd : Nat → ClassId} {A : Nat → Prop} {cells slots : Nat} {Q : State → Prop} {ws : va_W} {pc : Nat} {loc : List (Nat × Value)} {st : List Value}
theorem v_tabIn {dflt lo hi : Int} {offs : Array Int} {len : Nat} {x : Int32} {off : Int} (X : VX p s m args meth c cc nL own D dd A) (tgt : Nat) (d : decode cc pc = .ok (.tableswitch dflt lo hi offs, len)) (h1 : ¬ x.toInt < lo) (h2 : ¬ hi < x.toInt) (ho : offs[(x.toInt - lo).toNat]? = some off) (ht : (pc : Int) + off = (tgt : Int)) (k : V p l e R s m args below meth c D A nL cells slots Q ws tgt loc st) : V p l e R s m args below meth c D A nL cells slots Q ws pc loc (.int x :: st) :=
  fun H locs ls hP hD hS hl => lv_tableIn X.hx X.hb d h1 h2 ho ht (k H locs ls hP hD hS hl)
theorem v_tabOut {dflt lo hi : Int} {offs : Array Int} {len : Nat} {x : Int32} (X : VX p s m args meth c cc nL own D dd A) (tgt : Nat) (d : decode cc pc = .ok (.tableswitch dflt lo hi offs, len)) (h : x.toInt < lo ∨ hi < x.toInt) (ht : (pc : Int) + dflt = (tgt : Int)) (k : V p l e R s m args below meth c D A nL cells slots Q ws tgt loc st) : V p l e R s m args below meth c D A nL cells slots Q ws pc loc (.int x :: st) :=
  fun H locs ls hP hD hS hl => lv_tableOut X.hx X.hb d h ht (k H locs ls hP hD hS hl)
theorem v_look {dflt : Int} {ps : Array (Int × Int)} {len : Nat} {x : Int32} {off : Int} (X : VX p s m args meth c cc nL own D dd A) (tgt : Nat) (d : decode cc pc = .ok (.lookupswitch dflt ps, len)) (hp : (ps.toList.zip (ps.toList.drop 1)).all (fun (a, next) => a.1 < next.1) = true) (ho : Op.lookupswitch.offset ps.toList dflt x.toInt = off) (ht : (pc : Int) + off = (tgt : Int)) (k : V p l e R s m args below meth c D A nL cells slots Q ws tgt loc st) : V p l e R s m args below meth c D A nL cells slots Q ws pc loc (.int x :: st) :=
  fun H locs ls hP hD hS hl => lv_lookup X.hx X.hb d hp ho ht (k H locs ls hP hD hS hl)
end TAB

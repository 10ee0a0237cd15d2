/-! the orders of a text -/
theorem look_d {ps : List (Int × Int)} {dflt : Int} {x : Int32} (h : ∀ q ∈ ps, ∃ k : Nat, k < 1000 ∧ q.1 = (k : Int) ∧ ¬ x = nI k) : Op.lookupswitch.offset ps dflt x.toInt = dflt := by
  refine Op.lookupswitch.offset_none ?_
  rw [List.find?_eq_none]
  intro q hq e
  obtain ⟨k, hk, h1, h2⟩ := h q hq
  apply h2
  apply Int32.toInt_inj.mp
  rw [nI_toInt (by omega)]
  have : q.1 = x.toInt := by simpa using e
  omega
/-- the text that is typed in -/
def InIs (σ : Tw) (t : List Nat) : Prop := TxIs (σ 6) t ∧ σ 99 7 = nI t.length ∧ t.length ≤ 60 ∧ ∀ c ∈ t, c < 65536
def hrI (t : List Nat) (p : Nat) : Int32 := match t[p]? with | some c => nI c | none => -1
abbrev PS : Type := Nat × Bool
def needF (t : List Nat) (c : Nat) (s : PS) : PS := if s.2 = true then s else if t[s.1]? = some c then (s.1 + 1, false) else (s.1, true)
def digF (t : List Nat) (p : Nat) : Bool := match t[p]? with | some c => decide (48 ≤ c) && decide (c ≤ 57) | none => false
def numL (t : List Nat) : Nat → Nat → Nat → Nat × Nat
  | 0, p, v => (p, v)
  | m + 1, p, v => if digF t p = true then numL t m (p + 1) (10 * v + (t.getD p 0 - 48)) else (p, v)
def numF (t : List Nat) (most : Nat) (s : PS) : PS × Nat :=
  if (needF t 32 s).2 = true then (needF t 32 s, 0) else if digF t (needF t 32 s).1 = true then (((numL t most (needF t 32 s).1 0).1, false), (numL t most (needF t 32 s).1 0).2) else (((needF t 32 s).1, true), 0)
abbrev Ord3 : Type := Nat × Nat × Nat
def readS (t : List Nat) (p : Nat) : PS × Ord3 :=
  if t[p]? = some 101 then ((numF t 2 (numF t 1 (needF t 116 (needF t 101 (p, false)))).1).1, (101, (numF t 1 (needF t 116 (needF t 101 (p, false)))).2, (numF t 2 (numF t 1 (needF t 116 (needF t 101 (p, false)))).1).2))
  else ((numF t 2 (needF t 101 (needF t 100 (needF t 105 (p, false))))).1, (115, (numF t 2 (needF t 101 (needF t 100 (needF t 105 (p, false))))).2, 0))
def readO (t : List Nat) (p : Nat) : PS × Ord3 :=
  if t[p]? = some 99 then ((numF t 5 (needF t 114 (needF t 101 (needF t 112 (needF t 111 (needF t 111 (p + 1, false))))))).1, (99, (numF t 5 (needF t 114 (needF t 101 (needF t 112 (needF t 111 (needF t 111 (p + 1, false))))))).2, 0))
  else if t[p]? = some 112 then ((numF t 1 (numF t 1 (needF t 110 (needF t 97 (needF t 108 (p + 1, false))))).1).1, (112, (numF t 1 (needF t 110 (needF t 97 (needF t 108 (p + 1, false))))).2, (numF t 1 (numF t 1 (needF t 110 (needF t 97 (needF t 108 (p + 1, false))))).1).2))
  else if t[p]? = some 115 then readS t (p + 1)
  else if t[p]? = some 116 then (needF t 101 (needF t 107 (needF t 97 (p + 1, false))), (116, 0, 0))
  else ((p, true), (0, 0, 0))
theorem hr_some {t : List Nat} {p c : Nat} (h : t[p]? = some c) : hrI t p = nI c := by unfold hrI; rw [h]
theorem hr_eq {t : List Nat} (ht : ∀ c ∈ t, c < 65536) {p c : Nat} (hc : c < 65536) : hrI t p = nI c ↔ t[p]? = some c := by
  cases h : t[p]? with
  | none =>
    unfold hrI; rw [h]
    refine ⟨fun e => ?_, fun e => by cases e⟩
    have := congrArg Int32.toInt (show (-1 : Int32) = nI c from e)
    rw [nI_toInt (by omega)] at this
    have h2 : (-1 : Int32).toInt = -1 := by decide
    omega
  | some d =>
    have hd := ht d (List.mem_of_getElem? h)
    rw [hr_some h]
    refine ⟨fun e => ?_, fun e => by cases e; rfl⟩
    have := (nI_eq (a := d) (b := c) (by omega) (by omega)).mp e
    rw [this]
theorem hr_dig {t : List Nat} (ht : ∀ c ∈ t, c < 65536) {p : Nat} : (nI 48 ≤ hrI t p ∧ hrI t p ≤ nI 57) ↔ digF t p = true := by
  unfold digF hrI
  cases h : t[p]? with
  | none =>
    refine ⟨fun e => ?_, fun e => by cases e⟩
    have h1 := leI.mp e.1
    rw [nI_toInt (by decide)] at h1
    have h2 : (-1 : Int32).toInt = -1 := by decide
    dsimp only at h1
    omega
  | some d =>
    have hd := ht d (List.mem_of_getElem? h)
    dsimp only
    rw [leI, leI, nI_toInt (by decide), nI_toInt (by omega), nI_toInt (by decide)]
    simp
    omega
theorem dig_get {t : List Nat} {p : Nat} (h : digF t p = true) : ∃ c, t[p]? = some c ∧ 48 ≤ c ∧ c ≤ 57 ∧ t.getD p 0 = c ∧ p < t.length := by
  unfold digF at h
  cases h2 : t[p]? with
  | none => rw [h2] at h; cases h
  | some c =>
    rw [h2] at h
    simp at h
    exact ⟨c, rfl, h.1, h.2, by rw [List.getD_eq_getElem?_getD, h2]; rfl, (List.getElem?_eq_some_iff.mp h2).1⟩
theorem need_t {t : List Nat} {c : Nat} {s : PS} (h : s.2 = true) : needF t c s = s := if_pos h
theorem need_y {t : List Nat} {c : Nat} {s : PS} (h : ¬ s.2 = true) (h2 : t[s.1]? = some c) : needF t c s = (s.1 + 1, false) := by unfold needF; rw [if_neg h, if_pos h2]
theorem need_n {t : List Nat} {c : Nat} {s : PS} (h : ¬ s.2 = true) (h2 : ¬ t[s.1]? = some c) : needF t c s = (s.1, true) := by unfold needF; rw [if_neg h, if_neg h2]
theorem need_le {t : List Nat} {c : Nat} {s : PS} (h : s.1 ≤ t.length) : s.1 ≤ (needF t c s).1 ∧ (needF t c s).1 ≤ t.length := by
  unfold needF
  split
  · exact ⟨Nat.le_refl _, h⟩
  · split
    · rename_i h2
      have := (List.getElem?_eq_some_iff.mp h2).1
      exact ⟨Nat.le_succ _, this⟩
    · exact ⟨Nat.le_refl _, h⟩
theorem numL_le {t : List Nat} : ∀ (m p v : Nat), p ≤ t.length → p ≤ (numL t m p v).1 ∧ (numL t m p v).1 ≤ t.length
  | 0, p, v, h => ⟨Nat.le_refl _, h⟩
  | m + 1, p, v, h => by
    unfold numL
    split
    · rename_i hd
      obtain ⟨c, h1, -, -, -, h5⟩ := dig_get hd
      have := numL_le m (p + 1) (10 * v + (t.getD p 0 - 48)) h5
      omega
    · exact ⟨Nat.le_refl _, h⟩
theorem numL_v {t : List Nat} : ∀ (m p v : Nat), (numL t m p v).2 + 1 ≤ (v + 1) * 10 ^ m
  | 0, p, v => by simp [numL]
  | m + 1, p, v => by
    unfold numL
    split
    · rename_i hd
      obtain ⟨c, h1, h2, h3, h4, h5⟩ := dig_get hd
      have := numL_v (t := t) m (p + 1) (10 * v + (t.getD p 0 - 48))
      rw [h4] at this
      rw [h4]
      refine Nat.le_trans this ?_
      rw [Nat.pow_succ, show (v + 1) * (10 ^ m * 10) = ((v + 1) * 10) * 10 ^ m by rw [Nat.mul_comm (10 ^ m) 10, Nat.mul_assoc]]
      exact Nat.mul_le_mul_right _ (by omega)
    · have : 1 ≤ 10 ^ (m + 1) := Nat.one_le_pow _ _ (by decide)
      exact Nat.le_mul_of_pos_right _ this
theorem numF_le {t : List Nat} {m : Nat} {s : PS} (h : s.1 ≤ t.length) : s.1 ≤ (numF t m s).1.1 ∧ (numF t m s).1.1 ≤ t.length := by
  have h1 := need_le (c := 32) h
  unfold numF
  split
  · exact h1
  · split
    · have := numL_le m (needF t 32 s).1 0 h1.2
      dsimp only; omega
    · exact h1
/-- the reader's state in the reference -/
def RdIs (σ : Tw) (s : PS) : Prop := σ 99 31 = nI s.1 ∧ σ 99 32 = bI (s.2 = true)
def rdN : List Nat := [31, 32]
/-- an order in the reference's row of words -/
def WdIs (r : Nat → Int32) (k : Nat) (o : Ord3) : Prop := r k = nI o.1 ∧ (o.1 ≠ 116 → r (k + 1) = nI o.2.1) ∧ (o.1 = 101 ∨ o.1 = 112 → r (k + 2) = nI o.2.2)
theorem InIs.same {σ τ : Tw} {t : List Nat} (h : InIs σ t) (h6 : τ 6 = σ 6) (h7 : τ 99 7 = σ 99 7) : InIs τ t := ⟨by rw [h6]; exact h.1, by rw [h7]; exact h.2.1, h.2.2⟩
theorem num_fin {t : List Nat} {m : Nat} {q : PS} : (numF t m q).1.2 = true ↔ (¬ (needF t 32 q).2 = false ∨ ¬ digF t (needF t 32 q).1 = true) := by
  unfold numF
  split
  · rename_i h; simp [h]
  · rename_i h
    split
    · rename_i h2; simp [h2]; simpa using h
    · rename_i h2; simp; right; simpa using h2
theorem num_w {σ τ : Tw} {t : List Nat} {m k p v : Nat} {q : PS} (hk0 : k = 0 → p = (needF t 32 q).1 ∧ v = 0) (hnl : numL t (m - k) p v = numL t m (needF t 32 q).1 0) (hw : ¬ (needF t 32 q).2 = false ∨ ¬ digF t (needF t 32 q).1 = true) (hC : Ch [] rdN σ τ) (h31 : τ 99 31 = nI p) (h32 : τ 99 32 = bI (¬ (needF t 32 q).2 = false ∨ ¬ digF t (needF t 32 q).1 = true)) (hk : k = 0) : nI v = nI (numF t m q).2 ∧ Ch [] rdN σ τ ∧ RdIs τ (numF t m q).1 := by
  obtain ⟨rfl, rfl⟩ := hk0 hk
  refine ⟨?_, hC, ?_, ?_⟩
  · unfold numF
    split
    · rfl
    · split
      · rename_i h1 h2
        rcases hw with h | h
        · exact absurd (by simpa using h) h1
        · exact absurd h2 h
      · rfl
  · rw [h31]
    unfold numF
    split
    · rfl
    · split
      · rename_i h1 h2
        rcases hw with h | h
        · exact absurd (by simpa using h) h1
        · exact absurd h2 h
      · rfl
  · rw [h32, bI_c num_fin]
theorem num_ok {σ τ : Tw} {t : List Nat} {m p v : Nat} {q : PS} (hn : (p, v) = numL t m (needF t 32 q).1 0) (hw : ¬ (¬ (needF t 32 q).2 = false ∨ ¬ digF t (needF t 32 q).1 = true)) (hC : Ch [] rdN σ τ) (h31 : τ 99 31 = nI p) (h32 : τ 99 32 = bI (¬ (needF t 32 q).2 = false ∨ ¬ digF t (needF t 32 q).1 = true)) : nI v = nI (numF t m q).2 ∧ Ch [] rdN σ τ ∧ RdIs τ (numF t m q).1 := by
  have e : numF t m q = ((p, false), v) := by
    unfold numF
    rw [if_neg (fun z => hw (Or.inl (by rw [z]; simp))), if_pos (Classical.byContradiction fun z => hw (Or.inr z)), ← hn]
  refine ⟨by rw [e], hC, by rw [e]; exact h31, ?_⟩
  rw [h32, ← bI_c num_fin]
theorem num_d {t : List Nat} {m k p v : Nat} {q : PS} (hd : ¬ digF t p = true) (hk : k < m) (hnl : numL t (m - k) p v = numL t m (needF t 32 q).1 0) : (p, v) = numL t m (needF t 32 q).1 0 := by
  rw [← hnl, show m - k = (m - k - 1) + 1 by omega]
  show _ = if _ then _ else _
  rw [if_neg hd]
theorem num_m {t : List Nat} {m k p v : Nat} {q : PS} (hk : m ≤ k) (hnl : numL t (m - k) p v = numL t m (needF t 32 q).1 0) : (p, v) = numL t m (needF t 32 q).1 0 := by
  rw [← hnl, show m - k = 0 by omega]; rfl
theorem ftb (b : Prop) [Decidable b] : fits .boolean (.int (bI b)) = true := by
  by_cases h : b
  · rw [bI_t h]; rfl
  · rw [bI_f h]; rfl

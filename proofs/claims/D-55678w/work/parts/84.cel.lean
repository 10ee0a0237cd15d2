/-! a cellar of the component against a block of the reference -/
def PlRel (dd : Nat → ClassId) (tl : va_W) (b : Blk) (i : Nat) (o : Option Nat) : Prop := ∃ (p : Nat) (T : Tr), o = some p ∧ PlanIs dd tl p T (b (16 + 24 * i + 2)) ∧ TrOk T ∧ b (16 + 24 * i + 0) = nI (fsT T) ∧ b (16 + 24 * i + 1) = nI (lsT T) ∧ ∀ (k : Nat) (e : T3), (plT T)[k]? = some e → b (16 + 24 * i + (3 + 3 * k + 0)) = nI e.1 ∧ b (16 + 24 * i + (3 + 3 * k + 1)) = nI e.2.1 ∧ b (16 + 24 * i + (3 + 3 * k + 2)) = nI e.2.2
theorem PlRel.mv {dd : Nat → ClassId} {tl tl' : va_W} {b b' : Blk} {i j : Nat} {o : Option Nat} (h : PlRel dd tl b i o) (hm : ∀ q ∈ tl, q ∈ tl') (he : ∀ d, d < 24 → b' (16 + 24 * j + d) = b (16 + 24 * i + d)) : PlRel dd tl' b' j o := by
  obtain ⟨p, T, h1, h2, h3, h4, h5, h6⟩ := h
  refine ⟨p, T, h1, by rw [he 2 (by omega)]; exact h2.mono hm, h3, by rw [he 0 (by omega)]; exact h4, by rw [he 1 (by omega)]; exact h5, fun k e hk => ?_⟩
  have hl := (List.getElem?_eq_some_iff.mp hk).1
  have h7 := h3.len
  rw [he _ (by omega), he _ (by omega), he _ (by omega)]
  exact h6 k e hk
def CelOk (dd : Nat → ClassId) (tl : va_W) (b : Blk) (n C np : Nat) (f cf : Nat → Int32) (pf : Nat → Option Nat) : Prop :=
  (b 0 = nI n ∧ b 10 = nI C ∧ b 15 = nI np) ∧ (n ≤ 9 ∧ C ≤ 4 ∧ np ≤ 4) ∧ (∀ i, i < 9 → f i = b (1 + i)) ∧ (∀ k, k < 4 → cf k = b (11 + k)) ∧ (∀ i, i < np → PlRel dd tl b i (pf i)) ∧ ∀ i, i < 4 → np ≤ i → pf i = none
section CEL
variable {dd : Nat → ClassId} {tl : va_W} {b : Blk} {n C np : Nat} {f cf : Nat → Int32} {pf : Nat → Option Nat}
theorem CelOk.mono {tl' : va_W} (hm : ∀ q ∈ tl, q ∈ tl') (h : CelOk dd tl b n C np f cf pf) : CelOk dd tl' b n C np f cf pf :=
  ⟨h.1, h.2.1, h.2.2.1, h.2.2.2.1, fun i hi => (h.2.2.2.2.1 i hi).mv hm (fun _ _ => rfl), h.2.2.2.2.2⟩
theorem CelOk.beq {b' : Blk} (he : BEq b b') (h : CelOk dd tl b n C np f cf pf) : CelOk dd tl b' n C np f cf pf := by
  obtain ⟨⟨h0, h10, h15⟩, hb, hf, hc, hp, hn⟩ := h
  refine ⟨⟨by rw [← he 0 (by omega)]; exact h0, by rw [← he 10 (by omega)]; exact h10, by rw [← he 15 (by omega)]; exact h15⟩, hb, fun i hi => by rw [← he (1 + i) (by omega)]; exact hf i hi, fun k hk => by rw [← he (11 + k) (by omega)]; exact hc k hk, fun i hi => (hp i hi).mv (fun _ z => z) (fun d hd => (he _ (by omega)).symm), hn⟩
theorem CelOk.cpy {f2 cf2 : Nat → Int32} {pf2 : Nat → Option Nat} (h : CelOk dd tl b n C np f cf pf) (h1 : ∀ i, i < 9 → f2 i = f i) (h2 : ∀ i, i < 4 → cf2 i = cf i) (h3 : ∀ i, i < 4 → pf2 i = pf i) : CelOk dd tl b n C np f2 cf2 pf2 := by
  obtain ⟨h0, hb, hf, hc, hp, hn⟩ := h
  exact ⟨h0, hb, fun i hi => (h1 i hi).trans (hf i hi), fun k hk => (h2 k hk).trans (hc k hk), fun i hi => by rw [h3 i (by omega)]; exact hp i hi, fun i hi hni => (h3 i hi).trans (hn i hi hni)⟩
/-- what the block's soundness says of the numbers -/
theorem CelOk.nums (h : CelOk dd tl b n C np f cf pf) : nS b = n ∧ nC b = C ∧ nP b = np := by
  obtain ⟨⟨h0, h10, h15⟩, hb, -⟩ := h
  exact ⟨by unfold nS; rw [h0]; exact nI_clamp (by omega), by unfold nC; rw [h10]; exact nI_clamp (by omega), by unfold nP; rw [h15]; exact nI_clamp (by omega)⟩
theorem CelOk.sd (h : CelOk dd tl b n C np f cf pf) (hw : WFB b) : ∀ i, i < 9 → f i = nI (sdN b i) := fun i hi => (h.2.2.1 i hi).trans (hw.2.2.1 i hi)
theorem CelOk.st (h : CelOk dd tl b n C np f cf pf) (hw : WFB b) : ∀ k, k < 4 → cf k = nI (stN b k) ∧ stN b k ≤ 99999 := fun k hk => ⟨(h.2.2.2.1 k hk).trans (hw.2.2.2.2.2.1.2.2 k hk).1, (hw.2.2.2.2.2.1.2.2 k hk).2⟩
theorem CelOk.side (h : CelOk dd tl b n C np f cf pf) (hn9 : ¬ n = 9) (v : Int32) : CelOk dd tl (upd (upd b (1 + n) v) 0 (nI (n + 1))) (n + 1) C np (upd f n v) cf pf := by
  obtain ⟨⟨h0, h10, h15⟩, hb, hf, hc, hp, hn⟩ := h
  have far : ∀ j, 10 ≤ j → upd (upd b (1 + n) v) 0 (nI (n + 1)) j = b j := fun j hj => by rw [upd_n (by omega), upd_n (by omega)]
  refine ⟨⟨upd_s _ _ _, (far 10 (by omega)).trans h10, (far 15 (by omega)).trans h15⟩, by omega, fun i hi => ?_, fun k hk => (hc k hk).trans (far _ (by omega)).symm, fun i hi => (hp i hi).mv (fun _ z => z) (fun d hd => far _ (by omega)), hn⟩
  rw [upd_n (show 1 + i ≠ 0 by omega)]
  by_cases e : i = n
  · subst e; rw [upd_s, upd_s]
  · rw [upd_n e, upd_n (by omega)]; exact hf i hi
theorem CelOk.set (h : CelOk dd tl b n C np f cf pf) {p : Nat} (hp9 : p < 9) (v : Int32) : CelOk dd tl (upd b (1 + p) v) n C np (upd f p v) cf pf := by
  obtain ⟨⟨h0, h10, h15⟩, hb, hf, hc, hp, hn⟩ := h
  have far : ∀ j, (10 ≤ j ∨ j = 0) → upd b (1 + p) v j = b j := fun j hj => upd_n (by omega)
  refine ⟨⟨(far 0 (by omega)).trans h0, (far 10 (by omega)).trans h10, (far 15 (by omega)).trans h15⟩, hb, fun i hi => ?_, fun k hk => (hc k hk).trans (far _ (by omega)).symm, fun i hi => (hp i hi).mv (fun _ z => z) (fun d hd => far _ (by omega)), hn⟩
  by_cases e : i = p
  · subst e; rw [upd_s, upd_s]
  · rw [upd_n e, upd_n (by omega)]; exact hf i hi
theorem CelOk.take (h : CelOk dd tl b n C np f cf pf) (hn0 : ¬ n = 0) : CelOk dd tl (upd (upd b 0 (nI (n - 1))) n 0) (n - 1) C np (upd f (n - 1) (nI 0)) cf pf := by
  obtain ⟨⟨h0, h10, h15⟩, hb, hf, hc, hp, hn⟩ := h
  have far : ∀ j, 10 ≤ j → upd (upd b 0 (nI (n - 1))) n 0 j = b j := fun j hj => by rw [upd_n (by omega), upd_n (by omega)]
  refine ⟨⟨by rw [upd_n (by omega)]; exact upd_s _ _ _, (far 10 (by omega)).trans h10, (far 15 (by omega)).trans h15⟩, by omega, fun i hi => ?_, fun k hk => (hc k hk).trans (far _ (by omega)).symm, fun i hi => (hp i hi).mv (fun _ z => z) (fun d hd => far _ (by omega)), hn⟩
  by_cases e : i = n - 1
  · subst e; rw [upd_s, show 1 + (n - 1) = n by omega, upd_s]; rfl
  · rw [upd_n e, upd_n (by omega), upd_n (by omega)]; exact hf i hi
theorem CelOk.coop (h : CelOk dd tl b n C np f cf pf) (hC4 : ¬ C = 4) (v : Int32) : CelOk dd tl (upd (upd b (11 + C) v) 10 (nI (C + 1))) n (C + 1) np f (upd cf C v) pf := by
  obtain ⟨⟨h0, h10, h15⟩, hb, hf, hc, hp, hn⟩ := h
  have far : ∀ j, (j < 10 ∨ 15 ≤ j) → upd (upd b (11 + C) v) 10 (nI (C + 1)) j = b j := fun j hj => by rw [upd_n (by omega), upd_n (by omega)]
  refine ⟨⟨(far 0 (by omega)).trans h0, upd_s _ _ _, (far 15 (by omega)).trans h15⟩, by omega, fun i hi => (hf i hi).trans (far _ (by omega)).symm, fun k hk => ?_, fun i hi => (hp i hi).mv (fun _ z => z) (fun d hd => far _ (by omega)), hn⟩
  rw [upd_n (show 11 + k ≠ 10 by omega)]
  by_cases e : k = C
  · subst e; rw [upd_s, upd_s]
  · rw [upd_n e, upd_n (by omega)]; exact hc k hk
theorem CelOk.leave (h : CelOk dd tl b n C np f cf pf) {i : Nat} (hi : i < C) : CelOk dd tl (upd (shiftC (upd b 10 (nI (C - 1))) i (C - 1)) (11 + (C - 1)) 0) n (C - 1) np f (upd (shf cf i (C - 1)) (C - 1) (nI 0)) pf := by
  obtain ⟨⟨h0, h10, h15⟩, hb, hf, hc, hp, hn⟩ := h
  have far : ∀ j, (j < 10 ∨ 15 ≤ j) → upd (shiftC (upd b 10 (nI (C - 1))) i (C - 1)) (11 + (C - 1)) 0 j = b j := fun j hj => by
    rw [upd_n (by omega)]; unfold shiftC; rw [if_neg (by omega), upd_n (by omega)]
  refine ⟨⟨(far 0 (by omega)).trans h0, ?_, (far 15 (by omega)).trans h15⟩, by omega, fun j hj => (hf j hj).trans (far _ (by omega)).symm, fun k hk => ?_, fun j hj => (hp j hj).mv (fun _ z => z) (fun d hd => far _ (by omega)), hn⟩
  · rw [upd_n (by omega)]; unfold shiftC; rw [if_neg (by omega)]; exact upd_s _ _ _
  · by_cases e : k = C - 1
    · subst e; rw [upd_s, upd_s]; rfl
    · rw [upd_n e, upd_n (by omega)]
      unfold shf shiftC
      by_cases e2 : i ≤ k ∧ k < C - 1
      · rw [if_pos e2, if_pos (by omega), upd_n (by omega)]; exact hc (k + 1) (by omega)
      · rw [if_neg e2, if_neg (by omega), upd_n (by omega)]; exact hc k hk
theorem CelOk.drop (h : CelOk dd tl b n C np f cf pf) {i : Nat} (hi : i < np) : CelOk dd tl (dropB b i (np - 1)) n C (np - 1) f cf (va_up (shf pf i (np - 1)) (np - 1) none) := by
  obtain ⟨⟨h0, h10, h15⟩, hb, hf, hc, hp, hn⟩ := h
  have lo : ∀ j, j < 15 → dropB b i (np - 1) j = b j := fun j hj => by unfold dropB; rw [if_neg (by omega), if_neg (by omega), if_neg (by omega)]
  refine ⟨⟨(lo 0 (by omega)).trans h0, (lo 10 (by omega)).trans h10, by unfold dropB; rw [if_pos rfl]⟩, by omega, fun j hj => (hf j hj).trans (lo _ (by omega)).symm, fun k hk => (hc k hk).trans (lo _ (by omega)).symm, fun j hj => ?_, fun j hj hnj => ?_⟩
  · unfold va_up shf
    rw [if_neg (by omega)]
    by_cases e : i ≤ j ∧ j < np - 1
    · rw [if_pos e]
      exact (hp (j + 1) (by omega)).mv (fun _ z => z) (fun d hd => by unfold dropB; rw [if_neg (by omega), if_pos (by omega)]; congr 1; omega)
    · rw [if_neg e]
      exact (hp j (by omega)).mv (fun _ z => z) (fun d hd => by unfold dropB; rw [if_neg (by omega), if_neg (by omega), if_neg (by omega)])
  · unfold va_up shf
    by_cases e : j = np - 1
    · rw [if_pos e]
    · rw [if_neg e, if_neg (by omega)]; exact hn j hj (by omega)
end CEL

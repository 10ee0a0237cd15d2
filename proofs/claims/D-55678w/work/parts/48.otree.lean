/-! the tree of the best splits: what it tells -/
def plT : Tr → List T3
  | .append a b => plT a ++ (plT b ++ [(fsT a, lsT b, lsT a)])
  | _ => []
theorem oT_fs (sd : Nat → Nat) : ∀ (n f l : Nat), f ≤ l → l - f ≤ n → fsT (oT sd n f l) = f ∧ lsT (oT sd n f l) = l ∧ dep (oT sd n f l) ≤ n ∧ (∀ v ∈ lvs (oT sd n f l), f ≤ v ∧ v ≤ l) ∧ plT (oT sd n f l) = pl (spD sd) f l
  | 0, f, l, h, hn => by
    have e : f = l := by omega
    subst e
    refine ⟨rfl, rfl, Nat.le_refl _, fun v hv => ?_, by rw [pl_nil (Nat.le_refl _)]; rfl⟩
    have : v = f := by simpa [oT, lf, lvs] using hv
    omega
  | n + 1, f, l, h, hn => by
    by_cases e : f = l
    · subst e
      have e2 : oT sd (n + 1) f f = lf f := if_pos rfl
      rw [e2]
      refine ⟨rfl, rfl, Nat.zero_le _, fun v hv => ?_, by rw [pl_nil (Nat.le_refl _)]; rfl⟩
      have : v = f := by simpa [lf, lvs] using hv
      omega
    · have hs := Dv_split sd (show f < l by omega)
      have e2 : oT sd (n + 1) f l = nd (oT sd n f (Dv sd f l).2.2.1) (oT sd n ((Dv sd f l).2.2.1 + 1) l) := if_neg e
      obtain ⟨a1, a2, a3, a4, a5⟩ := oT_fs sd n f (Dv sd f l).2.2.1 (by omega) (by omega)
      obtain ⟨b1, b2, b3, b4, b5⟩ := oT_fs sd n ((Dv sd f l).2.2.1 + 1) l (by omega) (by omega)
      rw [e2]
      refine ⟨a1, b2, by show max _ _ + 1 ≤ n + 1; omega, fun v hv => ?_, ?_⟩
      · rcases List.mem_append.mp (show v ∈ lvs _ ++ lvs _ from hv) with h1 | h1
        · have := a4 v h1; omega
        · have := b4 v h1; omega
      · show plT _ ++ (plT _ ++ [(fsT _, lsT _, lsT _)]) = _
        rw [a5, b5, a1, b2, a2, pl_eq (spD_ok sd) (show f < l by omega)]
        rfl

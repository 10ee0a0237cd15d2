/-! what Plan.puts writes -/
/-- where the last pouring of a part stands, if there is one -/
def rtT (m : Nat) (T : Tr) : Int32 := if (plT T).length = 0 then -1 else nI (m + (plT T).length - 1)
def kdT : Nat → Tr → List (Int32 × Int32)
  | m, .append a b => kdT m a ++ (kdT (m + (plT a).length) b ++ [(rtT m a, rtT (m + (plT a).length) b)])
  | _, _ => []
theorem kdT_len : ∀ (T : Tr) (m : Nat), (kdT m T).length = (plT T).length
  | .append a b, m => by
    show (kdT m a ++ (kdT _ b ++ [_])).length = (plT a ++ (plT b ++ [_])).length
    rw [List.length_append, List.length_append, List.length_append, List.length_append, kdT_len a, kdT_len b]
    rfl
  | .tag _ _, _ => rfl
  | .nil, _ => rfl
  | .line, _ => rfl
  | .align _, _ => rfl
  | .text _, _ => rfl
  | .nest _ _, _ => rfl
  | .group _ _, _ => rfl
theorem row_ls : ∀ T : Tr, rowB T = true → lsT T = fsT T + (plT T).length
  | .append a b, h => by
    have h : (rowB a && rowB b && decide (lsT a + 1 = fsT b)) = true := h
    simp only [Bool.and_eq_true, decide_eq_true_eq] at h
    have h1 := row_ls a h.1.1
    have h2 := row_ls b h.1.2
    show lsT b = fsT a + (plT a ++ (plT b ++ [_])).length
    rw [List.length_append, List.length_append]
    show lsT b = fsT a + ((plT a).length + ((plT b).length + 1))
    omega
  | .tag _ _, _ => rfl
  | .nil, _ => rfl
  | .line, _ => rfl
  | .align _, _ => rfl
  | .text _, _ => rfl
  | .nest _ _, _ => rfl
  | .group _ _, _ => rfl
def PuI (σ σ' : Tw) (m : Nat) (L : List T3) (K : List (Int32 × Int32)) : Prop :=
  Ch [2, 3, 4, 5, 6] [7] σ σ' ∧ σ' 99 7 = nI (m + L.length) ∧ (∀ (k : Nat) (e : T3), L[k]? = some e → σ' 2 (m + k) = nI e.1 ∧ σ' 3 (m + k) = nI e.2.1 ∧ σ' 4 (m + k) = nI e.2.2) ∧ (∀ (k : Nat) (z : Int32 × Int32), K[k]? = some z → σ' 5 (m + k) = z.1 ∧ σ' 6 (m + k) = z.2) ∧ ∀ r ∈ [2, 3, 4, 5, 6], ∀ k : Nat, k < m → σ' r k = σ r k
theorem PuI.rf {σ : Tw} {m : Nat} (h : σ 99 7 = nI m) : PuI σ σ m [] [] := ⟨Ch.rf _ _ _, h, fun k e z => (by cases z), fun k e z => (by cases z), fun _ _ _ _ => rfl⟩
theorem PuI.tr {σ τ ρ : Tw} {m : Nat} {L M : List T3} {K J : List (Int32 × Int32)} (h : PuI σ τ m L K) (hk : K.length = L.length) (g : PuI τ ρ (m + L.length) M J) : PuI σ ρ m (L ++ M) (K ++ J) := by
  obtain ⟨h1, h2, h3, h4, h5⟩ := h
  obtain ⟨g1, g2, g3, g4, g5⟩ := g
  refine ⟨h1.tr g1, by rw [g2, List.length_append, Nat.add_assoc], fun k e z => ?_, fun k e z => ?_, fun r hr k hk2 => (g5 r hr k (by omega)).trans (h5 r hr k hk2)⟩
  · by_cases hl : k < L.length
    · rw [List.getElem?_append_left hl] at z
      rw [g5 2 (by decide) _ (by omega), g5 3 (by decide) _ (by omega), g5 4 (by decide) _ (by omega)]
      exact h3 k e z
    · rw [List.getElem?_append_right (by omega)] at z
      have := g3 _ e z
      rw [show m + L.length + (k - L.length) = m + k by omega] at this
      exact this
  · by_cases hl : k < K.length
    · rw [List.getElem?_append_left hl] at z
      rw [g5 5 (by decide) _ (by omega), g5 6 (by decide) _ (by omega)]
      exact h4 k e z
    · rw [List.getElem?_append_right (by omega)] at z
      have := g4 _ e z
      rw [show m + L.length + (k - K.length) = m + k by omega] at this
      exact this

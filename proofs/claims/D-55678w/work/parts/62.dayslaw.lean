/-! the pourings by which both parts came, by their places: what the days' reckoning asks -/
def KdOk (L : List T3) (a c : Nat) : Option Nat → Prop
  | none => a = c
  | some j => a ≠ c ∧ ∃ e, L[j]? = some e ∧ e.1 = a ∧ e.2.1 = c
theorem plT_last : ∀ T : Tr, 0 < (plT T).length → ∃ x, (plT T)[(plT T).length - 1]? = some (fsT T, lsT T, x)
  | .append a b, _ => by
    refine ⟨lsT a, ?_⟩
    rw [plT_pos]
    show (plT a ++ (plT b ++ [(fsT a, lsT b, lsT a)]))[_]? = some (fsT a, lsT b, lsT a)
    rw [List.getElem?_append_right (by omega), List.getElem?_append_right (by omega), show (plT a).length + (plT b).length + 1 - 1 - (plT a).length - (plT b).length = 0 by omega]
    rfl
  | .tag _ _, h => by cases h
  | .nil, h => by cases h
  | .line, h => by cases h
  | .align _, h => by cases h
  | .text _, h => by cases h
  | .nest _ _, h => by cases h
  | .group _ _, h => by cases h
theorem kd_ok {L : List T3} : ∀ (S : Tr) (m : Nat), rowB S = true → (∀ (i : Nat) (e : T3), (plT S)[i]? = some e → L[m + i]? = some e) → ∀ (k : Nat) (e : T3), (plT S)[k]? = some e → ∃ o1 o2 : Option Nat, (kdT m S)[k]? = some (oI o1, oI o2) ∧ KdOk L e.1 e.2.2 o1 ∧ KdOk L (e.2.2 + 1) e.2.1 o2
  | .append a b, m, h, hL, k, e, hk => by
    have hb : (rowB a && rowB b && decide (lsT a + 1 = fsT b)) = true := h
    simp only [Bool.and_eq_true, decide_eq_true_eq] at hb
    have ra := row_ls a hb.1.1
    have rb := row_ls b hb.1.2
    have hk' : (plT a ++ (plT b ++ [(fsT a, lsT b, lsT a)]))[k]? = some e := hk
    have hLa : ∀ i e, (plT a)[i]? = some e → L[m + i]? = some e := fun i e hi => hL i e (by
      show (plT a ++ _)[i]? = _
      rw [List.getElem?_append_left (List.getElem?_eq_some_iff.mp hi).1]; exact hi)
    have hLb : ∀ i e, (plT b)[i]? = some e → L[m + (plT a).length + i]? = some e := fun i e hi => by
      have := hL ((plT a).length + i) e (by
        show (plT a ++ (plT b ++ [_]))[_]? = _
        rw [List.getElem?_append_right (by omega), Nat.add_sub_cancel_left, List.getElem?_append_left (List.getElem?_eq_some_iff.mp hi).1]; exact hi)
      rw [Nat.add_assoc]; exact this
    show ∃ o1 o2, (kdT m a ++ (kdT (m + (plT a).length) b ++ [(rtT m a, rtT (m + (plT a).length) b)]))[k]? = _ ∧ _
    by_cases c1 : k < (plT a).length
    · rw [List.getElem?_append_left c1] at hk'
      obtain ⟨o1, o2, h1, h2⟩ := kd_ok a m hb.1.1 hLa k e hk'
      exact ⟨o1, o2, by rw [List.getElem?_append_left (by rw [kdT_len]; exact c1)]; exact h1, h2⟩
    · rw [List.getElem?_append_right (by omega)] at hk'
      by_cases c2 : k - (plT a).length < (plT b).length
      · rw [List.getElem?_append_left c2] at hk'
        obtain ⟨o1, o2, h1, h2⟩ := kd_ok b (m + (plT a).length) hb.1.2 hLb _ e hk'
        exact ⟨o1, o2, by rw [List.getElem?_append_right (by rw [kdT_len]; omega), kdT_len, List.getElem?_append_left (by rw [kdT_len]; exact c2)]; exact h1, h2⟩
      · rw [List.getElem?_append_right (by omega)] at hk'
        have hz : k - (plT a).length - (plT b).length < 1 := (List.getElem?_eq_some_iff.mp hk').1
        have ez : k - (plT a).length - (plT b).length = 0 := by omega
        rw [ez] at hk'
        cases hk'
        refine ⟨if (plT a).length = 0 then none else some (m + (plT a).length - 1), if (plT b).length = 0 then none else some (m + (plT a).length + (plT b).length - 1), ?_, ?_, ?_⟩
        · rw [List.getElem?_append_right (by rw [kdT_len]; omega), kdT_len, List.getElem?_append_right (by rw [kdT_len]; omega), kdT_len, ez]
          unfold rtT
          by_cases q1 : (plT a).length = 0 <;> by_cases q2 : (plT b).length = 0 <;> simp [q1, q2, oI]
        · by_cases q : (plT a).length = 0
          · rw [if_pos q]; show fsT a = lsT a; omega
          · rw [if_neg q]
            obtain ⟨x, hx⟩ := plT_last a (by omega)
            exact ⟨by show fsT a ≠ lsT a; omega, (fsT a, lsT a, x), by rw [show m + (plT a).length - 1 = m + ((plT a).length - 1) by omega]; exact hLa _ _ hx, rfl, rfl⟩
        · by_cases q : (plT b).length = 0
          · rw [if_pos q]; show lsT a + 1 = lsT b; omega
          · rw [if_neg q]
            obtain ⟨x, hx⟩ := plT_last b (by omega)
            exact ⟨by show lsT a + 1 ≠ lsT b; omega, (fsT b, lsT b, x), by rw [show m + (plT a).length + (plT b).length - 1 = m + (plT a).length + ((plT b).length - 1) by omega]; exact hLb _ _ hx, by show fsT b = lsT a + 1; omega, rfl⟩
  | .tag _ _, _, _, _, k, e, hk => by cases hk
  | .nil, _, _, _, k, e, hk => by cases hk
  | .line, _, _, _, k, e, hk => by cases hk
  | .align _, _, _, _, k, e, hk => by cases hk
  | .text _, _, _, _, k, e, hk => by cases hk
  | .nest _ _, _, _, _, k, e, hk => by cases hk
  | .group _ _, _, _, _, k, e, hk => by cases hk
abbrev PwL (L : List T3) : Prop := L.Pairwise (fun x y => ¬ (x.1 ≤ y.1 ∧ y.2.1 ≤ x.2.1))
theorem idx_of {L : List T3} (hp : PwL L) {j : Nat} {e : T3} {a c : Nat} (hj : L[j]? = some e) (e1 : e.1 = a) (e2 : e.2.1 = c) : idxL L a c L.length = some j := by
  have hl := (List.getElem?_eq_some_iff.mp hj).1
  have hg := getD_of hj
  obtain ⟨i, hi⟩ := idxL_ex (L := L) (a := a) (c := c) hl (by rw [hg]; exact e1) (by rw [hg]; exact e2)
  obtain ⟨h1, h2, h3⟩ := idxL_lt hi
  have hi2 : L[i]? = some L[i] := List.getElem?_eq_getElem h1
  rw [getD_of hi2] at h2 h3
  have hj2 : L[j] = e := (List.getElem?_eq_some_iff.mp hj).2
  have hpw := List.pairwise_iff_getElem.mp hp
  rcases Nat.lt_trichotomy i j with h | h | h
  · exact absurd ⟨by rw [h2, hj2, e1]; exact Nat.le_refl _, by rw [h3, hj2, e2]; exact Nat.le_refl _⟩ (hpw i j h1 hl h)
  · rw [hi, h]
  · exact absurd ⟨by rw [h2, hj2, e1]; exact Nat.le_refl _, by rw [h3, hj2, e2]; exact Nat.le_refl _⟩ (hpw j i hl h1 h)
def rdyO (dy : Nat → Nat) (day : Nat) : Option Nat → Bool
  | none => true
  | some j => decide (0 < dy j) && decide (dy j < day)
theorem rdy_eq {L : List T3} (hp : PwL L) {dy : Nat → Nat} {day a c : Nat} {o : Option Nat} (h : KdOk L a c o) : rdyB L dy day a c = rdyO dy day o := by
  unfold rdyB
  cases o with
  | none =>
    have h : a = c := h
    subst h; simp [rdyO]
  | some j =>
    obtain ⟨h1, e, h2, h3, h4⟩ := h
    rw [idx_of hp h2 h3 h4]
    simp [rdyO, h1]
theorem KdOk.lt {L : List T3} {a c j : Nat} (h : KdOk L a c (some j)) : j < L.length := by
  obtain ⟨-, e, h2, -, -⟩ := h
  exact (List.getElem?_eq_some_iff.mp h2).1
/-- what can be poured, as the component asks it -/
theorem can_eq {sd : Nat → Nat} {L : List T3} (hp : PwL L) {dy : Nat → Nat} {day s k : Nat} {e : T3} {o1 o2 : Option Nat} (hk : L[k]? = some e) (h1 : KdOk L e.1 e.2.2 o1) (h2 : KdOk L (e.2.2 + 1) e.2.1 o2) : canB sd L dy day s k = true ↔ dy k = 0 ∧ rdyO dy day o1 = true ∧ rdyO dy day o2 = true ∧ costK sd L k ≤ s := by
  unfold canB
  rw [getD_of hk, rdy_eq hp h1, rdy_eq hp h2]
  simp only [Bool.and_eq_true, decide_eq_true_eq]
  constructor
  · rintro ⟨⟨⟨a, b⟩, c⟩, d⟩; exact ⟨a, c, d, b⟩
  · rintro ⟨a, c, d, b⟩; exact ⟨⟨⟨a, b⟩, c⟩, d⟩
/-- the component's row of days -/
def DyC (f g : Nat → Int32) (s : DS) (m : Nat) : Prop := (∀ k : Nat, k < m → f k = nI (s.1 k)) ∧ ∀ k : Nat, k < m → s.1 k ≠ 0 → g k = nI (s.2.1 k)
theorem DyC.put {f g : Nat → Int32} {s : DS} {m k day c n : Nat} (h : DyC f g s m) : DyC (upd f k (nI day)) (upd g k (nI c)) (updN s.1 k day, updN s.2.1 k c, n) m := by
  refine ⟨fun j hj => ?_, fun j hj hne => ?_⟩
  · show upd f k _ j = nI (if j = k then day else s.1 j)
    by_cases e : j = k
    · subst e; rw [upd_s, if_pos rfl]
    · rw [upd_n e, if_neg e]; exact h.1 j hj
  · show upd g k _ j = nI (if j = k then c else s.2.1 j)
    by_cases e : j = k
    · subst e; rw [upd_s, if_pos rfl]
    · rw [upd_n e, if_neg e]
      refine h.2 j hj (fun z => hne ?_)
      show (if j = k then day else s.1 j) = 0
      rw [if_neg e]; exact z

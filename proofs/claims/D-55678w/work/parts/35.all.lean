/-! what all orders of a run cost, in the component's order -/
def comb (A B : List Nat) (c : Nat) : List Nat := A.flatMap (fun a => B.map (fun b => a + b + c))
def alF (T : Nat → Nat → List Nat) (pr : Nat → Nat) (f l : Nat) : Nat → List Nat
  | 0 => []
  | i + 1 => alF T pr f l i ++ comb (T f (f + i)) (T (f + i + 1) l) (pr (f + i))
def al (sd : Nat → Nat) : Nat → Nat → Nat → List Nat
  | 0, _, _ => [0]
  | n + 1, f, l => if f = l then [0] else alF (al sd n) (fun s => prN sd f s l) f l (l - f)
theorem alF_congr {T T' : Nat → Nat → List Nat} {pr : Nat → Nat} {f l : Nat} : ∀ (i : Nat), (∀ j, j < i → T f (f + j) = T' f (f + j) ∧ T (f + j + 1) l = T' (f + j + 1) l) → alF T pr f l i = alF T' pr f l i
  | 0, _ => rfl
  | i + 1, h => by
    show alF _ _ _ _ i ++ _ = alF _ _ _ _ i ++ _
    rw [(h i (Nat.lt_succ_self i)).1, (h i (Nat.lt_succ_self i)).2, alF_congr i (fun j hj => h j (Nat.lt_succ_of_lt hj))]
theorem al_fuel (sd : Nat → Nat) : ∀ (n m f l : Nat), f ≤ l → l - f ≤ n → l - f ≤ m → al sd n f l = al sd m f l
  | 0, 0, _, _, _, _, _ => rfl
  | 0, m + 1, f, l, h, h1, _ => by
    have e : f = l := by omega
    show [0] = if f = l then _ else _
    rw [if_pos e]
  | n + 1, 0, f, l, h, _, h2 => by
    have e : f = l := by omega
    show (if f = l then _ else _) = [0]
    rw [if_pos e]
  | n + 1, m + 1, f, l, h, h1, h2 => by
    show (if f = l then _ else _) = (if f = l then _ else _)
    by_cases e : f = l
    · rw [if_pos e, if_pos e]
    · rw [if_neg e, if_neg e]
      exact alF_congr _ (fun j hj => ⟨al_fuel sd n m f (f + j) (by omega) (by omega) (by omega), al_fuel sd n m (f + j + 1) l (by omega) (by omega) (by omega)⟩)
def Al (sd : Nat → Nat) (f l : Nat) : List Nat := al sd (l - f) f l
theorem Al_self (sd : Nat → Nat) (f : Nat) : Al sd f f = [0] := by
  show al sd (f - f) f f = _
  rw [Nat.sub_self]; rfl
theorem Al_eq (sd : Nat → Nat) {f l : Nat} (h : f < l) : Al sd f l = alF (Al sd) (fun s => prN sd f s l) f l (l - f) := by
  show al sd (l - f) f l = _
  rw [al_fuel sd (l - f) (l - f + 1) f l (by omega) (Nat.le_refl _) (Nat.le_succ _)]
  show (if f = l then _ else _) = _
  rw [if_neg (by omega)]
  exact alF_congr _ (fun j hj => ⟨al_fuel sd _ _ f (f + j) (by omega) (by omega) (by omega), al_fuel sd _ _ (f + j + 1) l (by omega) (by omega) (by omega)⟩)
theorem comb_len (A B : List Nat) (c : Nat) : (comb A B c).length = A.length * B.length := by
  unfold comb
  induction A with
  | nil => simp
  | cons a A ih => rw [List.flatMap_cons, List.length_append, List.length_map, ih, List.length_cons, Nat.succ_mul, Nat.add_comm]
theorem comb_mem {A B : List Nat} {c x : Nat} : x ∈ comb A B c ↔ ∃ a ∈ A, ∃ b ∈ B, a + b + c = x := by
  unfold comb
  rw [List.mem_flatMap]
  constructor
  · rintro ⟨a, ha, h⟩
    obtain ⟨b, hb, h⟩ := List.mem_map.mp h
    exact ⟨a, ha, b, hb, h⟩
  · rintro ⟨a, ha, b, hb, h⟩
    exact ⟨a, ha, List.mem_map.mpr ⟨b, hb, h⟩⟩
/-- least value of a list, and how often -/
def LeastIs (L : List Nat) (v k : Nat) : Prop := (∀ x ∈ L, v ≤ x) ∧ v ∈ L ∧ L.count v = k
theorem count_none {L : List Nat} {v : Nat} (h : ∀ x ∈ L, v < x) : L.count v = 0 := by
  rw [List.count_eq_zero]
  intro hm
  exact absurd (h v hm) (Nat.lt_irrefl _)
theorem row_count (B : List Nat) (a c v : Nat) : (B.map (fun b => a + b + c)).count (a + v + c) = B.count v := by
  induction B with
  | nil => rfl
  | cons b B ih =>
    rw [List.map_cons, List.count_cons, List.count_cons, ih]
    congr 1
    by_cases e : b = v
    · subst e; simp
    · rw [if_neg (by simp; omega), if_neg (by simp; exact e)]
theorem comb_count {A B : List Nat} {c u v : Nat} (hA : ∀ x ∈ A, u ≤ x) (hB : ∀ x ∈ B, v ≤ x) : (comb A B c).count (u + v + c) = A.count u * B.count v := by
  unfold comb
  induction A with
  | nil => simp
  | cons a A ih =>
    rw [List.flatMap_cons, List.count_append, ih (fun x hx => hA x (List.mem_cons_of_mem _ hx)), List.count_cons]
    by_cases e : a = u
    · subst e
      rw [row_count, if_pos (by simp), Nat.add_mul, Nat.one_mul, Nat.add_comm]
    · have ha := hA a (by simp)
      rw [if_neg (by simpa using e), Nat.add_zero]
      have : (B.map (fun b => a + b + c)).count (u + v + c) = 0 := by
        apply count_none
        intro x hx
        obtain ⟨b, hb, rfl⟩ := List.mem_map.mp hx
        have := hB b hb
        omega
      omega
theorem comb_least {A B : List Nat} {c u v k j : Nat} (hA : LeastIs A u k) (hB : LeastIs B v j) : LeastIs (comb A B c) (u + v + c) (k * j) := by
  refine ⟨fun x hx => ?_, comb_mem.mpr ⟨u, hA.2.1, v, hB.2.1, rfl⟩, by rw [comb_count hA.1 hB.1, hA.2.2, hB.2.2]⟩
  obtain ⟨a, ha, b, hb, rfl⟩ := comb_mem.mp hx
  have := hA.1 a ha
  have := hB.1 b hb
  omega
theorem app_least {L M : List Nat} {u v k j : Nat} (hL : LeastIs L u k) (hM : LeastIs M v j) : LeastIs (L ++ M) (if v < u then v else u) (if v < u then j else if v = u then k + j else k) := by
  obtain ⟨a1, a2, a3⟩ := hL
  obtain ⟨b1, b2, b3⟩ := hM
  by_cases h : v < u
  · rw [if_pos h, if_pos h]
    refine ⟨fun x hx => ?_, List.mem_append_right _ b2, ?_⟩
    · rcases List.mem_append.mp hx with h1 | h1
      · have := a1 x h1; omega
      · exact b1 x h1
    · rw [List.count_append, count_none (fun x hx => Nat.lt_of_lt_of_le h (a1 x hx)), b3, Nat.zero_add]
  · rw [if_neg h, if_neg h]
    refine ⟨fun x hx => ?_, List.mem_append_left _ a2, ?_⟩
    · rcases List.mem_append.mp hx with h1 | h1
      · exact a1 x h1
      · have := b1 x h1; omega
    · rw [List.count_append, a3]
      by_cases e : v = u
      · rw [if_pos e, ← e, b3]
      · rw [if_neg e, count_none (fun x hx => Nat.lt_of_lt_of_le (by omega) (b1 x hx))]
        rfl
/-- the reckoning of a run tells what all its orders say -/
theorem Al_ok (sd : Nat → Nat) : ∀ (n f l : Nat), f ≤ l → l - f ≤ n → (Al sd f l).length = (Dv sd f l).2.2.2.1 ∧ LeastIs (Al sd f l) (Dv sd f l).1 (Dv sd f l).2.2.2.2
  | 0, f, l, h, hn => by
    have e : f = l := by omega
    subst e
    rw [Al_self, Dv_self]
    exact ⟨rfl, fun x hx => Nat.zero_le _, by simp, by simp⟩
  | n + 1, f, l, h, hn => by
    by_cases e : f = l
    · subst e
      rw [Al_self, Dv_self]
      exact ⟨rfl, fun x hx => Nat.zero_le _, by simp, by simp⟩
    · have key : ∀ i, i ≤ l - f → (alF (Al sd) (fun s => prN sd f s l) f l i).length = (dpFold (Dv sd) (fun s => prN sd f s l) f l i).2.2.2.1 ∧ (0 < i → LeastIs (alF (Al sd) (fun s => prN sd f s l) f l i) (dpFold (Dv sd) (fun s => prN sd f s l) f l i).1 (dpFold (Dv sd) (fun s => prN sd f s l) f l i).2.2.2.2) := by
        intro i
        induction i with
        | zero => intro _; exact ⟨by show 0 = (if f = l then 1 else 0); rw [if_neg e], fun z => by omega⟩
        | succ i ih =>
          intro hi
          obtain ⟨ih1, ih2⟩ := ih (by omega)
          obtain ⟨a1, a2⟩ := Al_ok sd n f (f + i) (by omega) (by omega)
          obtain ⟨b1, b2⟩ := Al_ok sd n (f + i + 1) l (by omega) (by omega)
          have hc := comb_least (c := prN sd f (f + i) l) a2 b2
          show (alF _ _ f l i ++ comb _ _ _).length = (dpStep _ _ _ _ _ _).2.2.2.1 ∧ (_ → LeastIs (alF _ _ f l i ++ comb _ _ _) (dpStep _ _ _ _ _ _).1 (dpStep _ _ _ _ _ _).2.2.2.2)
          refine ⟨?_, fun _ => ?_⟩
          · rw [List.length_append, comb_len, ih1, a1, b1]; rfl
          · by_cases h0 : i = 0
            · subst h0
              show LeastIs ([] ++ comb _ _ _) _ _
              rw [List.nil_append]
              unfold dpStep
              dsimp only
              rw [if_pos (Or.inl (Nat.add_zero f)), if_pos (Or.inl (Nat.add_zero f))]
              exact hc
            · have := app_least (ih2 (by omega)) hc
              unfold dpStep
              dsimp only
              have hne : ¬ f + i = f := by omega
              by_cases hlt : (Dv sd f (f + i)).1 + (Dv sd (f + i + 1) l).1 + prN sd f (f + i) l < (dpFold (Dv sd) (fun s => prN sd f s l) f l i).1
              · rw [if_pos hlt, if_pos hlt] at this
                rw [if_pos (Or.inr hlt), if_pos (Or.inr hlt)]
                exact this
              · rw [if_neg hlt, if_neg hlt] at this
                rw [if_neg (fun z => z.elim hne hlt), if_neg (fun z => z.elim hne hlt)]
                exact this
      have hk := key (l - f) (Nat.le_refl _)
      rw [Al_eq sd (by omega), Dv_eq sd h]
      exact ⟨hk.1, hk.2 (by omega)⟩
theorem Al_bd {sd : Nat → Nat} {c : Nat} (hp : ∀ f s l, prN sd f s l ≤ c) : ∀ (n f l : Nat), f ≤ l → l - f ≤ n → ∀ x ∈ Al sd f l, x ≤ c * (l - f)
  | 0, f, l, h, hn => by
    have e : f = l := by omega
    subst e
    rw [Al_self]
    intro x hx
    rw [List.mem_singleton] at hx
    omega
  | n + 1, f, l, h, hn => by
    by_cases e : f = l
    · subst e
      rw [Al_self]
      intro x hx
      rw [List.mem_singleton] at hx
      omega
    · rw [Al_eq sd (by omega)]
      have key : ∀ i, i ≤ l - f → ∀ x ∈ alF (Al sd) (fun s => prN sd f s l) f l i, x ≤ c * (l - f) := by
        intro i
        induction i with
        | zero => intro _ x hx; cases hx
        | succ i ih =>
          intro hi x hx
          rcases List.mem_append.mp hx with h1 | h1
          · exact ih (by omega) x h1
          · obtain ⟨a, ha, b, hb, rfl⟩ := comb_mem.mp h1
            have h2 := Al_bd hp n f (f + i) (by omega) (by omega) a ha
            have h3 := Al_bd hp n (f + i + 1) l (by omega) (by omega) b hb
            have h4 := hp f (f + i) l
            have e2 : c * (l - f) = c * i + c * (l - (f + i + 1)) + c := by
              rw [show l - f = i + (l - (f + i + 1)) + 1 by omega, Nat.mul_add, Nat.mul_add, Nat.mul_one]
            rw [show f + i - f = i by omega] at h2
            show a + b + prN sd f (f + i) l ≤ _
            omega
      exact key _ (Nat.le_refl _)

/-! the component's Costs: what its rows hold -/
/-- a list stands in a row, from o on -/
def SegIs (r : Nat → Int32) (o : Nat) (L : List Nat) : Prop := ∀ j x : Nat, L[j]? = some x → r (o + j) = nI x
theorem SegIs.nil (r : Nat → Int32) (o : Nat) : SegIs r o [] := fun j x h => by cases h
theorem SegIs.keep {r r' : Nat → Int32} {o : Nat} {L : List Nat} (h : SegIs r o L) (hk : ∀ i, o ≤ i → i < o + L.length → r' i = r i) : SegIs r' o L := by
  intro j x hj
  have hl := (List.getElem?_eq_some_iff.mp hj).1
  rw [hk (o + j) (by omega) (by omega)]
  exact h j x hj
theorem SegIs.push {r : Nat → Int32} {o : Nat} {L : List Nat} (h : SegIs r o L) (x : Nat) : SegIs (upd r (o + L.length) (nI x)) o (L ++ [x]) := by
  intro j y hj
  by_cases hl : j < L.length
  · rw [List.getElem?_append_left hl] at hj
    rw [upd_n (by omega)]
    exact h j y hj
  · rw [List.getElem?_append_right (by omega)] at hj
    have h1 : j - L.length < 1 := (List.getElem?_eq_some_iff.mp hj).1
    have e : j = L.length := by omega
    subst e
    rw [Nat.sub_self] at hj
    cases hj
    exact upd_s _ _ _
/-- the state while orders are listed -/
def LsI (σ τ : Tw) (e : Nat) (L : List Nat) : Prop := Ch [7] [9] σ τ ∧ τ 99 9 = nI (e + L.length) ∧ SegIs (τ 7) e L ∧ ∀ k, k < e → τ 7 k = σ 7 k
theorem LsI.push {σ τ : Tw} {e : Nat} {L : List Nat} (h : LsI σ τ e L) (x : Nat) : LsI σ (rw2 (rw2 τ 7 (upd (τ 7) (e + L.length) (nI x))) 99 (upd ((rw2 τ 7 (upd (τ 7) (e + L.length) (nI x))) 99) 9 (nI (e + L.length + 1)))) e (L ++ [x]) := by
  obtain ⟨h1, h2, h3, h4⟩ := h
  refine ⟨(h1.row 7 _ (by decide) (by decide)).num 9 _ (by decide), ?_, ?_, fun k hk => ?_⟩
  · rw [List.length_append]; rfl
  · exact h3.push x
  · show upd (τ 7) (e + L.length) (nI x) k = _
    rw [upd_n (by omega)]; exact h4 k hk
theorem comb_take {A B : List Nat} {c i a : Nat} (h : A[i]? = some a) : comb (A.take (i + 1)) B c = comb (A.take i) B c ++ B.map (fun b => a + b + c) := by
  unfold comb
  rw [List.take_succ, h, List.flatMap_append]
  simp
theorem map_take {B : List Nat} {g : Nat → Nat} {j b : Nat} (h : B[j]? = some b) : (B.take (j + 1)).map g = (B.take j).map g ++ [g b] := by
  rw [List.take_succ, h, List.map_append]; rfl
theorem grid_lt {i j m n : Nat} (hi : i < m) (hj : j < n) : i * n + j < m * n := by
  have : (i + 1) * n ≤ m * n := Nat.mul_le_mul_right n hi
  rw [Nat.succ_mul] at this
  omega
theorem ls_len {A B : List Nat} {c i j a : Nat} (hi : i < A.length) (hj : j < B.length) : (comb (A.take i) B c ++ (B.take j).map (fun b => a + b + c)).length < A.length * B.length := by
  rw [List.length_append, comb_len, List.length_map, List.length_take, List.length_take, Nat.min_eq_left (by omega), Nat.min_eq_left (by omega)]
  exact grid_lt hi hj
/-- a run that is reckoned: its five numbers, and where all its orders' costs stand, ahead of e -/
def RunIs (sd : Nat → Nat) (τ : Tw) (e f l : Nat) : Prop := At5 τ (8 * f + l) (Dv sd f l) ∧ ∃ o : Nat, τ 8 (8 * f + l) = nI o ∧ o + (Al sd f l).length ≤ e ∧ SegIs (τ 7) o (Al sd f l)
theorem RunIs.keep {sd : Nat → Nat} {τ τ' : Tw} {e e' f l : Nat} (h : RunIs sd τ e f l) (he : e ≤ e') (hr : ∀ r ∈ [15, 16, 17, 18, 19, 8], τ' r (8 * f + l) = τ r (8 * f + l)) (h7 : ∀ k, k < e → τ' 7 k = τ 7 k) : RunIs sd τ' e' f l := by
  obtain ⟨⟨a1, a2, a3, a4, a5⟩, o, b1, b2, b3⟩ := h
  refine ⟨⟨?_, ?_, ?_, ?_, ?_⟩, o, ?_, by omega, b3.keep (fun i h1 h2 => h7 i (by omega))⟩
  · rw [hr 15 (by decide)]; exact a1
  · rw [hr 16 (by decide)]; exact a2
  · rw [hr 17 (by decide)]; exact a3
  · rw [hr 18 (by decide)]; exact a4
  · rw [hr 19 (by decide)]; exact a5
  · rw [hr 8 (by decide)]; exact b1
def Oth (σ τ : Tw) (k0 : Nat) : Prop := ∀ r ∈ [15, 16, 17, 18, 19, 8], ∀ k : Nat, k ≠ k0 → τ r k = σ r k
theorem Oth.rf (σ : Tw) (k0 : Nat) : Oth σ σ k0 := fun _ _ _ _ => rfl
theorem Oth.row {σ τ : Tw} {k0 : Nat} (h : Oth σ τ k0) (r : Nat) (v : Int32) : Oth σ (rw2 τ r (upd (τ r) k0 v)) k0 := by
  intro q hq k hk
  by_cases e : q = r
  · subst e; rw [rw2_s, upd_n hk]; exact h q hq k hk
  · rw [rw2_n e]; exact h q hq k hk
def cR : List Nat := [15, 16, 17, 18, 19, 7, 8]
/-- a run that is being reckoned: L its orders' costs so far, v its numbers -/
def RcI (σ τ : Tw) (e k0 : Nat) (L : List Nat) (v : DV) (b : Prop) : Prop :=
  Ch cR [9] σ τ ∧ Oth σ τ k0 ∧ τ 8 k0 = nI e ∧ τ 99 9 = nI (e + L.length) ∧ SegIs (τ 7) e L ∧ (∀ k, k < e → τ 7 k = σ 7 k) ∧ τ 16 k0 = nI v.2.1 ∧ τ 18 k0 = nI v.2.2.2.1 ∧ τ 19 k0 = nI v.2.2.2.2 ∧ (b → τ 15 k0 = nI v.1 ∧ τ 17 k0 = nI v.2.2.1)
theorem rc_next {σ τ τ' : Tw} {e k0 : Nat} {L M : List Nat} {v : DV} {b : Prop} (h : RcI σ τ e k0 L v b) (hl : LsI τ τ' (e + L.length) M) : RcI σ τ' e k0 (L ++ M) v b := by
  obtain ⟨h1, h2, h3, h4, h5, h6, h7, h8, h9, h10⟩ := h
  obtain ⟨l1, l2, l3, l4⟩ := hl
  have r : ∀ q, q ≠ 7 → q ≠ 99 → τ' q = τ q := fun q a b => l1.1 q (by simpa using a) b
  refine ⟨h1.tr (l1.mono (by decide) (fun _ z => z)), fun q hq k hk => ?_, by rw [r 8 (by decide) (by decide)]; exact h3, by rw [l2, List.length_append, Nat.add_assoc], fun j x hj => ?_, fun k hk => (l4 k (by omega)).trans (h6 k hk), by rw [r 16 (by decide) (by decide)]; exact h7, by rw [r 18 (by decide) (by decide)]; exact h8, by rw [r 19 (by decide) (by decide)]; exact h9, by rw [r 15 (by decide) (by decide), r 17 (by decide) (by decide)]; exact h10⟩
  · have hq7 : q ≠ 7 ∧ q ≠ 99 := by
      simp at hq; omega
    rw [r q hq7.1 hq7.2]; exact h2 q hq k hk
  · by_cases hj2 : j < L.length
    · rw [List.getElem?_append_left hj2] at hj
      rw [l4 _ (by omega)]; exact h5 j x hj
    · rw [List.getElem?_append_right (by omega)] at hj
      have := l3 _ x hj
      rw [show e + L.length + (j - L.length) = e + j by omega] at this
      exact this
theorem dpS {lo hi v : DV} {pr s : Nat} {fst : Prop} [Decidable fst] (hw : fst → v.2.1 = 0) : dpStep lo hi pr s fst v =
  (if fst ∨ lo.1 + hi.1 + pr < v.1 then lo.1 + hi.1 + pr else v.1, max v.2.1 (lo.2.1 + hi.2.1 + pr), if fst ∨ lo.1 + hi.1 + pr < v.1 then s else v.2.2.1, v.2.2.2.1 + lo.2.2.2.1 * hi.2.2.2.1,
   if fst ∨ lo.1 + hi.1 + pr < v.1 then lo.2.2.2.2 * hi.2.2.2.2 else if lo.1 + hi.1 + pr = v.1 then v.2.2.2.2 + lo.2.2.2.2 * hi.2.2.2.2 else v.2.2.2.2) := by
  unfold dpStep
  congr 2
  by_cases h : fst ∨ v.2.1 < lo.2.1 + hi.2.1 + pr
  · rw [if_pos h]
    have : v.2.1 ≤ lo.2.1 + hi.2.1 + pr := by
      rcases h with h | h
      · rw [hw h]; exact Nat.zero_le _
      · omega
    rw [Nat.max_eq_right this]
  · rw [if_neg h]
    have : ¬ v.2.1 < lo.2.1 + hi.2.1 + pr := fun z => h (Or.inr z)
    rw [Nat.max_eq_left (by omega)]
theorem alF_le {T : Nat → Nat → List Nat} {pr : Nat → Nat} {f l i j : Nat} (h : i ≤ j) : (alF T pr f l i).length ≤ (alF T pr f l j).length := by
  induction j with
  | zero => rw [show i = 0 by omega]; exact Nat.le_refl _
  | succ j ih =>
    by_cases e : i = j + 1
    · rw [e]; exact Nat.le_refl _
    · refine Nat.le_trans (ih (by omega)) ?_
      show _ ≤ (alF T pr f l j ++ _).length
      rw [List.length_append]; omega
theorem rc_done {sd : Nat → Nat} {σ τ : Tw} {e f l i : Nat} (hf : f < l) (hi : f + i = l) (h : RcI σ τ e (8 * f + l) (alF (Al sd) (fun s => prN sd f s l) f l i) (dpFold (Dv sd) (fun s => prN sd f s l) f l i) (0 < i)) :
    RunIs sd τ (e + (Al sd f l).length) f l ∧ τ 99 9 = nI (e + (Al sd f l).length) ∧ Ch cR [9] σ τ ∧ Oth σ τ (8 * f + l) ∧ ∀ k, k < e → τ 7 k = σ 7 k := by
  have e1 : i = l - f := by omega
  subst e1
  rw [← Al_eq sd hf, ← Dv_eq sd (Nat.le_of_lt hf)] at h
  obtain ⟨h1, h2, h3, h4, h5, h6, h7, h8, h9, h10⟩ := h
  obtain ⟨h11, h12⟩ := h10 (by omega)
  exact ⟨⟨⟨h11, h7, h12, h8, h9⟩, e, h3, Nat.le_refl _, h5⟩, h4, h1, h2, h6⟩
/-! take: all runs, by size -/
def cw (d : Nat) : Nat := [1, 1, 2, 5, 14, 42, 132, 429].getD d 0
theorem cw_eq {d : Nat} (h : d < 8) : catW d = cw d := by
  obtain ⟨h0, h1, h2, h3, h4, h5, h6, h7⟩ := catW_v
  rcases (show d = 0 ∨ d = 1 ∨ d = 2 ∨ d = 3 ∨ d = 4 ∨ d = 5 ∨ d = 6 ∨ d = 7 by omega) with rfl | rfl | rfl | rfl | rfl | rfl | rfl | rfl
  · exact h0
  · exact h1
  · exact h2
  · exact h3
  · exact h4
  · exact h5
  · exact h6
  · exact h7
theorem Al_len (sd : Nat → Nat) {f l : Nat} (h : f ≤ l) (hl : l - f < 8) : (Al sd f l).length = cw (l - f) := by
  rw [(Al_ok sd _ f l h (Nat.le_refl _)).1, ← cw_eq hl]
  have := Dv_ways sd f (l - f)
  rw [show f + (l - f) = l by omega] at this
  exact this
/-- where the lists of a size begin -/
def eT (v : Nat) : Nat → Nat
  | 0 => 0
  | s + 1 => if s = 0 then 0 else eT v s + (v + 1 - s) * cw (s - 1)
theorem eT_bd : ∀ v : Fin 9, ∀ s : Fin 9, ∀ f : Fin 9, 2 ≤ s.val → f.val + s.val ≤ v.val → eT v.val s.val + f.val * cw (s.val - 1) + cw (s.val - 1) ≤ 1000 := by decide +kernel
theorem eT_bd2 : ∀ v : Fin 9, ∀ s : Fin 10, eT v.val s.val ≤ 1000 := by decide +kernel
theorem eT_s {v s : Nat} (h : 1 ≤ s) : eT v (s + 1) = eT v s + (v + 1 - s) * cw (s - 1) := by
  show (if s = 0 then 0 else _) = _
  rw [if_neg (by omega)]
theorem eT_2 (v : Nat) : eT v 2 = v := by
  rw [eT_s (Nat.le_refl _)]
  show eT v 1 + (v + 1 - 1) * 1 = v
  show 0 + _ = v
  omega
/-- what a taking has done so far: the runs that P tells are reckoned -/
def TkI (sd : Nat → Nat) (σ τ : Tw) (n e : Nat) (P : Nat → Nat → Prop) : Prop := Ch (0 :: cR) [1, 9] σ τ ∧ (∀ i, i < 9 → τ 0 i = nI (sd i)) ∧ τ 99 1 = nI (n - 1) ∧ τ 99 9 = nI e ∧ ∀ f l : Nat, P f l → RunIs sd τ e f l
theorem TkI.step {sd : Nat → Nat} {σ τ τ' : Tw} {n e a b L : Nat} {P P' : Nat → Nat → Prop} (h : TkI sd σ τ n e P) (hr : RunIs sd τ' (e + L) a b) (he : τ' 99 9 = nI (e + L)) (hC : Ch cR [9] τ τ') (hO : Oth τ τ' (8 * a + b)) (h7 : ∀ k, k < e → τ' 7 k = τ 7 k) (hP : ∀ f l, P' f l → (P f l ∧ 8 * f + l ≠ 8 * a + b) ∨ (f = a ∧ l = b)) : TkI sd σ τ' n (e + L) P' := by
  obtain ⟨h1, h2, h3, h4, h5⟩ := h
  refine ⟨h1.tr (hC.mono (fun i hi => List.mem_cons_of_mem _ hi) (by decide)), fun i hi => ?_, by rw [hC.2 1 (by decide)]; exact h3, he, fun f l hf => ?_⟩
  · rw [hC.1 0 (by decide) (by decide)]; exact h2 i hi
  · rcases hP f l hf with ⟨hp, hne⟩ | ⟨rfl, rfl⟩
    · exact (h5 f l hp).keep (by omega) (fun r hr => hO r hr _ hne) h7
    · exact hr
theorem vmaxI {n : Nat} (h : n < 1000) : (if nI 0 < nI n - nI 1 then nI n - nI 1 else nI 0) = nI (n - 1) := by
  by_cases h0 : n = 0
  · subst h0
    rw [if_neg]
    rw [ltI, subI (by decide), nI_toInt (by decide)]
    omega
  · rw [pk_sub (by omega)]
    by_cases h1 : n - 1 = 0
    · rw [h1, if_neg (by rw [ltI]; omega)]
    · rw [if_pos ((nI_ltI (by decide) (by omega)).mpr (by omega))]
def TkP (sd : Nat → Nat) (σ σ' : Tw) (n : Nat) : Prop := Ch (0 :: cR) [1, 9] σ σ' ∧ (∀ i, i < 9 → σ' 0 i = nI (sd i)) ∧ σ' 99 1 = nI (n - 1) ∧ ∀ f l : Nat, f ≤ l → l < n - 1 → RunIs sd σ' 1000 f l
theorem Oth.free {σ τ : Tw} {k0 : Nat} (h : Oth σ τ k0) (r : Nat) (f : Nat → Int32) (hr : r ∉ [15, 16, 17, 18, 19, 8]) : Oth σ (rw2 τ r f) k0 := by
  intro q hq k hk
  have e : q ≠ r := fun e => hr (e ▸ hq)
  rw [rw2_n e]; exact h q hq k hk
/-- the least of the first k -/
def MinI (L : List Nat) (k m : Nat) : Prop := m ∈ L.take k ∧ ∀ x ∈ L.take k, m ≤ x
theorem MinI.one {L : List Nat} {a : Nat} (h : L[0]? = some a) : MinI L 1 a := by
  unfold MinI
  rw [show L.take 1 = [a] by
    cases L with
    | nil => cases h
    | cons b L => cases h; rfl]
  exact ⟨by simp, fun x hx => by rw [List.mem_singleton] at hx; omega⟩
theorem MinI.next {L : List Nat} {k m a : Nat} (h : MinI L k m) (ha : L[k]? = some a) : MinI L (k + 1) (min m a) := by
  unfold MinI at h ⊢
  rw [List.take_succ, ha]
  refine ⟨?_, fun x hx => ?_⟩
  · by_cases hm : m ≤ a
    · rw [Nat.min_eq_left hm]; exact List.mem_append_left _ h.1
    · rw [Nat.min_eq_right (by omega)]; simp
  · rcases List.mem_append.mp hx with h1 | h1
    · have := h.2 x h1; omega
    · have : x = a := by simpa using h1
      omega
theorem MinI.all {L : List Nat} {k m v j : Nat} (h : MinI L k m) (hk : L.length ≤ k) (hv : LeastIs L v j) : m = v := by
  unfold MinI at h
  rw [List.take_of_length_le hk] at h
  have h1 := h.2 v hv.2.1
  have h2 := hv.1 m h.1
  omega
theorem Al_1m {sd : Nat → Nat} (hp : ∀ f s l, prN sd f s l ≤ 125000) {f l : Nat} (h : f ≤ l) (hl : l < 8) : ∀ x ∈ Al sd f l, x ≤ 1000000 := by
  intro x hx
  have := Al_bd hp _ f l h (Nat.le_refl _) x hx
  omega
theorem Al_pos (sd : Nat → Nat) {f l : Nat} (h : f ≤ l) : 0 < (Al sd f l).length := by
  have := (Al_ok sd _ f l h (Nat.le_refl _)).2.2.1
  exact List.length_pos_of_mem this

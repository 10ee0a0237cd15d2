/-! the reckoning of runs, over naturals -/
abbrev DV : Type := Nat × Nat × Nat × Nat × Nat
def prN (sd : Nat → Nat) (f s l : Nat) : Nat := sd f * sd (s + 1) * sd (l + 1)
def dpStep (lo hi : DV) (pr s : Nat) (fst : Prop) [Decidable fst] (v : DV) : DV :=
  (if fst ∨ lo.1 + hi.1 + pr < v.1 then lo.1 + hi.1 + pr else v.1,
   if fst ∨ v.2.1 < lo.2.1 + hi.2.1 + pr then lo.2.1 + hi.2.1 + pr else v.2.1,
   if fst ∨ lo.1 + hi.1 + pr < v.1 then s else v.2.2.1,
   v.2.2.2.1 + lo.2.2.2.1 * hi.2.2.2.1,
   if fst ∨ lo.1 + hi.1 + pr < v.1 then lo.2.2.2.2 * hi.2.2.2.2 else if lo.1 + hi.1 + pr = v.1 then v.2.2.2.2 + lo.2.2.2.2 * hi.2.2.2.2 else v.2.2.2.2)
def dpFold (T : Nat → Nat → DV) (pr : Nat → Nat) (f l : Nat) : Nat → DV
  | 0 => (0, 0, f, if f = l then 1 else 0, if f = l then 1 else 0)
  | i + 1 => dpStep (T f (f + i)) (T (f + i + 1) l) (pr (f + i)) (f + i) (f + i = f) (dpFold T pr f l i)
def dp (sd : Nat → Nat) : Nat → Nat → Nat → DV
  | 0, f, _ => (0, 0, f, 1, 1)
  | n + 1, f, l => dpFold (dp sd n) (fun s => prN sd f s l) f l (l - f)
theorem dpFold_congr {T T' : Nat → Nat → DV} {pr : Nat → Nat} {f l : Nat} : ∀ (i : Nat), (∀ j, j < i → T f (f + j) = T' f (f + j) ∧ T (f + j + 1) l = T' (f + j + 1) l) → dpFold T pr f l i = dpFold T' pr f l i
  | 0, _ => rfl
  | i + 1, h => by
    show dpStep _ _ _ _ _ _ = dpStep _ _ _ _ _ _
    rw [(h i (Nat.lt_succ_self i)).1, (h i (Nat.lt_succ_self i)).2, dpFold_congr i (fun j hj => h j (Nat.lt_succ_of_lt hj))]
theorem dp_fuel (sd : Nat → Nat) : ∀ (n m f l : Nat), f ≤ l → l - f ≤ n → l - f ≤ m → dp sd n f l = dp sd m f l
  | 0, 0, _, _, _, _, _ => rfl
  | 0, m + 1, f, l, h, h1, _ => by
    have e : l - f = 0 := by omega
    have e2 : f = l := by omega
    show (0, 0, f, 1, 1) = dpFold _ _ f l (l - f)
    rw [e]; show _ = (0, 0, f, _, _); rw [if_pos e2]
  | n + 1, 0, f, l, h, _, h2 => by
    have e : l - f = 0 := by omega
    have e2 : f = l := by omega
    show dpFold _ _ f l (l - f) = (0, 0, f, 1, 1)
    rw [e]; show (0, 0, f, _, _) = _; rw [if_pos e2]
  | n + 1, m + 1, f, l, h, h1, h2 => by
    show dpFold _ _ f l (l - f) = dpFold _ _ f l (l - f)
    exact dpFold_congr _ (fun j hj => ⟨dp_fuel sd n m f (f + j) (by omega) (by omega) (by omega), dp_fuel sd n m (f + j + 1) l (by omega) (by omega) (by omega)⟩)
/-- a run's reckoning: least and greatest cost, best split, orders, best orders -/
def Dv (sd : Nat → Nat) (f l : Nat) : DV := dp sd (l - f) f l
theorem Dv_eq (sd : Nat → Nat) {f l : Nat} (h : f ≤ l) : Dv sd f l = dpFold (Dv sd) (fun s => prN sd f s l) f l (l - f) := by
  show dp sd (l - f) f l = _
  rw [dp_fuel sd (l - f) (l - f + 1) f l h (Nat.le_refl _) (Nat.le_succ _)]
  show dpFold _ _ f l (l - f) = _
  exact dpFold_congr _ (fun j hj => ⟨dp_fuel sd _ _ f (f + j) (by omega) (by omega) (by omega), dp_fuel sd _ _ (f + j + 1) l (by omega) (by omega) (by omega)⟩)
theorem Dv_self (sd : Nat → Nat) (f : Nat) : Dv sd f f = (0, 0, f, 1, 1) := by
  show dp sd (f - f) f f = _
  rw [Nat.sub_self]; rfl
/-! bounds -/
def dpOk (c : Nat) (f l : Nat) (v : DV) : Prop := v.1 ≤ v.2.1 ∧ v.2.1 ≤ c * (l - f) ∧ f ≤ v.2.2.1
theorem dpStep_ok {c f l i : Nat} {lo hi v : DV} {pr : Nat} (hl : f + i < l) (h1 : lo.1 ≤ lo.2.1 ∧ lo.2.1 ≤ c * i) (h2 : hi.1 ≤ hi.2.1 ∧ hi.2.1 ≤ c * (l - (f + i + 1))) (hp : pr ≤ c) (hv : v.1 ≤ v.2.1 ∧ v.2.1 ≤ c * (l - f)) :
    (dpStep lo hi pr (f + i) (f + i = f) v).1 ≤ (dpStep lo hi pr (f + i) (f + i = f) v).2.1 ∧ (dpStep lo hi pr (f + i) (f + i = f) v).2.1 ≤ c * (l - f) := by
  have e : c * (l - f) = c * i + c * (l - (f + i + 1)) + c := by
    rw [show l - f = i + (l - (f + i + 1)) + 1 by omega, Nat.mul_add, Nat.mul_add, Nat.mul_one]
  unfold dpStep
  dsimp only
  constructor
  · split <;> split <;> omega
  · split <;> omega
theorem dpFold_split {T : Nat → Nat → DV} {pr : Nat → Nat} {f l : Nat} : ∀ i : Nat, f ≤ (dpFold T pr f l i).2.2.1 ∧ ((dpFold T pr f l i).2.2.1 < f + i ∨ i = 0)
  | 0 => ⟨Nat.le_refl _, Or.inr rfl⟩
  | i + 1 => by
    have ih := dpFold_split (T := T) (pr := pr) (f := f) (l := l) i
    show f ≤ (dpStep _ _ _ _ _ _).2.2.1 ∧ ((dpStep _ _ _ _ _ _).2.2.1 < f + (i + 1) ∨ i + 1 = 0)
    unfold dpStep
    dsimp only
    split
    · omega
    · rename_i h
      have : ¬ (f + i = f) := fun z => h (Or.inl z)
      omega
theorem dp_ok {sd : Nat → Nat} {c : Nat} (hp : ∀ f s l, prN sd f s l ≤ c) : ∀ (n f l : Nat), f ≤ l → l - f ≤ n → (dp sd n f l).1 ≤ (dp sd n f l).2.1 ∧ (dp sd n f l).2.1 ≤ c * (l - f)
  | 0, f, l, _, _ => ⟨Nat.le_refl _, Nat.zero_le _⟩
  | n + 1, f, l, h, h1 => by
    show (dpFold (dp sd n) _ f l (l - f)).1 ≤ (dpFold (dp sd n) _ f l (l - f)).2.1 ∧ (dpFold (dp sd n) _ f l (l - f)).2.1 ≤ _
    have key : ∀ i, f + i ≤ l → (dpFold (dp sd n) (fun s => prN sd f s l) f l i).1 ≤ (dpFold (dp sd n) (fun s => prN sd f s l) f l i).2.1 ∧ (dpFold (dp sd n) (fun s => prN sd f s l) f l i).2.1 ≤ c * (l - f) := by
      intro i
      induction i with
      | zero => exact fun _ => ⟨Nat.le_refl _, Nat.zero_le _⟩
      | succ i ih =>
        intro hi
        have a := dp_ok hp n f (f + i) (by omega) (by omega)
        have b := dp_ok hp n (f + i + 1) l (by omega) (by omega)
        rw [show f + i - f = i by omega] at a
        exact dpStep_ok (by omega) a b (hp _ _ _) (ih (by omega))
    exact key (l - f) (by omega)
theorem Dv_ok {sd : Nat → Nat} {c : Nat} (hp : ∀ f s l, prN sd f s l ≤ c) {f l : Nat} (h : f ≤ l) : (Dv sd f l).1 ≤ (Dv sd f l).2.1 ∧ (Dv sd f l).2.1 ≤ c * (l - f) := dp_ok hp _ f l h (Nat.le_refl _)
theorem Dv_split (sd : Nat → Nat) {f l : Nat} (h : f < l) : f ≤ (Dv sd f l).2.2.1 ∧ (Dv sd f l).2.2.1 < l := by
  rw [Dv_eq sd (by omega)]
  have := dpFold_split (T := Dv sd) (pr := fun s => prN sd f s l) (f := f) (l := l) (l - f)
  omega
/-! in the reference's arrays -/
def set5 (σ : Tw) (k : Nat) (v : DV) : Tw := rw2 (rw2 (rw2 (rw2 (rw2 σ 19 (upd (σ 19) k (nI v.2.2.2.2))) 17 (upd (σ 17) k (nI v.2.2.1))) 15 (upd (σ 15) k (nI v.1))) 16 (upd (σ 16) k (nI v.2.1))) 18 (upd (σ 18) k (nI v.2.2.2.1))
def At5 (σ : Tw) (k : Nat) (v : DV) : Prop := σ 15 k = nI v.1 ∧ σ 16 k = nI v.2.1 ∧ σ 17 k = nI v.2.2.1 ∧ σ 18 k = nI v.2.2.2.1 ∧ σ 19 k = nI v.2.2.2.2
theorem at5_s (σ : Tw) (k : Nat) (v : DV) : At5 (set5 σ k v) k v := ⟨upd_s _ _ _, upd_s _ _ _, upd_s _ _ _, upd_s _ _ _, upd_s _ _ _⟩
theorem at5_n {σ : Tw} {k j : Nat} {v w : DV} (h : j ≠ k) (hj : At5 σ j w) : At5 (set5 σ k v) j w := ⟨(upd_n h).trans hj.1, (upd_n h).trans hj.2.1, (upd_n h).trans hj.2.2.1, (upd_n h).trans hj.2.2.2.1, (upd_n h).trans hj.2.2.2.2⟩
theorem upd_upd (f : Nat → Int32) (k : Nat) (a b : Int32) : upd (upd f k a) k b = upd f k b := by
  funext j; unfold upd; by_cases h : j = k <;> simp [h]
theorem s5_s5 (σ : Tw) (k : Nat) (v w : DV) : set5 (set5 σ k v) k w = set5 σ k w := by
  funext i
  by_cases h19 : i = 19
  · subst h19; exact upd_upd _ _ _ _
  by_cases h17 : i = 17
  · subst h17; exact upd_upd _ _ _ _
  by_cases h15 : i = 15
  · subst h15; exact upd_upd _ _ _ _
  by_cases h16 : i = 16
  · subst h16; exact upd_upd _ _ _ _
  by_cases h18 : i = 18
  · subst h18; exact upd_upd _ _ _ _
  unfold set5
  rw [rw2_n h18, rw2_n h16, rw2_n h15, rw2_n h17, rw2_n h19, rw2_n h18, rw2_n h16, rw2_n h15, rw2_n h17, rw2_n h19, rw2_n h18, rw2_n h16, rw2_n h15, rw2_n h17, rw2_n h19]
theorem s5_init (σ : Tw) (k : Nat) (v : DV) : rw2 (rw2 (rw2 (rw2 (rw2 σ 15 (upd (σ 15) k (nI v.1))) 16 (upd (σ 16) k (nI v.2.1))) 17 (upd (σ 17) k (nI v.2.2.1))) 18 (upd (σ 18) k (nI v.2.2.2.1))) 19 (upd (σ 19) k (nI v.2.2.2.2)) = set5 σ k v := by
  funext i
  by_cases h19 : i = 19
  · subst h19; rfl
  by_cases h17 : i = 17
  · subst h17; rfl
  by_cases h15 : i = 15
  · subst h15; rfl
  by_cases h16 : i = 16
  · subst h16; rfl
  by_cases h18 : i = 18
  · subst h18; rfl
  unfold set5
  rw [rw2_n h19, rw2_n h18, rw2_n h17, rw2_n h16, rw2_n h15, rw2_n h18, rw2_n h16, rw2_n h15, rw2_n h17, rw2_n h19]
def sc5 : List Nat := [15, 16, 17, 18, 19]
theorem set5_ch {σ τ : Tw} (k : Nat) (v : DV) (h : Ch sc5 [] σ τ) : Ch sc5 [] σ (set5 τ k v) := by
  refine ⟨fun i hi h9 => ?_, fun j _ => ?_⟩
  · have h' : i ≠ 15 ∧ i ≠ 16 ∧ i ≠ 17 ∧ i ≠ 18 ∧ i ≠ 19 := by
      simp [sc5] at hi; omega
    obtain ⟨h15, h16, h17, h18, h19⟩ := h'
    unfold set5
    rw [rw2_n h18, rw2_n h16, rw2_n h15, rw2_n h17, rw2_n h19]
    exact h.1 i hi h9
  · exact h.2 j (by simp)
/-- the sides of a block as naturals -/
def SdOf (b : Nat → Int32) (sd : Nat → Nat) : Prop := ∀ i : Nat, i < 9 → b (1 + i) = nI (sd i)
theorem pour_nI {b : Nat → Int32} {sd : Nat → Nat} (h : SdOf b sd) {i j k : Nat} (hi : i < 9) (hj : j < 8) (hk : k < 8) : pourT b i j k = nI (prN sd i j k) := by
  unfold pourT prN
  rw [h i hi, show 1 + j + 1 = 1 + (j + 1) by omega, h (j + 1) (by omega), show 1 + k + 1 = 1 + (k + 1) by omega, h (k + 1) (by omega), pk_mul, pk_mul]
theorem fold_bd {sd : Nat → Nat} (h : ∀ f s l, prN sd f s l ≤ 125000) {f l : Nat} (hf : f ≤ l) (hl : l < 8) (i : Nat) (hi : f + i ≤ l) : (dpFold (Dv sd) (fun s => prN sd f s l) f l i).1 < 2 ^ 31 ∧ (dpFold (Dv sd) (fun s => prN sd f s l) f l i).2.1 < 2 ^ 31 := by
  have key : (dpFold (Dv sd) (fun s => prN sd f s l) f l i).1 ≤ (dpFold (Dv sd) (fun s => prN sd f s l) f l i).2.1 ∧ (dpFold (Dv sd) (fun s => prN sd f s l) f l i).2.1 ≤ 125000 * (l - f) := by
    induction i with
    | zero => exact ⟨Nat.le_refl _, Nat.zero_le _⟩
    | succ i ih =>
      have a := Dv_ok h (show f ≤ f + i by omega)
      have b := Dv_ok h (show f + i + 1 ≤ l by omega)
      rw [show f + i - f = i by omega] at a
      exact dpStep_ok (by omega) a b (h _ _ _) (ih (by omega))
  have : 125000 * (l - f) ≤ 125000 * 8 := Nat.mul_le_mul_left _ (by omega)
  omega
theorem pr50 {sd : Nat → Nat} (h : ∀ i, sd i ≤ 50) (f s l : Nat) : prN sd f s l ≤ 125000 := by
  unfold prN
  exact Nat.mul_le_mul (Nat.mul_le_mul (h _) (h _)) (h _)
/-- all runs reckoned -/
def Rk (σ : Tw) (n : Nat) (sd : Nat → Nat) (σ' : Tw) : Prop := Ch sc5 [] σ σ' ∧ ∀ f l : Nat, f ≤ l → l < n - 1 → At5 σ' (8 * f + l) (Dv sd f l)
def allL (n : Nat) (sd : Nat → Nat) : Nat := if n - 1 = 0 then 0 else (Dv sd 0 (n - 1 - 1)).1
def allM (n : Nat) (sd : Nat → Nat) : Nat := if n - 1 = 0 then 0 else (Dv sd 0 (n - 1 - 1)).2.1
theorem isRun_of {n : Nat} {a b : Int32} (h9 : n ≤ 9) (h : isRunP n a b) : ∃ f l : Nat, f ≤ l ∧ l < n - 1 ∧ a = nI f ∧ b = nI l := by
  obtain ⟨h1, h2, h3⟩ := h
  refine ⟨a.toInt.toNat, b.toInt.toNat, by omega, by omega, ?_, ?_⟩
  · apply Int32.toInt_inj.mp
    rw [nI_toInt (by omega)]
    omega
  · apply Int32.toInt_inj.mp
    rw [nI_toInt (by omega)]
    omega
theorem rng_of {a : Int32} {m k : Nat} (hm : m < 1000000) (hk : k < 1000000) (h : nI k ≤ a ∧ a ≤ nI m) : ∃ i, k ≤ i ∧ i ≤ m ∧ a = nI i := by
  obtain ⟨h1, h2⟩ := h
  rw [leI, nI_toInt (by omega)] at h1 h2
  refine ⟨a.toInt.toNat, by omega, by omega, ?_⟩
  apply Int32.toInt_inj.mp
  rw [nI_toInt (by omega)]
  omega
theorem rngs_of {a : Int32} {m k : Nat} (hm : m < 1000) (hk : k < 1000) (h : nI k ≤ a ∧ a ≤ nI m - nI 1) : ∃ i, k ≤ i ∧ i < m ∧ a = nI i := by
  obtain ⟨h1, h2⟩ := h
  rw [leI, nI_toInt (by omega)] at h1
  rw [leI, subI hm] at h2
  refine ⟨a.toInt.toNat, by omega, by omega, ?_⟩
  apply Int32.toInt_inj.mp
  rw [nI_toInt (by omega)]
  omega
/-! a question: the number of what is thrown (0: nothing), the answer; what is written is scratch -/
def scQ : List Nat := [15, 16, 17, 18, 19, 20, 22, 23, 25, 27, 28, 29, 30, 33]
def scQN : List Nat := [11, 14, 21, 24, 26, 31, 32]
def Qy (σ : Tw) (q : Nat × Int32) (r : Int32) (σ' : Tw) : Prop := Ch scQ scQN σ σ' ∧ σ' 99 14 = nI q.1 ∧ (q.1 = 0 → r = q.2)
theorem Qy.fail {σ τ : Tw} {k : Nat} {z r : Int32} {q : Nat × Int32} (h : q = (k, z)) (hk : k ≠ 0) (hC : Ch scQ scQN σ τ) : Qy σ q r (ws1 (ws1 τ 14 (nI k)) 11 0) := by
  subst h
  exact ⟨(hC.num 14 _ (by decide)).num 11 _ (by decide), rfl, fun e => absurd e hk⟩
theorem Qy.ok {σ τ : Tw} {z r : Int32} {q : Nat × Int32} (h : q = (0, z)) (hr : r = z) (hC : Ch scQ scQN σ τ) : Qy σ q r (ws1 τ 14 0) := by
  subst h
  exact ⟨hC.num 14 _ (by decide), rfl, fun _ => hr⟩
theorem sc5Q {σ τ : Tw} (h : Ch sc5 [] σ τ) : Ch scQ scQN σ τ := h.mono (by decide) (by simp)
def qSideAt (b : Blk) (n : Nat) (p : Int32) : Nat × Int32 := if nI 0 ≤ p ∧ p ≤ nI n - nI 1 then (0, b (1 + p.toNatClampNeg)) else (1, 0)
def qStrength (b : Blk) (c : Nat) (p : Int32) : Nat × Int32 := if nI 0 ≤ p ∧ p ≤ nI c - nI 1 then (0, b (11 + p.toNatClampNeg)) else (1, 0)
def qCost (n : Nat) (sd : Nat → Nat) (a b : Int32) : Nat × Int32 := if isRunP n a b then (0, nI (Dv sd a.toNatClampNeg b.toNatClampNeg).1) else (1, 0)
def qWorst (n : Nat) (sd : Nat → Nat) (a b : Int32) : Nat × Int32 := if isRunP n a b then (0, nI (Dv sd a.toNatClampNeg b.toNatClampNeg).2.1) else (1, 0)
def qSplit (n : Nat) (sd : Nat → Nat) (a b : Int32) : Nat × Int32 := if isRunP n a b then (if a = b then (2, 0) else (0, nI (Dv sd a.toNatClampNeg b.toNatClampNeg).2.2.1)) else (1, 0)
def qOrders (n : Nat) (sd : Nat → Nat) (a b c : Int32) : Nat × Int32 := if isRunP n a b then (0, if c = 0 then nI (Dv sd a.toNatClampNeg b.toNatClampNeg).2.2.2.1 else nI (Dv sd a.toNatClampNeg b.toNatClampNeg).2.2.2.2) else (1, 0)
def qSplitCost (n : Nat) (sd : Nat → Nat) (a b c : Int32) : Nat × Int32 := if isRunP n a b then (if a ≤ c ∧ c ≤ b - nI 1 then (0, nI ((Dv sd a.toNatClampNeg c.toNatClampNeg).1 + (Dv sd (c.toNatClampNeg + 1) b.toNatClampNeg).1 + prN sd a.toNatClampNeg c.toNatClampNeg b.toNatClampNeg)) else (2, 0)) else (1, 0)
def updS (sd : Nat → Nat) (i w : Nat) : Nat → Nat := fun j => if j = i then w else sd j
def qWould (n : Nat) (sd : Nat → Nat) (p v : Int32) : Nat × Int32 := if nI 0 ≤ p ∧ p ≤ nI n - nI 1 then (if nI 1 ≤ v ∧ v ≤ nI 50 then (0, nI (allL n (updS sd p.toNatClampNeg v.toNatClampNeg))) else (2, 0)) else (1, 0)
theorem updS_50 {sd : Nat → Nat} (h : ∀ i, sd i ≤ 50) {i w : Nat} (hw : w ≤ 50) : ∀ j, updS sd i w j ≤ 50 := by
  intro j; unfold updS; split
  · exact hw
  · exact h j
theorem updS_of {b : Nat → Int32} {sd : Nat → Nat} (h : SdOf b sd) (i w : Nat) : SdOf (upd b (1 + i) (nI w)) (updS sd i w) := by
  intro j hj
  unfold updS
  by_cases e : j = i
  · subst e; rw [upd_s, if_pos rfl]
  · rw [upd_n (by omega), if_neg e]; exact h j hj
theorem rk_num {σ τ : Tw} {n : Nat} {sd : Nat → Nat} (h : Rk σ n sd τ) (k : Nat) : τ 99 k = σ 99 k := h.1.2 k (by simp)
theorem sc5_sub : ∀ j ∈ sc5, j ∈ scQ := by decide
theorem wd_back {σ τ : Tw} {i : Nat} {v : Int32} (h : Ch sc5 [] (rw2 σ 0 (upd (σ 0) (1 + i) v)) τ) : Ch scQ scQN σ (rw2 τ 0 (upd (τ 0) (1 + i) (σ 0 (1 + i)))) := by
  have h0 : τ 0 = upd (σ 0) (1 + i) v := (h.1 0 (by decide) (by decide)).trans (rw2_s _ _ _)
  refine ⟨fun j hj h9 => ?_, fun k _ => ?_⟩
  · by_cases e : j = 0
    · subst e
      rw [rw2_s, h0, upd_upd]
      funext q
      by_cases e2 : q = 1 + i
      · subst e2; exact upd_s _ _ _
      · exact upd_n e2
    · rw [rw2_n e, h.1 j (fun z => hj (sc5_sub j z)) h9, rw2_n e]
  · rw [rw2_n (by decide), h.2 k (by simp), rw2_n (by decide)]

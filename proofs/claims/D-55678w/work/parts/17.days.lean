/-! days: who pours what, and when -/
def oI : Option Nat → Int32
  | none => -1
  | some k => nI k
theorem oI_n (o : Option Nat) (h : ∀ k, o = some k → k < 1000) : oI o = -1 ↔ o = none := by
  cases o with
  | none => exact ⟨fun _ => rfl, fun _ => rfl⟩
  | some k =>
    refine ⟨fun e => ?_, fun e => by cases e⟩
    have hk := h k rfl
    have := congrArg Int32.toInt (show nI k = -1 from e)
    rw [nI_toInt (by omega)] at this
    have h2 : (-1 : Int32).toInt = -1 := by decide
    omega
/-- the first place from k on, of n places, that p holds of -/
def fsH (p : Nat → Bool) : Nat → Nat → Option Nat
  | 0, _ => none
  | n + 1, k => if p k = true then some k else fsH p n (k + 1)
theorem fsH_lt {p : Nat → Bool} : ∀ {n k j : Nat}, fsH p n k = some j → k ≤ j ∧ j < k + n ∧ p j = true
  | 0, k, j, h => by cases h
  | n + 1, k, j, h => by
    unfold fsH at h
    by_cases hp : p k = true
    · rw [if_pos hp] at h; cases h; exact ⟨Nat.le_refl _, by omega, hp⟩
    · rw [if_neg hp] at h
      have := fsH_lt h
      exact ⟨by omega, by omega, this.2.2⟩
theorem fsH_ex {p : Nat → Bool} : ∀ {n k j : Nat}, k ≤ j → j < k + n → p j = true → ∃ i, fsH p n k = some i ∧ i ≤ j
  | 0, k, j, h1, h2, _ => by omega
  | n + 1, k, j, h1, h2, hj => by
    unfold fsH
    by_cases hp : p k = true
    · rw [if_pos hp]; exact ⟨k, rfl, h1⟩
    · rw [if_neg hp]
      exact fsH_ex (by rcases Nat.eq_or_lt_of_le h1 with e | e; · subst e; exact absurd hj hp
                       · omega) (by omega) hj
theorem fsH_none {p : Nat → Bool} {n k : Nat} (h : fsH p n k = none) : ∀ j, k ≤ j → j < k + n → ¬ p j = true := by
  intro j h1 h2 hj
  obtain ⟨i, hi, -⟩ := fsH_ex h1 h2 hj
  rw [h] at hi; cases hi
theorem fsH_uniq {p : Nat → Bool} {n j : Nat} (hj : j < n) (hp : p j = true) (hu : ∀ i, i < n → p i = true → i = j) : fsH p n 0 = some j := by
  obtain ⟨i, hi, -⟩ := fsH_ex (k := 0) (Nat.zero_le j) (by omega : j < 0 + n) hp
  have := fsH_lt hi
  rw [hi, hu i (by omega) this.2.2]
/-- how many of n places -/
def cntB (p : Nat → Bool) : Nat → Nat
  | 0 => 0
  | n + 1 => cntB p n + if p n = true then 1 else 0
theorem cntB_le (p : Nat → Bool) : ∀ n, cntB p n ≤ n
  | 0 => Nat.le_refl _
  | n + 1 => by have := cntB_le p n; unfold cntB; split <;> omega
theorem cntB_mono {p q : Nat → Bool} : ∀ {n : Nat}, (∀ i, i < n → p i = true → q i = true) → cntB p n ≤ cntB q n
  | 0, _ => Nat.le_refl _
  | n + 1, h => by
    have ih := cntB_mono (n := n) (fun i hi => h i (by omega))
    unfold cntB
    have := h n (by omega)
    by_cases hp : p n = true
    · rw [if_pos hp, if_pos (this hp)]; omega
    · rw [if_neg hp]; split <;> omega
theorem cntB_lt {p q : Nat → Bool} : ∀ {n j : Nat}, (∀ i, i < n → p i = true → q i = true) → j < n → ¬ p j = true → q j = true → cntB p n < cntB q n
  | 0, j, _, hj, _, _ => by omega
  | n + 1, j, h, hj, hp, hq => by
    unfold cntB
    by_cases e : j = n
    · subst e
      have ih := cntB_mono (n := j) (fun i hi => h i (by omega))
      rw [if_neg hp, if_pos hq]; omega
    · have ih := cntB_lt (n := n) (j := j) (fun i hi => h i (by omega)) (by omega) hp hq
      have h2 := h n (by omega)
      by_cases hpn : p n = true
      · rw [if_pos hpn, if_pos (h2 hpn)]; omega
      · rw [if_neg hpn]; split <;> omega
theorem cntB_lt_n {p : Nat → Bool} {n j : Nat} (hj : j < n) (hp : ¬ p j = true) : cntB p n < n := by
  have h := cntB_lt (p := p) (q := fun _ => true) (n := n) (j := j) (fun _ _ _ => rfl) hj hp rfl
  have h2 := cntB_le (fun _ => true) n
  omega
/-- as many places as numbers: every number is had -/
theorem pig : ∀ (C : Nat) (f : Nat → Nat), (∀ i, i < C → f i < C) → (∀ i j, i < C → j < C → f i = f j → i = j) → ∀ p, p < C → ∃ i, i < C ∧ f i = p
  | 0, _, _, _, p, hp => by omega
  | C + 1, f, hf, hi, p, hp => by
    by_cases hv : f C = C
    · by_cases e : p = C
      · exact ⟨C, by omega, by rw [hv, e]⟩
      · obtain ⟨i, h1, h2⟩ := pig C f (fun i h => by
          have := hf i (by omega)
          have : f i ≠ C := fun z => by have := hi i C (by omega) (by omega) (by rw [z, hv]); omega
          omega) (fun i j h1 h2 => hi i j (by omega) (by omega)) p (by omega)
        exact ⟨i, by omega, h2⟩
    · have hvC : f C < C := by have := hf C (by omega); omega
      have key := pig C (fun i => if f i = C then f C else f i) (fun i h => by
        by_cases e : f i = C
        · rw [if_pos e]; exact hvC
        · rw [if_neg e]; have := hf i (by omega); omega) (fun i j h1 h2 he => by
        by_cases e1 : f i = C <;> by_cases e2 : f j = C
        · exact hi i j (by omega) (by omega) (by rw [e1, e2])
        · rw [if_pos e1, if_neg e2] at he; have := hi C j (by omega) (by omega) he; omega
        · rw [if_neg e1, if_pos e2] at he; have := hi i C (by omega) (by omega) he; omega
        · rw [if_neg e1, if_neg e2] at he; exact hi i j (by omega) (by omega) he)
      by_cases e : p = f C
      · exact ⟨C, by omega, e.symm⟩
      by_cases e2 : p = C
      · obtain ⟨i, h1, h2⟩ := key (f C) hvC
        by_cases e3 : f i = C
        · exact ⟨i, by omega, by rw [e3, e2]⟩
        · rw [if_neg e3] at h2; have := hi i C (by omega) (by omega) h2; omega
      · obtain ⟨i, h1, h2⟩ := key p (by omega)
        by_cases e3 : f i = C
        · rw [if_pos e3] at h2; exact absurd h2.symm e
        · rw [if_neg e3] at h2; exact ⟨i, by omega, h2⟩
/-- o stands ahead of c by strength -/
def ahS (st : Nat → Nat) (c o : Nat) : Bool := decide (st c < st o) || (decide (st o = st c) && decide (o < c))
def rnk (st : Nat → Nat) (C c : Nat) : Nat := cntB (ahS st c) C
theorem ahS_iff (st : Nat → Nat) (c o : Nat) : ahS st c o = true ↔ (st c < st o ∨ (st o = st c ∧ o < c)) := by simp [ahS]
theorem rnk_lt {st : Nat → Nat} {C c d : Nat} (hc : c < C) (h : ahS st d c = true) : rnk st C c < rnk st C d := by
  rw [ahS_iff] at h
  refine cntB_lt (j := c) (fun i _ hi => ?_) hc (by rw [ahS_iff]; omega) (by rw [ahS_iff]; exact h)
  rw [ahS_iff] at hi ⊢
  omega
theorem rnk_inj {st : Nat → Nat} {C c d : Nat} (hc : c < C) (hd : d < C) (h : rnk st C c = rnk st C d) : c = d := by
  rcases Nat.lt_trichotomy c d with e | e | e
  · by_cases h2 : st c < st d
    · have := rnk_lt hd (show ahS st c d = true by rw [ahS_iff]; omega); omega
    · have := rnk_lt hc (show ahS st d c = true by rw [ahS_iff]; omega); omega
  · exact e
  · by_cases h2 : st d < st c
    · have := rnk_lt hc (show ahS st d c = true by rw [ahS_iff]; omega); omega
    · have := rnk_lt hd (show ahS st c d = true by rw [ahS_iff]; omega); omega
theorem rnk_b {st : Nat → Nat} {C c : Nat} (hc : c < C) : rnk st C c < C := cntB_lt_n hc (by rw [ahS_iff]; omega)
/-- the cooper at a place by strength -/
def ordC (st : Nat → Nat) (C place : Nat) : Option Nat := fsH (fun c => decide (rnk st C c = place)) C 0
theorem ordC_ex {st : Nat → Nat} {C place : Nat} (h : place < C) : ∃ c, ordC st C place = some c ∧ c < C ∧ rnk st C c = place := by
  obtain ⟨c, hc, he⟩ := pig C (rnk st C) (fun i hi => rnk_b hi) (fun i j hi hj e => rnk_inj hi hj e) place h
  obtain ⟨i, hi, -⟩ := fsH_ex (p := fun c => decide (rnk st C c = place)) (k := 0) (n := C) (j := c) (Nat.zero_le _) (by omega) (by simpa using he)
  have := fsH_lt hi
  exact ⟨i, hi, by omega, by simpa using this.2.2⟩
/-- where a run is poured within a plan -/
abbrev T3 : Type := Nat × Nat × Nat
def idxL (L : List T3) (a c : Nat) : Nat → Option Nat
  | 0 => none
  | k + 1 => if (L.getD k (0, 0, 0)).1 = a ∧ (L.getD k (0, 0, 0)).2.1 = c then some k else idxL L a c k
theorem idxL_lt {L : List T3} {a c : Nat} : ∀ {n j : Nat}, idxL L a c n = some j → j < n ∧ (L.getD j (0, 0, 0)).1 = a ∧ (L.getD j (0, 0, 0)).2.1 = c
  | 0, j, h => by cases h
  | n + 1, j, h => by
    unfold idxL at h
    split at h
    · rename_i hc; cases h; exact ⟨by omega, hc⟩
    · have := idxL_lt h; exact ⟨by omega, this.2⟩
theorem idxL_ex {L : List T3} {a c : Nat} : ∀ {n j : Nat}, j < n → (L.getD j (0, 0, 0)).1 = a → (L.getD j (0, 0, 0)).2.1 = c → ∃ i, idxL L a c n = some i
  | 0, j, h, _, _ => by omega
  | n + 1, j, h, h1, h2 => by
    unfold idxL
    by_cases hc : (L.getD n (0, 0, 0)).1 = a ∧ (L.getD n (0, 0, 0)).2.1 = c
    · rw [if_pos hc]; exact ⟨n, rfl⟩
    · rw [if_neg hc]
      have : j ≠ n := by rintro rfl; exact hc ⟨h1, h2⟩
      exact idxL_ex (by omega) h1 h2
def costK (sd : Nat → Nat) (L : List T3) (k : Nat) : Nat := prN sd (L.getD k (0, 0, 0)).1 (L.getD k (0, 0, 0)).2.2 (L.getD k (0, 0, 0)).2.1
def rdyB (L : List T3) (dy : Nat → Nat) (day a c : Nat) : Bool := decide (a = c) || (match idxL L a c L.length with | some j => decide (0 < dy j) && decide (dy j < day) | none => false)
def canB (sd : Nat → Nat) (L : List T3) (dy : Nat → Nat) (day s k : Nat) : Bool :=
  decide (dy k = 0) && decide (costK sd L k ≤ s) && rdyB L dy day (L.getD k (0, 0, 0)).1 (L.getD k (0, 0, 0)).2.2 && rdyB L dy day ((L.getD k (0, 0, 0)).2.2 + 1) (L.getD k (0, 0, 0)).2.1
def betB (sd : Nat → Nat) (L : List T3) (o : Option Nat) (k : Nat) : Bool := match o with | none => true | some j => decide (costK sd L j < costK sd L k)
def nxt (sd : Nat → Nat) (L : List T3) (dy : Nat → Nat) (day s : Nat) : Nat → Option Nat
  | 0 => none
  | k + 1 => if canB sd L dy day s k = true ∧ betB sd L (nxt sd L dy day s k) k = true then some k else nxt sd L dy day s k
theorem nxt_lt {sd : Nat → Nat} {L : List T3} {dy : Nat → Nat} {day s : Nat} : ∀ {n j : Nat}, nxt sd L dy day s n = some j → j < n ∧ canB sd L dy day s j = true
  | 0, j, h => by cases h
  | n + 1, j, h => by
    unfold nxt at h
    split at h
    · rename_i hc; cases h; exact ⟨by omega, hc.1⟩
    · have := nxt_lt h; exact ⟨by omega, this.2⟩
theorem nxt_ex {sd : Nat → Nat} {L : List T3} {dy : Nat → Nat} {day s : Nat} : ∀ {n j : Nat}, j < n → canB sd L dy day s j = true → ∃ i, nxt sd L dy day s n = some i
  | 0, j, h, _ => by omega
  | n + 1, j, h, hj => by
    unfold nxt
    by_cases hc : canB sd L dy day s n = true ∧ betB sd L (nxt sd L dy day s n) n = true
    · rw [if_pos hc]; exact ⟨n, rfl⟩
    · rw [if_neg hc]
      cases ho : nxt sd L dy day s n with
      | some i => exact ⟨i, rfl⟩
      | none =>
        have hjn : j ≠ n := by
          rintro rfl
          exact hc ⟨hj, by rw [ho]; rfl⟩
        obtain ⟨i, hi⟩ := nxt_ex (n := n) (j := j) (by omega) hj
        rw [ho] at hi; cases hi
/-- days, coopers, what is left -/
abbrev DS : Type := (Nat → Nat) × (Nat → Nat) × Nat
def updN (f : Nat → Nat) (k v : Nat) : Nat → Nat := fun j => if j = k then v else f j
def plcS (sd : Nat → Nat) (L : List T3) (st : Nat → Nat) (day : Nat) (s : DS) (c : Nat) : DS :=
  match nxt sd L s.1 day (st c) L.length with
  | none => s
  | some k => (updN s.1 k day, updN s.2.1 k c, s.2.2 - 1)
def dayS (sd : Nat → Nat) (L : List T3) (st : Nat → Nat) (C day : Nat) (s : DS) : Nat → DS
  | 0 => s
  | p + 1 => plcS sd L st day (dayS sd L st C day s p) ((ordC st C p).getD 0)
def runS (sd : Nat → Nat) (L : List T3) (st : Nat → Nat) (C : Nat) : Nat → Nat → DS → Nat × DS
  | 0, t, s => (t, s)
  | n + 1, t, s => if s.2.2 = 0 then (t, s) else runS sd L st C n (t + 1) (dayS sd L st C (t + 1) s C)
def sched (sd : Nat → Nat) (L : List T3) (st : Nat → Nat) (C : Nat) : Nat × DS := runS sd L st C L.length 0 (fun _ => 0, fun _ => 0, L.length)
/-- what holds of a state of the days, on the day t -/
def DsOk (L : List T3) (t : Nat) (s : DS) : Prop := (∀ k, k < L.length → s.1 k ≤ t) ∧ s.2.2 = cntB (fun k => decide (s.1 k = 0)) L.length
theorem cntB_congr {p q : Nat → Bool} : ∀ {n : Nat}, (∀ i, i < n → p i = q i) → cntB p n = cntB q n
  | 0, _ => rfl
  | n + 1, h => by unfold cntB; rw [cntB_congr (fun i hi => h i (by omega)), h n (by omega)]
theorem cntB_one {p q : Nat → Bool} : ∀ {n k : Nat}, k < n → p k = true → q k = false → (∀ i, i < n → i ≠ k → p i = q i) → cntB p n = cntB q n + 1
  | 0, k, h, _, _, _ => by omega
  | n + 1, k, h, hp, hq, he => by
    unfold cntB
    by_cases e : k = n
    · subst e
      rw [cntB_congr (n := k) (fun i hi => he i (by omega) (by omega)), if_pos hp, hq]
      rfl
    · rw [cntB_one (n := n) (k := k) (by omega) hp hq (fun i hi hn => he i (by omega) hn), he n (by omega) (by omega)]
      omega
theorem plcS_ok {sd : Nat → Nat} {L : List T3} {st : Nat → Nat} {day : Nat} {s : DS} {c : Nat} (hd : 0 < day) (h : DsOk L day s) : DsOk L day (plcS sd L st day s c) ∧ (plcS sd L st day s c).2.2 ≤ s.2.2 ∧ (nxt sd L s.1 day (st c) L.length ≠ none → (plcS sd L st day s c).2.2 < s.2.2) := by
  unfold plcS
  cases hn : nxt sd L s.1 day (st c) L.length with
  | none => exact ⟨h, Nat.le_refl _, fun e => absurd rfl e⟩
  | some k =>
    have hk := nxt_lt hn
    have hk0 : s.1 k = 0 := by
      have := hk.2; unfold canB at this; simp at this; exact this.1.1.1
    have key : cntB (fun k => decide (s.1 k = 0)) L.length = cntB (fun j => decide (updN s.1 k day j = 0)) L.length + 1 := by
      refine cntB_one hk.1 (by simpa using hk0) (by simp [updN]; omega) (fun i _ hne => ?_)
      simp [updN, hne]
    refine ⟨⟨fun j hj => ?_, ?_⟩, ?_, fun _ => ?_⟩
    · show updN s.1 k day j ≤ day
      unfold updN; split
      · exact Nat.le_refl _
      · exact h.1 j hj
    · show s.2.2 - 1 = _
      rw [h.2, key]; rfl
    · exact Nat.sub_le _ _
    · show s.2.2 - 1 < s.2.2
      rw [h.2, key]; omega
theorem dayS_ok {sd : Nat → Nat} {L : List T3} {st : Nat → Nat} {C day : Nat} {s : DS} (hd : 0 < day) (h : DsOk L day s) : ∀ p, DsOk L day (dayS sd L st C day s p) ∧ (dayS sd L st C day s p).2.2 ≤ s.2.2
  | 0 => ⟨h, Nat.le_refl _⟩
  | p + 1 => by
    have ih := dayS_ok (sd := sd) (st := st) (C := C) hd h p
    have := plcS_ok (sd := sd) (st := st) (c := (ordC st C p).getD 0) hd ih.1
    exact ⟨this.1, Nat.le_trans this.2.1 ih.2⟩
/-- plans whose parts are poured ahead of them -/
def LOk (L : List T3) : Prop := ∀ k, k < L.length → ((L.getD k (0, 0, 0)).1 = (L.getD k (0, 0, 0)).2.2 ∨ ∃ j, j < k ∧ idxL L (L.getD k (0, 0, 0)).1 (L.getD k (0, 0, 0)).2.2 L.length = some j) ∧ ((L.getD k (0, 0, 0)).2.2 + 1 = (L.getD k (0, 0, 0)).2.1 ∨ ∃ j, j < k ∧ idxL L ((L.getD k (0, 0, 0)).2.2 + 1) (L.getD k (0, 0, 0)).2.1 L.length = some j)
theorem cntB_pos {p : Nat → Bool} : ∀ {n : Nat}, 0 < cntB p n → ∃ k, k < n ∧ p k = true ∧ ∀ j, j < k → ¬ p j = true
  | 0, h => by unfold cntB at h; omega
  | n + 1, h => by
    by_cases h0 : 0 < cntB p n
    · obtain ⟨k, hk, h1⟩ := cntB_pos h0
      exact ⟨k, by omega, h1⟩
    · unfold cntB at h
      have hp : p n = true := by
        by_cases hp : p n = true
        · exact hp
        · rw [if_neg hp] at h; omega
      refine ⟨n, by omega, hp, fun j hj hpj => h0 ?_⟩
      have := cntB_lt (p := fun _ => false) (q := p) (n := n) (j := j) (fun _ _ z => by cases z) hj (by simp) hpj
      omega
theorem day_prog {sd : Nat → Nat} {L : List T3} {st : Nat → Nat} {C t c0 : Nat} {s : DS} (hL : LOk L) (h : DsOk L t s) (hC : 0 < C) (ho : ordC st C 0 = some c0) (hs : ∀ k, k < L.length → costK sd L k ≤ st c0) (hl : 0 < s.2.2) : (dayS sd L st C (t + 1) s C).2.2 < s.2.2 := by
  have h' : DsOk L (t + 1) s := ⟨fun k hk => Nat.le_succ_of_le (h.1 k hk), h.2⟩
  obtain ⟨k, hk, hk0, hmin⟩ := cntB_pos (by rw [← h.2]; exact hl)
  have hmin' : ∀ j, j < k → 0 < s.1 j ∧ s.1 j < t + 1 := fun j hj => by
    have := hmin j hj; simp at this
    have h2 := h.1 j (by omega)
    omega
  have hk0' : s.1 k = 0 := by simpa using hk0
  have rd : ∀ a c, (a = c ∨ ∃ j, j < k ∧ idxL L a c L.length = some j) → rdyB L s.1 (t + 1) a c = true := by
    intro a c hac
    unfold rdyB
    rcases hac with e | ⟨j, hj, e⟩
    · subst e; simp
    · rw [e]
      have := hmin' j hj
      simp; omega
  have hcan : canB sd L s.1 (t + 1) (st c0) k = true := by
    unfold canB
    rw [rd _ _ (hL k hk).1, rd _ _ (hL k hk).2]
    simp [hk0', hs k hk]
  obtain ⟨i, hi⟩ := nxt_ex hk hcan
  obtain ⟨C', rfl⟩ : ∃ C', C = C' + 1 := ⟨C - 1, by omega⟩
  have first : (dayS sd L st (C' + 1) (t + 1) s 1).2.2 < s.2.2 := by
    show (plcS sd L st (t + 1) s ((ordC st (C' + 1) 0).getD 0)).2.2 < _
    rw [ho]
    exact (plcS_ok (by omega) h').2.2 (by rw [show (some c0).getD 0 = c0 from rfl, hi]; simp)
  have later : ∀ p, (dayS sd L st (C' + 1) (t + 1) s (1 + p)).2.2 ≤ (dayS sd L st (C' + 1) (t + 1) s 1).2.2 := by
    intro p
    induction p with
    | zero => exact Nat.le_refl _
    | succ p ih => exact Nat.le_trans (plcS_ok (by omega) (dayS_ok (by omega) h' (1 + p)).1).2.1 ih
  have := later C'
  rw [Nat.add_comm 1 C'] at this
  omega
/-! the order of the pourings -/
theorem pl_root {sp : Nat → Nat → Nat} (h : SpOk sp) {f l : Nat} (hl : f < l) : (f, l, sp f l) ∈ pl sp f l := by
  rw [pl_eq h hl]; simp
theorem pl_pw {sp : Nat → Nat → Nat} (h : SpOk sp) : ∀ (n f l : Nat), l - f ≤ n → (pl sp f l).Pairwise (fun x y => ¬ (x.1 ≤ y.1 ∧ y.2.1 ≤ x.2.1))
  | 0, f, l, h1 => by rw [pl_nil (by omega)]; exact List.Pairwise.nil
  | n + 1, f, l, h1 => by
    by_cases hl : f < l
    · have hs := h f l hl
      rw [pl_eq h hl, List.pairwise_append, List.pairwise_append]
      refine ⟨pl_pw h n _ _ (by omega), ⟨pl_pw h n _ _ (by omega), List.pairwise_singleton _ _, fun x hx y hy => ?_⟩, fun x hx y hy => ?_⟩
      · have a := pl_mem h hx
        rw [List.mem_singleton] at hy; subst hy
        dsimp only; omega
      · have a := pl_mem h hx
        rcases List.mem_append.mp hy with hy | hy
        · have b := pl_mem h hy; omega
        · rw [List.mem_singleton] at hy; subst hy; dsimp only; omega
    · rw [pl_nil (by omega)]; exact List.Pairwise.nil
theorem pl_kid {sp : Nat → Nat → Nat} (h : SpOk sp) : ∀ (n f l : Nat), l - f ≤ n → ∀ x ∈ pl sp f l, (x.1 < x.2.2 → ∃ y ∈ pl sp f l, y.1 = x.1 ∧ y.2.1 = x.2.2) ∧ (x.2.2 + 1 < x.2.1 → ∃ y ∈ pl sp f l, y.1 = x.2.2 + 1 ∧ y.2.1 = x.2.1)
  | 0, f, l, h1, x, hx => by rw [pl_nil (by omega)] at hx; cases hx
  | n + 1, f, l, h1, x, hx => by
    by_cases hl : f < l
    · have hs := h f l hl
      rw [pl_eq h hl] at hx ⊢
      rcases List.mem_append.mp hx with hx | hx
      · have ih := pl_kid h n _ _ (by omega) x hx
        exact ⟨fun a => by obtain ⟨y, hy, e⟩ := ih.1 a; exact ⟨y, List.mem_append_left _ hy, e⟩, fun a => by obtain ⟨y, hy, e⟩ := ih.2 a; exact ⟨y, List.mem_append_left _ hy, e⟩⟩
      · rcases List.mem_append.mp hx with hx | hx
        · have ih := pl_kid h n _ _ (by omega) x hx
          exact ⟨fun a => by obtain ⟨y, hy, e⟩ := ih.1 a; exact ⟨y, List.mem_append_right _ (List.mem_append_left _ hy), e⟩, fun a => by obtain ⟨y, hy, e⟩ := ih.2 a; exact ⟨y, List.mem_append_right _ (List.mem_append_left _ hy), e⟩⟩
        · rw [List.mem_singleton] at hx; subst hx
          exact ⟨fun a => ⟨_, List.mem_append_left _ (pl_root h a), rfl, rfl⟩, fun a => ⟨_, List.mem_append_right _ (List.mem_append_left _ (pl_root h a)), rfl, rfl⟩⟩
    · rw [pl_nil (by omega)] at hx; cases hx
theorem getD_of {L : List T3} {k : Nat} {e : T3} (h : L[k]? = some e) : L.getD k (0, 0, 0) = e := by rw [List.getD_eq_getElem?_getD, h]; rfl
theorem kid_ix {L : List T3} (hp : L.Pairwise (fun x y => ¬ (x.1 ≤ y.1 ∧ y.2.1 ≤ x.2.1))) {k a c : Nat} (hk : k < L.length) (hy : ∃ y ∈ L, y.1 = a ∧ y.2.1 = c) (h1 : (L.getD k (0, 0, 0)).1 ≤ a) (h2 : c ≤ (L.getD k (0, 0, 0)).2.1) (h3 : ¬ ((L.getD k (0, 0, 0)).1 = a ∧ (L.getD k (0, 0, 0)).2.1 = c)) : ∃ j, j < k ∧ idxL L a c L.length = some j := by
  obtain ⟨y, hy, e1, e2⟩ := hy
  obtain ⟨i, hi, he⟩ := List.getElem_of_mem hy
  have hg : L.getD i (0, 0, 0) = y := getD_of (by rw [List.getElem?_eq_getElem hi, he])
  obtain ⟨j, hj⟩ := idxL_ex (L := L) (a := a) (c := c) hi (by rw [hg]; exact e1) (by rw [hg]; exact e2)
  have hj2 := idxL_lt hj
  refine ⟨j, ?_, hj⟩
  rcases Nat.lt_trichotomy j k with e | e | e
  · exact e
  · subst e; exact absurd hj2.2 h3
  · have := (List.pairwise_iff_getElem.mp hp) k j hk hj2.1 e
    rw [← getD_of (List.getElem?_eq_getElem hk), ← getD_of (List.getElem?_eq_getElem hj2.1)] at this
    omega
theorem pl_LOk {sp : Nat → Nat → Nat} (h : SpOk sp) (f l : Nat) : LOk (pl sp f l) := by
  intro k hk
  obtain ⟨e, he⟩ := get_lt hk
  have hg := getD_of he
  have hm := List.mem_of_getElem? he
  have b := pl_mem h hm
  have kd := pl_kid h _ f l (Nat.le_refl _) e hm
  have pw := pl_pw h _ f l (Nat.le_refl _)
  constructor
  · by_cases q : (List.getD (pl sp f l) k (0, 0, 0)).1 = (List.getD (pl sp f l) k (0, 0, 0)).2.2
    · exact Or.inl q
    · right
      refine kid_ix pw hk ?_ (Nat.le_refl _) ?_ ?_ <;> rw [hg] at q ⊢
      · exact kd.1 (by omega)
      · omega
      · omega
  · by_cases q : (List.getD (pl sp f l) k (0, 0, 0)).2.2 + 1 = (List.getD (pl sp f l) k (0, 0, 0)).2.1
    · exact Or.inl q
    · right
      refine kid_ix pw hk ?_ ?_ (Nat.le_refl _) ?_ <;> rw [hg] at q ⊢
      · exact kd.2 (by omega)
      · omega
      · omega
/-- the coopers' strengths in a block -/
def StOf (b : Blk) (st : Nat → Nat) (C : Nat) : Prop := b 10 = nI C ∧ C ≤ 4 ∧ ∀ k : Nat, k < 4 → b (11 + k) = nI (st k) ∧ st k ≤ 99999
/-- the days in the reference's arrays -/
def DyIs (σ : Tw) (s : DS) (m : Nat) : Prop := (∀ k : Nat, k < m → σ 22 k = nI (s.1 k)) ∧ ∀ k : Nat, k < m → s.1 k ≠ 0 → σ 23 k = nI (s.2.1 k)
theorem subI2 {a b : Nat} (ha : a < 1000000) (hb : b < 1000000) : (nI a - nI b).toInt = (a : Int) - b := pk_sub_toInt (by omega) (by omega)
theorem oI_ne {o : Option Nat} (h : ∀ k, o = some k → k < 1000) (hn : ¬ oI o = -1) : ∃ k, o = some k := by
  cases o with
  | none => exact absurd rfl hn
  | some k => exact ⟨k, rfl⟩
/-- the lowest pouring that costs more than s -/
def hvy (sd : Nat → Nat) (L : List T3) (s : Nat) : Option Nat := fsH (fun k => decide (s < costK sd L k)) L.length 0
/-- the greatest strength -/
def strM (st : Nat → Nat) (C : Nat) : Nat := if C = 0 then 0 else st ((ordC st C 0).getD 0)
theorem cst_eq {n : Nat} {sd : Nat → Nat} {L : List T3} {k : Nat} {e : T3} (h : L[k]? = some e) (hv : e.2.1 < n - 1) : pcost n sd e = nI (costK sd L k) := by
  unfold pcost costK; rw [if_pos hv, getD_of h]
theorem cst_b {sd : Nat → Nat} (h50 : ∀ i, sd i ≤ 50) (L : List T3) (k : Nat) : costK sd L k ≤ 125000 := pr50 h50 _ _ _
theorem cst_p {sd : Nat → Nat} {L : List T3} {k n : Nat} {e : T3} (h : L[k]? = some e) (hs : ∀ i, i < n → 1 ≤ sd i) (h1 : e.1 < n) (h2 : e.2.2 + 1 < n) (h3 : e.2.1 + 1 < n) : 0 < costK sd L k := by
  unfold costK prN
  rw [getD_of h]
  exact Nat.mul_pos (Nat.mul_pos (hs _ h1) (hs _ h2)) (hs _ h3)
theorem idxL_n {L : List T3} {a c k : Nat} {e : T3} (hg : L.getD k (0, 0, 0) = e) (h : ¬ (e.1 = a ∧ e.2.1 = c)) : oI (idxL L a c k) = oI (idxL L a c (k + 1)) := by
  show _ = oI (if _ then _ else _)
  rw [hg, if_neg h]
theorem idxL_s {L : List T3} {a c k : Nat} {e : T3} (hg : L.getD k (0, 0, 0) = e) (h : e.1 = a ∧ e.2.1 = c) : nI k = oI (idxL L a c (k + 1)) := by
  show _ = oI (if _ then _ else _)
  rw [hg, if_pos h]; rfl
theorem rdyB_eq {L : List T3} {dy : Nat → Nat} {day a c j : Nat} (h : idxL L a c L.length = some j) : rdyB L dy day a c = true ↔ (a = c ∨ (0 < dy j ∧ dy j < day)) := by
  unfold rdyB; rw [h]; simp
theorem canB_iff {sd : Nat → Nat} {L : List T3} {dy : Nat → Nat} {day s k : Nat} {e : T3} (hg : L.getD k (0, 0, 0) = e) : canB sd L dy day s k = true ↔ (dy k = 0 ∧ costK sd L k ≤ s ∧ rdyB L dy day e.1 e.2.2 = true ∧ rdyB L dy day (e.2.2 + 1) e.2.1 = true) := by
  unfold canB; rw [hg]; simp [and_assoc]
theorem nxt_s {sd : Nat → Nat} {L : List T3} {dy : Nat → Nat} {day s k : Nat} (h : canB sd L dy day s k = true) (h2 : betB sd L (nxt sd L dy day s k) k = true) : nI k = oI (nxt sd L dy day s (k + 1)) := by
  show _ = oI (if _ then _ else _); rw [if_pos ⟨h, h2⟩]; rfl
theorem nxt_n {sd : Nat → Nat} {L : List T3} {dy : Nat → Nat} {day s k : Nat} (h : ¬ (canB sd L dy day s k = true ∧ betB sd L (nxt sd L dy day s k) k = true)) : oI (nxt sd L dy day s k) = oI (nxt sd L dy day s (k + 1)) := by
  show _ = oI (if _ then _ else _); rw [if_neg h]
theorem nxt_b {sd : Nat → Nat} {L : List T3} {dy : Nat → Nat} {day s n : Nat} (hn : n ≤ 1000) : ∀ k, nxt sd L dy day s n = some k → k < 1000 := fun k h => by have := (nxt_lt h).1; omega
theorem fsH_s {p : Nat → Bool} {n k : Nat} (h : p k = true) (hn : 0 < n) : fsH p n k = some k := by
  obtain ⟨m, rfl⟩ : ∃ m, n = m + 1 := ⟨n - 1, by omega⟩
  exact if_pos h
theorem fsH_n {p : Nat → Bool} {n k : Nat} (h : ¬ p k = true) (hn : 0 < n) : fsH p n k = fsH p (n - 1) (k + 1) := by
  obtain ⟨m, rfl⟩ : ∃ m, n = m + 1 := ⟨n - 1, by omega⟩
  exact if_neg h
theorem plcS_s {sd : Nat → Nat} {L : List T3} {st : Nat → Nat} {day c k : Nat} {s : DS} (h : nxt sd L s.1 day (st c) L.length = some k) : plcS sd L st day s c = (updN s.1 k day, updN s.2.1 k c, s.2.2 - 1) := by
  unfold plcS; rw [h]
theorem plcS_n {sd : Nat → Nat} {L : List T3} {st : Nat → Nat} {day c : Nat} {s : DS} (h : nxt sd L s.1 day (st c) L.length = none) : plcS sd L st day s c = s := by
  unfold plcS; rw [h]
theorem DyIs.put {σ : Tw} {s : DS} {m k day c : Nat} {n : Nat} (h : DyIs σ s m) : DyIs (wa1 (wa1 σ 22 k (nI day)) 23 k (nI c)) (updN s.1 k day, updN s.2.1 k c, n) m := by
  refine ⟨fun j hj => ?_, fun j hj hne => ?_⟩
  · show upd (σ 22) k (nI day) j = nI (updN s.1 k day j)
    unfold upd updN
    split
    · rfl
    · exact h.1 j hj
  · show upd (σ 23) k (nI c) j = nI (updN s.2.1 k c j)
    have hne : updN s.1 k day j ≠ 0 := hne
    unfold upd updN
    unfold updN at hne
    split
    · rfl
    · rename_i e
      rw [if_neg e] at hne
      exact h.2 j hj hne
/-- the outcome of a question that may be refused -/
def Qr (σ : Tw) (q : Nat × Option (Int32 × Int32) × Int32) (r : Int32) (σ' : Tw) : Prop :=
  Ch scQ (9 :: 10 :: scQN) σ σ' ∧ σ' 99 14 = nI q.1 ∧ (q.1 = 0 → r = q.2.2) ∧ (q.2.1 = none → σ' 99 9 = σ 99 9 ∧ σ' 99 10 = σ 99 10) ∧ ∀ w, q.2.1 = some w → σ' 99 9 = w.1 ∧ σ' 99 10 = w.2
theorem Qr.fail {σ τ : Tw} {k : Nat} {z r : Int32} {q : Nat × Option (Int32 × Int32) × Int32} (h : q = (k, none, z)) (hk : k ≠ 0) (hC : Ch scQ scQN σ τ) : Qr σ q r (ws1 (ws1 τ 14 (nI k)) 11 0) := by
  subst h
  exact ⟨((hC.mono (by decide) (by decide)).num 14 _ (by decide)).num 11 _ (by decide), rfl, fun e => absurd e hk, fun _ => ⟨hC.2 9 (by decide), hC.2 10 (by decide)⟩, fun w e => by cases e⟩
theorem Qr.ref {σ τ : Tw} {k : Nat} {z r a d : Int32} {q : Nat × Option (Int32 × Int32) × Int32} (h : q = (k, some (a, d), z)) (hk : k ≠ 0) (hC : Ch scQ scQN σ τ) : Qr σ q r (ws1 (ws1 (ws1 (ws1 τ 9 a) 10 d) 14 (nI k)) 11 1) := by
  subst h
  exact ⟨((((hC.mono (by decide) (by decide)).num 9 _ (by decide)).num 10 _ (by decide)).num 14 _ (by decide)).num 11 _ (by decide), rfl, fun e => absurd e hk, fun e => (by cases e), fun w e => by cases e; exact ⟨rfl, rfl⟩⟩
theorem Qr.ok {σ τ : Tw} {z r : Int32} {q : Nat × Option (Int32 × Int32) × Int32} (h : q = (0, none, z)) (hr : r = z) (hC : Ch scQ scQN σ τ) : Qr σ q r (ws1 τ 14 0) := by
  subst h
  exact ⟨(hC.mono (by decide) (by decide)).num 14 _ (by decide), rfl, fun _ => hr, fun _ => ⟨hC.2 9 (by decide), hC.2 10 (by decide)⟩, fun w e => by cases e⟩
theorem ah_t {st : Nat → Nat} {c o : Nat} (h : ahS st c o = true) : nI (cntB (ahS st c) o + 1) = nI (cntB (ahS st c) (o + 1)) := by
  show _ = nI (_ + if _ then 1 else 0); rw [if_pos h]
theorem ah_f {st : Nat → Nat} {c o : Nat} (h : ¬ ahS st c o = true) : nI (cntB (ahS st c) o + 0) = nI (cntB (ahS st c) (o + 1)) := by
  show _ = nI (_ + if _ then 1 else 0); rw [if_neg h]
/-- a run is one vat, or one of the first m pourings -/
def HasIx (L : List T3) (m a c : Nat) : Prop := a = c ∨ ∃ j, j < m ∧ idxL L a c L.length = some j
theorem LOk.ix {L : List T3} (h : LOk L) {k m : Nat} {e : T3} (hk : k < L.length) (hm : k ≤ m) (hg : L.getD k (0, 0, 0) = e) : HasIx L m e.1 e.2.2 ∧ HasIx L m (e.2.2 + 1) e.2.1 := by
  have := h k hk
  rw [hg] at this
  exact ⟨this.1.imp id (fun ⟨j, h1, h2⟩ => ⟨j, by omega, h2⟩), this.2.imp id (fun ⟨j, h1, h2⟩ => ⟨j, by omega, h2⟩)⟩
theorem strM_le {b : Blk} {st : Nat → Nat} {C : Nat} (h : StOf b st C) : strM st C ≤ 99999 := by
  unfold strM
  by_cases hc : C = 0
  · rw [if_pos hc]; exact Nat.zero_le _
  · rw [if_neg hc]
    obtain ⟨c1, ho1, hc1, -⟩ := ordC_ex (st := st) (C := C) (place := 0) (by omega)
    rw [ho1]
    have := h.2.1
    exact (h.2.2 c1 (by omega)).2
/-- why a plan can't be poured on days -/
def refD (n : Nat) (sd st : Nat → Nat) (C f l : Nat) (L : List T3) : Option (Int32 × Int32) := if l < n - 1 then (match hvy sd L (strM st C) with | none => none | some k => some (nI 6, nI k)) else some (nI 5, nI (max f (n - 1)))
theorem refD_v {n : Nat} {sd st : Nat → Nat} {C f l : Nat} {L : List T3} (h : ¬ l < n - 1) : refD n sd st C f l L = some (nI 5, nI (max f (n - 1))) := if_neg h
theorem refD_n {n : Nat} {sd st : Nat → Nat} {C f l : Nat} {L : List T3} (h : l < n - 1) (h2 : hvy sd L (strM st C) = none) : refD n sd st C f l L = none := by
  unfold refD; rw [if_pos h, h2]
theorem refD_h {n : Nat} {sd st : Nat → Nat} {C f l : Nat} {L : List T3} (h : l < n - 1) (h2 : hvy sd L (strM st C) ≠ none) : refD n sd st C f l L = some (nI 6, oI (hvy sd L (strM st C))) := by
  unfold refD; rw [if_pos h]
  cases e : hvy sd L (strM st C) with
  | none => exact absurd e h2
  | some k => rfl
theorem hvy_n {sd : Nat → Nat} {L : List T3} {s m : Nat} (hm : L.length = m) (h : hvy sd L s = none) : ∀ k, k < m → costK sd L k ≤ s := by
  intro k hk
  have := fsH_none h k (Nat.zero_le _) (by omega)
  simp at this; exact this
theorem cntB_all {p : Nat → Bool} : ∀ {n : Nat}, (∀ k, k < n → p k = true) → cntB p n = n
  | 0, _ => rfl
  | n + 1, h => by unfold cntB; rw [cntB_all (fun k hk => h k (by omega)), if_pos (h n (by omega))]
theorem runS_s {sd : Nat → Nat} {L : List T3} {st : Nat → Nat} {C fu t : Nat} {s : DS} (h : 0 < s.2.2) (hf : s.2.2 ≤ fu) : runS sd L st C (fu - 1) (t + 1) (dayS sd L st C (t + 1) s C) = runS sd L st C fu t s := by
  obtain ⟨m, rfl⟩ : ∃ m, fu = m + 1 := ⟨fu - 1, by omega⟩
  show _ = if _ then _ else _
  rw [if_neg (by omega)]; rfl
theorem runS_0 {sd : Nat → Nat} {L : List T3} {st : Nat → Nat} {C t : Nat} {s : DS} (h : s.2.2 = 0) : ∀ fu, runS sd L st C fu t s = (t, s)
  | 0 => rfl
  | fu + 1 => by show (if _ then _ else _) = _; rw [if_pos h]
theorem pl_place {σ σ' ω : Tw} {sd st : Nat → Nat} {L : List T3} {m t c : Nat} {s : DS} {r : Int32} (hLn : L.length = m) (h : (∃ k, nxt sd L s.1 t (st c) L.length = some k ∧ r = bI True ∧ σ' = wa1 (wa1 ω 22 k (nI t)) 23 k (nI c)) ∨ (nxt sd L s.1 t (st c) L.length = none ∧ r = bI False ∧ σ' = ω)) (hD : DyIs ω s m) (hC : Ch [22, 23] [24] σ ω) (hT : ω 99 24 = nI t) (hO : DsOk L t s) :
    DyIs σ' (plcS sd L st t s c) m ∧ Ch [22, 23] [24] σ σ' ∧ σ' 99 24 = nI t ∧ ∃ b : Prop, ∃ _ : Decidable b, r = bI b ∧ (b → 1 ≤ s.2.2 ∧ (plcS sd L st t s c).2.2 = s.2.2 - 1) ∧ (¬ b → (plcS sd L st t s c).2.2 = s.2.2) := by
  rcases h with ⟨k, hk, hr, rfl⟩ | ⟨hk, hr, rfl⟩
  · rw [plcS_s hk]
    refine ⟨hD.put, (hC.row 22 _ (by decide) (by decide)).row 23 _ (by decide) (by decide), hT, True, inferInstance, hr, fun _ => ⟨?_, rfl⟩, fun z => absurd trivial z⟩
    have h1 := nxt_lt hk
    have hk0 : s.1 k = 0 := by
      have := h1.2; unfold canB at this; simp at this; exact this.1.1.1
    rw [hO.2]
    have := cntB_lt (p := fun _ => false) (q := fun k => decide (s.1 k = 0)) (n := L.length) (j := k) (fun _ _ z => by cases z) h1.1 (by simp) (by simpa using hk0)
    omega
  · rw [plcS_n hk]
    exact ⟨hD, hC, hT, False, inferInstance, hr, fun z => absurd z (fun z => z), fun _ => rfl⟩
def qDays (b : Blk) (n np C : Nat) (sd st : Nat → Nat) (a : Int32) : Nat × Option (Int32 × Int32) × Int32 :=
  if nI 0 ≤ a ∧ a ≤ nI np - nI 1 then
    (match refD n sd st C (pF b a.toNatClampNeg) (pE b a.toNatClampNeg) (pL b a.toNatClampNeg) with | some w => (2, some w, 0) | none => (0, none, nI (sched sd (pL b a.toNatClampNeg) st C).1))
  else (1, none, 0)
def qPoured (b : Blk) (n np C : Nat) (sd st : Nat → Nat) (a k c : Int32) : Nat × Option (Int32 × Int32) × Int32 :=
  if nI 0 ≤ a ∧ a ≤ nI np - nI 1 then
    (if nI 0 ≤ k ∧ k ≤ nI (pE b a.toNatClampNeg - pF b a.toNatClampNeg) - nI 1 then
      (match refD n sd st C (pF b a.toNatClampNeg) (pE b a.toNatClampNeg) (pL b a.toNatClampNeg) with | some w => (3, some w, 0) | none => (0, none, if c = 0 then nI ((sched sd (pL b a.toNatClampNeg) st C).2.1 k.toNatClampNeg) else nI ((sched sd (pL b a.toNatClampNeg) st C).2.2.1 k.toNatClampNeg)))
     else (2, none, 0))
  else (1, none, 0)
def qPours (b : Blk) (n np C : Nat) (sd st : Nat → Nat) (a c : Int32) : Nat × Option (Int32 × Int32) × Int32 :=
  if (nI 0 ≤ a ∧ a ≤ nI np - nI 1) ∧ (nI 0 ≤ c ∧ c ≤ nI C - nI 1) then
    (match refD n sd st C (pF b a.toNatClampNeg) (pE b a.toNatClampNeg) (pL b a.toNatClampNeg) with | some w => (2, some w, 0) | none => (0, none, nI (cntB (fun k => decide ((sched sd (pL b a.toNatClampNeg) st C).2.2.1 k = c.toNatClampNeg)) (pE b a.toNatClampNeg - pF b a.toNatClampNeg))))
  else (1, none, 0)
theorem runS_ok {sd : Nat → Nat} {L : List T3} {st : Nat → Nat} {C : Nat} : ∀ (fu t : Nat) (s : DS), DsOk L t s → DsOk L (runS sd L st C fu t s).1 (runS sd L st C fu t s).2
  | 0, t, s, h => h
  | fu + 1, t, s, h => by
    unfold runS
    split
    · exact h
    · exact runS_ok fu (t + 1) _ (dayS_ok (by omega) ⟨fun k hk => Nat.le_succ_of_le (h.1 k hk), h.2⟩ C).1
theorem sched_ok (sd : Nat → Nat) (L : List T3) (st : Nat → Nat) (C : Nat) : DsOk L (sched sd L st C).1 (sched sd L st C).2 :=
  runS_ok _ _ _ ⟨fun _ _ => Nat.le_refl _, by rw [cntB_all (fun k _ => by simp)]⟩
theorem sched_all {sd : Nat → Nat} {L : List T3} {st : Nat → Nat} {C k : Nat} (hL : LOk L) (h0 : (sched sd L st C).2.2.2 = 0) (hk : k < L.length) : (sched sd L st C).2.1 k ≠ 0 := by
  intro e
  have h := (sched_ok sd L st C).2
  rw [h0] at h
  have := cntB_lt (p := fun _ => false) (q := fun k => decide ((sched sd L st C).2.1 k = 0)) (n := L.length) (j := k) (fun _ _ z => by cases z) hk (by simp) (by simpa using e)
  omega
theorem dayS_co {sd : Nat → Nat} {L : List T3} {st : Nat → Nat} {C day : Nat} {s : DS} (h : ∀ k, s.2.1 k < C + 1) : ∀ p, p ≤ C → ∀ k, (dayS sd L st C day s p).2.1 k < C + 1
  | 0, _ => h
  | p + 1, hp => by
    intro k
    have ih := dayS_co (sd := sd) (L := L) (st := st) (day := day) h p (by omega)
    obtain ⟨c, hc, hlt, -⟩ := ordC_ex (st := st) (show p < C by omega)
    show (plcS sd L st day (dayS sd L st C day s p) ((ordC st C p).getD 0)).2.1 k < C + 1
    rw [hc]
    unfold plcS
    split
    · exact ih k
    · show updN _ _ _ k < _
      unfold updN; split
      · show c < C + 1; omega
      · exact ih k
theorem runS_co {sd : Nat → Nat} {L : List T3} {st : Nat → Nat} {C : Nat} : ∀ (fu t : Nat) (s : DS), (∀ k, s.2.1 k < C + 1) → ∀ k, (runS sd L st C fu t s).2.2.1 k < C + 1
  | 0, t, s, h => h
  | fu + 1, t, s, h => by
    unfold runS
    split
    · exact h
    · exact runS_co fu (t + 1) _ (dayS_co h C (Nat.le_refl _))
theorem sched_co {b : Blk} {sd : Nat → Nat} {L : List T3} {st : Nat → Nat} {C m : Nat} (hS : StOf b st C) (_ : L.length = m) : ∀ k, k < m → (sched sd L st C).2.2.1 k < 1000 := fun k _ => by
  have := runS_co (sd := sd) (L := L) (st := st) (C := C) L.length 0 ((fun _ => 0), (fun _ => 0), L.length) (fun _ => by show 0 < _; omega) k
  have h2 := hS.2.1
  unfold sched
  omega
/-- which of two plans stands ahead, by what they cost -/
abbrev ahdP (x y : Int32) (o q : Nat) : Prop := if x = -1 ∨ y = -1 then (¬ x = -1 ∨ (y = -1 ∧ o < q)) else (x < y ∨ (x = y ∧ o < q))
def ahB (b : Blk) (n : Nat) (sd : Nat → Nat) (k o : Nat) : Bool := decide (¬ o = k ∧ ahdP (plCost n (pE b o) sd (pL b o)) (plCost n (pE b k) sd (pL b k)) o k)
def rkP (b : Blk) (n np : Nat) (sd : Nat → Nat) (k : Nat) : Nat := cntB (ahB b n sd k) np
def qRanked (b : Blk) (n np : Nat) (sd : Nat → Nat) (q : Int32) : Nat × Int32 := match fsH (fun k => decide (nI (rkP b n np sd k) = q)) np 0 with | some k => (0, nI k) | none => (1, 0)
theorem ahB_t {b : Blk} {n : Nat} {sd : Nat → Nat} {k o : Nat} (h : ¬ o = k ∧ ahdP (plCost n (pE b o) sd (pL b o)) (plCost n (pE b k) sd (pL b k)) o k) : nI (cntB (ahB b n sd k) o + 1) = nI (cntB (ahB b n sd k) (o + 1)) := by
  show _ = nI (_ + if _ then 1 else 0); rw [if_pos (by unfold ahB; exact decide_eq_true h)]
theorem ahB_f {b : Blk} {n : Nat} {sd : Nat → Nat} {k o : Nat} (h : ¬ (¬ o = k ∧ ahdP (plCost n (pE b o) sd (pL b o)) (plCost n (pE b k) sd (pL b k)) o k)) : nI (cntB (ahB b n sd k) o + 0) = nI (cntB (ahB b n sd k) (o + 1)) := by
  show _ = nI (_ + if _ then 1 else 0); rw [if_neg (by unfold ahB; exact fun z => h (of_decide_eq_true z))]

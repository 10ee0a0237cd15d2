/-! plain rows for the reference's walks -/
theorem cpy_0 (σ : Tw) {a : Nat} (b : Nat) {p q : Nat} : rw2 σ b (va_cpy (σ a) (σ b) p q 0) = σ := by
  have h : va_cpy (σ a) (σ b) p q 0 = σ b := by
    funext j
    unfold va_cpy
    rw [if_neg (by omega)]
  rw [h, rw2_id]
theorem cpy_f (f g : Nat → Int32) (p q k : Nat) : upd (va_cpy f g p q k) (q + k) (f (p + k)) = va_cpy f g p q (k + 1) := by
  funext j
  unfold upd va_cpy
  by_cases h : j = q + k
  · subst h
    rw [if_pos rfl, if_pos (by omega)]
    congr 1
    omega
  · rw [if_neg h]
    by_cases h2 : q ≤ j ∧ j < q + k
    · rw [if_pos h2, if_pos (by omega)]
    · rw [if_neg h2, if_neg (by omega)]
theorem cpy_s {σ : Tw} {a b p q k : Nat} (h : a ≠ b) : rw2 (rw2 σ b (va_cpy (σ a) (σ b) p q k)) b (upd (rw2 σ b (va_cpy (σ a) (σ b) p q k) b) (q + k) (rw2 σ b (va_cpy (σ a) (σ b) p q k) a (p + k))) = rw2 σ b (va_cpy (σ a) (σ b) p q (k + 1)) := by
  rw [rw2_rw2, rw2_s, rw2_n h, cpy_f]
/-- a run of vats that is there, of n sides -/
abbrev isRunP (n : Nat) (a b : Int32) : Prop := 0 ≤ a.toInt ∧ a.toInt ≤ b.toInt ∧ b.toInt < ((n - 1 : Nat) : Int)

theorem leI {a b : Int32} : a ≤ b ↔ a.toInt ≤ b.toInt := Int32.le_iff_toInt_le
theorem ltI {a b : Int32} : a < b ↔ a.toInt < b.toInt := Int32.lt_iff_toInt_lt
theorem subI {k : Nat} (h : k < 1000) : (nI k - nI 1).toInt = (k : Int) - 1 := pk_sub_toInt (by omega) (by decide)
theorem zI : (nI 0).toInt = 0 := nI_toInt (by decide)
theorem isRun_i {n : Nat} {a b : Int32} (h9 : n ≤ 9) (z : isRunP n a b) : nI 0 ≤ a ∧ a ≤ nI (n - 1) - nI 1 ∧ a ≤ b ∧ b ≤ nI (n - 1) - nI 1 := by
  obtain ⟨h1, h2, h3⟩ := z
  rw [leI, leI, leI, leI, subI (by omega), zI]
  omega
theorem isRun_o {n : Nat} {a b : Int32} (h9 : n ≤ 9) (h1 : nI 0 ≤ a) (h2 : a ≤ b) (h3 : b ≤ nI (n - 1) - nI 1) : isRunP n a b := by
  rw [leI] at h1 h2 h3
  rw [subI (by omega)] at h3
  rw [zI] at h1
  exact ⟨h1, h2, by omega⟩
/-- what a pouring costs, by a row of sides -/
def pourT (b : Nat → Int32) (i j k : Nat) : Int32 := b (1 + i) * b (1 + j + 1) * b (1 + k + 1)
theorem rd_n {σ : Tw} {r k j : Nat} {f : Nat → Int32} {v : Int32} (h : j ≠ k) : rw2 σ r (upd f k v) r j = f j := by
  rw [rw2_s]; exact if_neg h
theorem rd_s {σ : Tw} {r k : Nat} {f : Nat → Int32} {v : Int32} : rw2 σ r (upd f k v) r k = v := by
  rw [rw2_s]; exact if_pos rfl
theorem upd_s (f : Nat → Int32) (k : Nat) (v : Int32) : upd f k v k = v := if_pos rfl
theorem upd_n {f : Nat → Int32} {k j : Nat} {v : Int32} (h : j ≠ k) : upd f k v j = f j := if_neg h
/-- what differs between two states of the reference: the rows of Rs, the numbers of Ns at most -/
def Ch (Rs Ns : List Nat) (σ σ' : Tw) : Prop := (∀ i : Nat, i ∉ Rs → i ≠ 99 → σ' i = σ i) ∧ ∀ k : Nat, k ∉ Ns → σ' 99 k = σ 99 k
theorem Ch.rf (Rs Ns : List Nat) (σ : Tw) : Ch Rs Ns σ σ := ⟨fun _ _ _ => rfl, fun _ _ => rfl⟩
theorem Ch.tr {Rs Ns : List Nat} {a b c : Tw} (h1 : Ch Rs Ns a b) (h2 : Ch Rs Ns b c) : Ch Rs Ns a c := ⟨fun i h h9 => (h2.1 i h h9).trans (h1.1 i h h9), fun k h => (h2.2 k h).trans (h1.2 k h)⟩
theorem Ch.row {Rs Ns : List Nat} {a b : Tw} (h : Ch Rs Ns a b) (i : Nat) (f : Nat → Int32) (hi : i ∈ Rs) (h9 : i ≠ 99) : Ch Rs Ns a (rw2 b i f) := by
  refine ⟨fun j hj hj9 => ?_, fun k hk => ?_⟩
  · rw [rw2_n (show j ≠ i from fun e => hj (by rw [e]; exact hi))]; exact h.1 j hj hj9
  · rw [rw2_n (show (99 : Nat) ≠ i from fun e => h9 e.symm)]; exact h.2 k hk
theorem Ch.num {Rs Ns : List Nat} {a b : Tw} (h : Ch Rs Ns a b) (i : Nat) (v : Int32) (hi : i ∈ Ns) : Ch Rs Ns a (ws1 b i v) := by
  refine ⟨fun j hj hj9 => ?_, fun k hk => ?_⟩
  · show rw2 b 99 _ j = _
    rw [rw2_n hj9]; exact h.1 j hj hj9
  · show rw2 b 99 _ 99 k = _
    rw [rw2_s, upd_n (show k ≠ i from fun e => hk (by rw [e]; exact hi))]; exact h.2 k hk
theorem Ch.mono {Rs Ns Rs' Ns' : List Nat} {a b : Tw} (h : Ch Rs Ns a b) (h1 : ∀ i ∈ Rs, i ∈ Rs') (h2 : ∀ i ∈ Ns, i ∈ Ns') : Ch Rs' Ns' a b := ⟨fun i hi h9 => h.1 i (fun z => hi (h1 i z)) h9, fun k hk => h.2 k (fun z => hk (h2 k z))⟩
abbrev Blk : Type := Nat → Int32
def BEq (a b : Blk) : Prop := ∀ j : Nat, j < 112 → a j = b j
theorem BEq.rf (a : Blk) : BEq a a := fun _ _ => rfl
theorem BEq.sm {a b : Blk} (h : BEq a b) : BEq b a := fun j hj => (h j hj).symm
theorem BEq.tr {a b c : Blk} (h : BEq a b) (h2 : BEq b c) : BEq a c := fun j hj => (h j hj).trans (h2 j hj)
/-- what a change of the cellar comes to: 0 and its answer and the cellar then, or the number of what is thrown, with reason and detail where it's refused -/
abbrev OpR : Type := Nat × Option (Int32 × Int32) × Int32 × Blk
def opSide (b : Blk) (n : Nat) (v : Int32) : OpR := if nI 1 ≤ v ∧ v ≤ nI 50 then (if n = 9 then (2, some (nI 1, nI 9), 0, b) else (0, none, nI n, upd (upd b (1 + n) v) 0 (nI (n + 1)))) else (1, none, 0, b)
def opTake (b : Blk) (n : Nat) : OpR := if n = 0 then (1, some (nI 2, nI 0), 0, b) else (0, none, b n, upd (upd b 0 (nI (n - 1))) n 0)
def inN (a : Int32) (n : Nat) : Prop := nI 0 ≤ a ∧ a ≤ nI n - nI 1
theorem inN_of {a : Int32} {n : Nat} (hn : n < 1000) (h : nI 0 ≤ a ∧ a ≤ nI n - nI 1) : ∃ i, i < n ∧ a = nI i := by
  obtain ⟨h1, h2⟩ := h
  rw [leI] at h1 h2
  rw [subI hn] at h2
  rw [zI] at h1
  refine ⟨a.toInt.toNat, by omega, ?_⟩
  apply Int32.toInt_inj.mp
  rw [nI_toInt (by omega)]
  omega
theorem inN_mk {i n : Nat} (hn : n < 1000) (h : i < n) : nI 0 ≤ nI i ∧ nI i ≤ nI n - nI 1 := by
  rw [leI, leI, subI hn, zI, nI_toInt (by omega)]
  omega
def opSet (b : Blk) (n : Nat) (p v : Int32) : OpR := if nI 0 ≤ p ∧ p ≤ nI n - nI 1 then (if nI 1 ≤ v ∧ v ≤ nI 50 then (if b (1 + p.toNatClampNeg) = v then (3, some (nI 3, v), 0, b) else (0, none, b (1 + p.toNatClampNeg), upd b (1 + p.toNatClampNeg) v)) else (2, none, 0, b)) else (1, none, 0, b)
def opCoop (b : Blk) (c : Nat) (v : Int32) : OpR := if nI 1 ≤ v ∧ v ≤ nI 99999 then (if c = 4 then (2, some (nI 1, nI 4), 0, b) else (0, none, nI c, upd (upd b (11 + c) v) 10 (nI (c + 1)))) else (1, none, 0, b)
/-- the coopers' row without one of them -/
def shiftC (b : Blk) (p c : Nat) : Blk := fun j => if 11 + p ≤ j ∧ j < 11 + c then b (j + 1) else b j
def opLeave (b : Blk) (c : Nat) (p : Int32) : OpR := if nI 0 ≤ p ∧ p ≤ nI c - nI 1 then (0, none, b (11 + p.toNatClampNeg), upd (shiftC (upd b 10 (nI (c - 1))) p.toNatClampNeg (c - 1)) (11 + (c - 1)) 0) else (1, none, 0, b)
def scR : List Nat := [0, 15, 16, 17, 18, 19, 20]
def scN : List Nat := [9, 10, 11, 14, 21]
/-- the reference's core of a change -/
def Cr (σ : Tw) (o : OpR) (r : Int32) (σ' : Tw) : Prop :=
  Ch scR scN σ σ' ∧ σ' 99 14 = nI o.1 ∧ (o.1 = 0 → r = o.2.2.1 ∧ BEq (σ' 0) o.2.2.2) ∧ (o.2.1 = none → σ' 99 9 = σ 99 9 ∧ σ' 99 10 = σ 99 10 ∧ (o.1 ≠ 0 → σ' 99 11 = 0)) ∧ ∀ w, o.2.1 = some w → σ' 99 9 = w.1 ∧ σ' 99 10 = w.2 ∧ σ' 99 11 = 1
theorem Cr.fail {σ τ : Tw} {k : Nat} {b : Blk} {r z : Int32} {o : OpR} (h : o = (k, none, z, b)) (hk : k ≠ 0) (hC : Ch scR scN σ τ) (h9 : τ 99 9 = σ 99 9) (h10 : τ 99 10 = σ 99 10) : Cr σ o r (ws1 (ws1 τ 14 (nI k)) 11 0) := by
  subst h
  exact ⟨(hC.num 14 _ (by decide)).num 11 _ (by decide), rfl, fun e => absurd e hk, fun _ => ⟨h9, h10, fun _ => rfl⟩, fun w e => by cases e⟩
theorem Cr.ref {σ τ : Tw} {k : Nat} {b : Blk} {r z a d : Int32} {o : OpR} (h : o = (k, some (a, d), z, b)) (hk : k ≠ 0) (hC : Ch scR scN σ τ) : Cr σ o r (ws1 (ws1 (ws1 (ws1 τ 9 a) 10 d) 14 (nI k)) 11 1) := by
  subst h
  exact ⟨(((hC.num 9 _ (by decide)).num 10 _ (by decide)).num 14 _ (by decide)).num 11 _ (by decide), rfl, fun e => absurd e hk, fun e => (by cases e), fun w e => by cases e; exact ⟨rfl, rfl, rfl⟩⟩
theorem Cr.ok {σ τ : Tw} {b : Blk} {r z : Int32} {o : OpR} (h : o = (0, none, z, b)) (hr : r = z) (hb : BEq (τ 0) b) (hC : Ch scR scN σ τ) (h9 : τ 99 9 = σ 99 9) (h10 : τ 99 10 = σ 99 10) : Cr σ o r (ws1 τ 14 0) := by
  subst h
  exact ⟨hC.num 14 _ (by decide), rfl, fun _ => ⟨hr, hb⟩, fun _ => ⟨h9, h10, fun e => absurd rfl e⟩, fun w e => by cases e⟩
theorem shiftC_0 (b : Blk) (i : Nat) : shiftC b i i = b := by
  funext j; unfold shiftC; rw [if_neg (by omega)]
theorem lv_t10 {σ : Tw} {n i k : Nat} (hk : k ≤ n - 1) (h4 : n ≤ 4) : rw2 σ 0 (shiftC (upd (σ 0) 10 (nI (n - 1))) i k) 0 10 = nI (n - 1) := by
  rw [rw2_s]; unfold shiftC; rw [if_neg (by omega)]; exact upd_s _ _ _
theorem lv_step {σ : Tw} {n i k : Nat} (hk : i ≤ k) (hk2 : k < n - 1) (h4 : n ≤ 4) : rw2 (rw2 σ 0 (shiftC (upd (σ 0) 10 (nI (n - 1))) i k)) 0 (upd (rw2 σ 0 (shiftC (upd (σ 0) 10 (nI (n - 1))) i k) 0) (11 + k) (rw2 σ 0 (shiftC (upd (σ 0) 10 (nI (n - 1))) i k) 0 (11 + k + 1))) = rw2 σ 0 (shiftC (upd (σ 0) 10 (nI (n - 1))) i (k + 1)) := by
  rw [rw2_rw2, rw2_s]
  congr 1
  funext j
  by_cases h : j = 11 + k
  · subst h
    rw [upd_s]
    unfold shiftC
    rw [if_neg (by omega), if_pos (by omega)]
  · rw [upd_n h]
    unfold shiftC
    by_cases h2 : 11 + i ≤ j ∧ j < 11 + k
    · rw [if_pos h2, if_pos (by omega)]
    · rw [if_neg h2, if_neg (by omega)]

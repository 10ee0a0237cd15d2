/-! the abstract state: cellar, history (oldest first), snapshot, input, error, reason, detail, line -/
abbrev AS : Type := Blk × List Blk × Option Blk × List Nat × Int32 × Int32 × Int32 × List Nat
def HsIs (σ : Tw) (hs : List Blk) : Prop := σ 99 3 = nI hs.length ∧ hs.length ≤ 8 ∧ ∀ (i : Nat) (b : Blk), hs[i]? = some b → ∀ j : Nat, j < 112 → σ 2 (i * 112 + j) = b j
def push8 (hs : List Blk) (b : Blk) : List Blk := (if hs.length = 8 then hs.drop 1 else hs) ++ [b]
theorem push8_len (hs : List Blk) (b : Blk) (h : hs.length ≤ 8) : (push8 hs b).length ≤ 8 := by
  unfold push8; split <;> simp <;> omega
theorem push8_mem {hs : List Blk} {b c : Blk} (h : c ∈ push8 hs b) : c ∈ hs ∨ c = b := by
  unfold push8 at h
  rcases List.mem_append.mp h with h | h
  · left
    split at h
    · exact List.mem_of_mem_drop h
    · exact h
  · right; exact List.mem_singleton.mp h
def TRel (σ : Tw) (a : AS) : Prop :=
  BEq (σ 0) a.1 ∧ WFB a.1 ∧ HsIs σ a.2.1 ∧ (∀ b ∈ a.2.1, WFB b) ∧ σ 99 5 = bI (a.2.2.1 ≠ none) ∧ (∀ b, a.2.2.1 = some b → BEq (σ 4) b ∧ WFB b) ∧ InIs σ a.2.2.2.1 ∧ σ 99 8 = a.2.2.2.2.1 ∧ σ 99 9 = a.2.2.2.2.2.1 ∧ σ 99 10 = a.2.2.2.2.2.2.1 ∧ LnIs σ a.2.2.2.2.2.2.2 ∧ a.2.2.2.2.2.2.2.length ≤ 80 ∧ ∀ c ∈ a.2.2.2.2.2.2.2, c < 65536
def TOut (a : AS) (k : Nat) (v : Int32) (r : Int32) (σ' : Tw) : Prop := TRel σ' a ∧ σ' 99 14 = nI k ∧ (k = 0 → r = v)
theorem HsIs.same {σ τ : Tw} {hs : List Blk} (h : HsIs σ hs) (h2 : τ 2 = σ 2) (h3 : τ 99 3 = σ 99 3) : HsIs τ hs := ⟨by rw [h3]; exact h.1, h.2.1, by rw [h2]; exact h.2.2⟩
/-- nothing that lasts is written -/
theorem TRel.keep {σ τ : Tw} {a : AS} {Rs Ns : List Nat} (h : TRel σ a) (hC : Ch Rs Ns σ τ) (hr : ∀ i ∈ [0, 2, 4, 6, 12], i ∉ Rs) (hn : ∀ i ∈ [3, 5, 7, 8, 9, 10, 13], i ∉ Ns) : TRel τ a := by
  obtain ⟨h1, h2, h3, h4, h5, h6, h7, h8, h9, h10, h11, h12⟩ := h
  have r0 := hC.1 0 (hr 0 (by decide)) (by decide)
  have r2 := hC.1 2 (hr 2 (by decide)) (by decide)
  have r4 := hC.1 4 (hr 4 (by decide)) (by decide)
  have r6 := hC.1 6 (hr 6 (by decide)) (by decide)
  have r12 := hC.1 12 (hr 12 (by decide)) (by decide)
  exact ⟨by rw [r0]; exact h1, h2, h3.same r2 (hC.2 3 (hn 3 (by decide))), h4, by rw [hC.2 5 (hn 5 (by decide))]; exact h5, by rw [r4]; exact h6, h7.same r6 (hC.2 7 (hn 7 (by decide))), by rw [hC.2 8 (hn 8 (by decide))]; exact h8, by rw [hC.2 9 (hn 9 (by decide))]; exact h9, by rw [hC.2 10 (hn 10 (by decide))]; exact h10, h11.same r12 (hC.2 13 (hn 13 (by decide))), h12⟩
theorem TRel.qy {σ σ' : Tw} {a : AS} {q q' : Nat × Int32} {r : Int32} (h : TRel σ a) (hq : Qy σ q r σ') (e : q = q') : TOut a q'.1 q'.2 r σ' := by
  subst e
  exact ⟨h.keep hq.1 (by decide) (by decide), hq.2.1, hq.2.2⟩
def stepR (a : AS) (w : Option (Int32 × Int32)) : AS := match w with | none => a | some w => (a.1, a.2.1, a.2.2.1, a.2.2.2.1, a.2.2.2.2.1, w.1, w.2, a.2.2.2.2.2.2.2)
theorem TRel.qr {σ σ' : Tw} {a : AS} {q q' : Nat × Option (Int32 × Int32) × Int32} {r : Int32} (h : TRel σ a) (hq : Qr σ q r σ') (e : q = q') : TOut (stepR a q'.2.1) q'.1 q'.2.2 r σ' := by
  subst e
  obtain ⟨hC, h14, hv, hn, hs⟩ := hq
  refine ⟨?_, h14, hv⟩
  have h9 := h.2.2.2.2.2.2.2.2.1
  have h10 := h.2.2.2.2.2.2.2.2.2.1
  have hk : TRel (ws1 (ws1 σ' 9 (σ 99 9)) 10 (σ 99 10)) a := by
    refine h.keep (Rs := scQ) (Ns := scQN) ⟨fun i hi h99 => ?_, fun k hk => ?_⟩ (by decide) (by decide)
    · show rw2 (rw2 _ _ _) _ _ i = _
      rw [rw2_n h99, rw2_n h99]; exact hC.1 i hi h99
    · show upd (upd (σ' 99) 9 _) 10 _ k = _
      unfold upd
      split
      · rename_i e; rw [e]
      · split
        · rename_i e; rw [e]
        · exact hC.2 k (by simp [scQN] at hk ⊢; omega)
  obtain ⟨h1, h2, h3, h4, h5, h6, h7, h8, -, -, h11, h12⟩ := hk
  cases hw : q.2.1 with
  | none => exact ⟨h1, h2, h3, h4, h5, h6, h7, h8, (hn hw).1.trans h9, (hn hw).2.trans h10, h11, h12⟩
  | some w => exact ⟨h1, h2, h3, h4, h5, h6, h7, h8, (hs w hw).1, (hs w hw).2, h11, h12⟩
def stepA (a : AS) (o : OpR) : AS := if o.1 = 0 then (o.2.2.2, push8 a.2.1 a.1, a.2.2) else stepR a o.2.1
/-- two outcomes of a change: alike -/
def OpEq (o o' : OpR) : Prop := o.1 = o'.1 ∧ o.2.1 = o'.2.1 ∧ o.2.2.1 = o'.2.2.1 ∧ BEq o.2.2.2 o'.2.2.2
theorem BEq.up {b b' : Blk} (h : BEq b b') (k : Nat) (v : Int32) : BEq (upd b k v) (upd b' k v) := by
  intro j hj; unfold upd; split
  · rfl
  · exact h j hj
theorem oe_side {b b' : Blk} (h : WFB b) (he : BEq b b') (v : Int32) : OpEq (opSide b (nS b) v) (o_side b' v) := by
  have hw := h.congr he
  unfold o_side opSide
  rw [hw.2.1]
  split
  · split
    · exact ⟨rfl, rfl, rfl, he⟩
    · exact ⟨rfl, rfl, rfl, (he.up _ _).up _ _⟩
  · exact ⟨rfl, rfl, rfl, he⟩
theorem oe_set {b b' : Blk} (h : WFB b) (he : BEq b b') (p v : Int32) : OpEq (opSet b (nS b) p v) (o_set b' p v) := by
  have hw := h.congr he
  have h9 := h.2.1
  unfold o_set opSet
  rw [hw.2.1]
  split
  · rename_i hp
    obtain ⟨i, hi, rfl⟩ := inN_of (by omega) hp
    rw [nI_clamp (by omega), he (1 + i) (by omega)]
    split
    · split
      · exact ⟨rfl, rfl, rfl, he⟩
      · exact ⟨rfl, rfl, rfl, he.up _ _⟩
    · exact ⟨rfl, rfl, rfl, he⟩
  · exact ⟨rfl, rfl, rfl, he⟩
theorem oe_take {b b' : Blk} (h : WFB b) (he : BEq b b') : OpEq (opTake b (nS b)) (o_take b') := by
  have hw := h.congr he
  have h9 := h.2.1
  unfold o_take opTake
  rw [hw.2.1]
  split
  · exact ⟨rfl, rfl, rfl, he⟩
  · exact ⟨rfl, rfl, he _ (by omega), (he.up _ _).up _ _⟩
theorem oe_coop {b b' : Blk} (h : WFB b) (he : BEq b b') (v : Int32) : OpEq (opCoop b (nC b) v) (o_coop b' v) := by
  have hw := h.congr he
  unfold o_coop opCoop
  rw [hw.2.2.1]
  split
  · split
    · exact ⟨rfl, rfl, rfl, he⟩
    · exact ⟨rfl, rfl, rfl, (he.up _ _).up _ _⟩
  · exact ⟨rfl, rfl, rfl, he⟩
theorem oe_leave {b b' : Blk} (h : WFB b) (he : BEq b b') (p : Int32) : OpEq (opLeave b (nC b) p) (o_leave b' p) := by
  have hw := h.congr he
  have h4 := h.2.2.2.2.2.1.2.1
  unfold o_leave opLeave
  rw [hw.2.2.1]
  split
  · rename_i hp
    obtain ⟨i, hi, rfl⟩ := inN_of (by omega) hp
    rw [nI_clamp (by omega), he (11 + i) (by omega)]
    refine ⟨rfl, rfl, rfl, BEq.up (fun j hj => ?_) _ _⟩
    have h2 := he.up 10 (nI (nC b - 1))
    unfold shiftC
    split
    · exact h2 _ (by omega)
    · exact h2 _ hj
  · exact ⟨rfl, rfl, rfl, he⟩
theorem sdN_eq {b b' : Blk} (he : BEq b b') : sdN b = sdN b' := by
  funext i; unfold sdN; split
  · rw [he _ (by omega)]
  · rfl
theorem stN_eq {b b' : Blk} (he : BEq b b') : stN b = stN b' := by
  funext i; unfold stN; split
  · rw [he _ (by omega)]
  · rfl
theorem oe_plan {b b' : Blk} (h : WFB b) (he : BEq b b') (a c : Int32) : OpEq (opPlan b (nS b) (nP b) (sdN b) a c) (o_plan b' a c) := by
  have hw := h.congr he
  unfold o_plan opPlan
  rw [hw.2.1, hw.2.2.2, sdN_eq he]
  split
  · split
    · exact ⟨rfl, rfl, rfl, he⟩
    · refine ⟨rfl, rfl, rfl, BEq.up (fun j hj => ?_) _ _⟩
      unfold Gp
      split
      · rfl
      · split
        · rfl
        · split
          · rfl
          · split
            · rfl
            · exact he j hj
  · exact ⟨rfl, rfl, rfl, he⟩
theorem oe_drop {b b' : Blk} (h : WFB b) (he : BEq b b') (a : Int32) : OpEq (opDrop b (nP b) a) (o_drop b' a) := by
  have hw := h.congr he
  have h4 := h.2.2.2.2.2.2.2.1
  unfold o_drop opDrop
  rw [hw.2.2.2]
  split
  · refine ⟨rfl, rfl, rfl, fun j hj => ?_⟩
    show dropB b _ _ j = dropB b' _ _ j
    unfold dropB
    split
    · rfl
    · split
      · exact he _ (by omega)
      · split
        · rfl
        · exact he _ hj
  · exact ⟨rfl, rfl, rfl, he⟩
/-- what holds within a change: the state before is kept aside -/
theorem cpy_beq (f g : Nat → Int32) : BEq (va_cpy f g 0 0 112) f := by
  intro j hj; unfold va_cpy; rw [if_pos (by omega)]; congr 1; omega
/-- kept: the history when nothing was thrown -/
theorem hs_push {σ τ : Tw} {hs : List Blk} {gb : Blk} (h : HsIs σ hs) (hb : BEq (σ 1) gb) (hne : ¬ hs.length = 8) (hτ2 : τ 2 = va_cpy (σ 1) (σ 2) 0 (hs.length * 112) 112) (h3 : τ 99 3 = nI (hs.length + 1)) : HsIs τ (push8 hs gb) := by
  unfold push8
  rw [if_neg hne]
  have hl := h.2.1
  refine ⟨by rw [h3, List.length_append]; rfl, by rw [List.length_append]; show _ + 1 ≤ 8; omega, fun i b hi j hj => ?_⟩
  rw [hτ2]
  unfold va_cpy
  by_cases e : i < hs.length
  · rw [List.getElem?_append_left e] at hi
    rw [if_neg (by omega)]
    exact h.2.2 i b hi j hj
  · rw [List.getElem?_append_right (by omega)] at hi
    have : i - hs.length < 1 := (List.getElem?_eq_some_iff.mp hi).1
    have e2 : i = hs.length := by omega
    subst e2
    rw [Nat.sub_self] at hi
    cases hi
    rw [if_pos (by omega)]
    rw [← hb j hj]
    congr 1; omega
theorem hs_shift {σ τ : Tw} {hs : List Blk} (h : HsIs σ hs) (h8 : hs.length = 8) (hτ2 : τ 2 = fun j => if j < 784 then σ 2 (j + 112) else σ 2 j) (h3 : τ 99 3 = nI 7) : HsIs τ (hs.drop 1) := by
  refine ⟨by rw [h3, List.length_drop, h8], by rw [List.length_drop]; omega, fun i b hi j hj => ?_⟩
  rw [List.getElem?_drop] at hi
  have hl := (List.getElem?_eq_some_iff.mp hi).1
  rw [hτ2]
  dsimp only
  rw [if_pos (by omega), ← h.2.2 (1 + i) b hi j hj]
  congr 1; omega
/-- inside a change: what was is kept aside, the core has been done -/
def Mid (σ : Tw) (a : AS) (o : OpR) (r : Int32) (τ : Tw) : Prop := ∃ σ1, σ1 = rw2 σ 1 (va_cpy (σ 0) (σ 1) 0 0 112) ∧ TRel σ a ∧ Cr σ1 o r τ
theorem Cr.eq {σ τ : Tw} {o o' : OpR} {r : Int32} (h : Cr σ o r τ) (e : OpEq o o') : Cr σ o' r τ := by
  obtain ⟨h1, h2, h3, h4, h5⟩ := h
  obtain ⟨e1, e2, e3, e4⟩ := e
  exact ⟨h1, by rw [← e1]; exact h2, fun z => ⟨by rw [← e3]; exact (h3 (e1.trans z)).1, ((h3 (e1.trans z)).2).tr e4⟩, fun z => by rw [← e1]; exact h4 (e2.trans z), fun w z => h5 w (e2.trans z)⟩
/-- what 'kept' makes of it -/
def KeptP (τ : Tw) (hs : List Blk) (v : Int32) (r : Int32) (ρ : Tw) : Prop :=
  (¬ τ 99 14 = 0 → ρ = rw2 τ 0 (va_cpy (τ 1) (τ 0) 0 0 112)) ∧ (τ 99 14 = 0 → r = v ∧ Ch [2] [3] τ ρ ∧ ∀ gb, BEq (τ 1) gb → HsIs ρ (push8 hs gb))
theorem tr_done {σ τ ρ : Tw} {a : AS} {o : OpR} {v r : Int32} (h : TRel σ a) (hC : Cr (rw2 σ 1 (va_cpy (σ 0) (σ 1) 0 0 112)) o v τ) (hw : WFB o.2.2.2) (hk : KeptP τ a.2.1 v r ρ) (ho : o.1 < 1000) (hz : o.1 = 0 → o.2.1 = none) : TOut (stepA a o) o.1 o.2.2.1 r ρ := by
  obtain ⟨hC1, h14, hOk, hN, hS⟩ := hC
  obtain ⟨h1, h2, h3, h4, h5, h6, h7, h8, h9, h10, h11, h12⟩ := h
  have c1 : ∀ i, i ∉ scR → i ≠ 99 → i ≠ 1 → τ i = σ i := fun i a b c => (hC1.1 i a b).trans (rw2_n c)
  have n1 : ∀ k, k ∉ scN → τ 99 k = σ 99 k := fun k hk => (hC1.2 k hk).trans (by rw [rw2_n (by decide)])
  have hb1 : BEq (τ 1) a.1 := by
    rw [hC1.1 1 (by decide) (by decide), rw2_s]
    exact (cpy_beq _ _).tr h1
  by_cases e : o.1 = 0
  · have e14 : τ 99 14 = 0 := by rw [h14, e]; rfl
    obtain ⟨hr, hc, hh⟩ := hk.2 e14
    obtain ⟨hv, hg⟩ := hOk e
    obtain ⟨k9, k10, -⟩ := hN (hz e)
    unfold stepA
    rw [if_pos e]
    refine ⟨⟨?_, hw, hh _ hb1, fun b hb => ?_, ?_, ?_, ?_, ?_, ?_, ?_, ?_, h12⟩, ?_, fun _ => hr.trans hv⟩
    · rw [hc.1 0 (by decide) (by decide)]; exact hg
    · rcases push8_mem hb with q | q
      · exact h4 b q
      · subst q; exact h2
    · rw [hc.2 5 (by decide), n1 5 (by decide)]; exact h5
    · rw [hc.1 4 (by decide) (by decide), c1 4 (by decide) (by decide) (by decide)]; exact h6
    · exact h7.same ((hc.1 6 (by decide) (by decide)).trans (c1 6 (by decide) (by decide) (by decide))) ((hc.2 7 (by decide)).trans (n1 7 (by decide)))
    · exact ((hc.2 8 (by decide)).trans (n1 8 (by decide))).trans h8
    · exact ((hc.2 9 (by decide)).trans (k9.trans (by rw [rw2_n (by decide)]))).trans h9
    · exact ((hc.2 10 (by decide)).trans (k10.trans (by rw [rw2_n (by decide)]))).trans h10
    · exact h11.same ((hc.1 12 (by decide) (by decide)).trans (c1 12 (by decide) (by decide) (by decide))) ((hc.2 13 (by decide)).trans (n1 13 (by decide)))
    · rw [hc.2 14 (by decide), h14]
  · have e14 : ¬ τ 99 14 = 0 := by
      rw [h14]; intro z
      have := (nI_eq (a := o.1) (b := 0) (by omega) (by decide)).mp (z.trans nI_0.symm)
      exact e this
    have hρ := hk.1 e14
    subst hρ
    unfold stepA
    rw [if_neg e]
    have base : TRel (rw2 τ 0 (va_cpy (τ 1) (τ 0) 0 0 112)) (a.1, a.2.1, a.2.2.1, a.2.2.2.1, a.2.2.2.2.1, τ 99 9, τ 99 10, a.2.2.2.2.2.2.2) := by
      refine ⟨?_, h2, h3.same ?_ ?_, h4, ?_, ?_, h7.same ?_ ?_, ?_, ?_, ?_, h11.same ?_ ?_, h12⟩
      · rw [rw2_s]; exact (cpy_beq _ _).tr hb1
      · rw [rw2_n (by decide)]; exact c1 2 (by decide) (by decide) (by decide)
      · rw [rw2_n (by decide)]; exact n1 3 (by decide)
      · rw [rw2_n (by decide), n1 5 (by decide)]; exact h5
      · rw [rw2_n (by decide), c1 4 (by decide) (by decide) (by decide)]; exact h6
      · rw [rw2_n (by decide)]; exact c1 6 (by decide) (by decide) (by decide)
      · rw [rw2_n (by decide)]; exact n1 7 (by decide)
      · rw [rw2_n (by decide)]; exact (n1 8 (by decide)).trans h8
      · rw [rw2_n (by decide)]
      · rw [rw2_n (by decide)]
      · rw [rw2_n (by decide)]; exact c1 12 (by decide) (by decide) (by decide)
      · rw [rw2_n (by decide)]; exact n1 13 (by decide)
    refine ⟨?_, by rw [rw2_n (by decide)]; exact h14, fun z => absurd z e⟩
    cases hw2 : o.2.1 with
    | none =>
      obtain ⟨k9, k10, -⟩ := hN hw2
      have e9 : τ 99 9 = a.2.2.2.2.2.1 := k9.trans h9
      have e10 : τ 99 10 = a.2.2.2.2.2.2.1 := k10.trans h10
      rw [e9, e10] at base
      exact base
    | some w =>
      obtain ⟨k9, k10, -⟩ := hS w hw2
      rw [k9, k10] at base
      exact base
theorem TRel.f {σ : Tw} {a : AS} (h : TRel σ a) : WFB (σ 0) ∧ nS (σ 0) = nS a.1 ∧ nC (σ 0) = nC a.1 ∧ nP (σ 0) = nP a.1 := h.2.1.congr h.1.sm
theorem kp_step {σ : Tw} {j : Nat} : rw2 (rw2 σ 2 (fun i => if i < j then σ 2 (i + 112) else σ 2 i)) 2 (upd (rw2 σ 2 (fun i => if i < j then σ 2 (i + 112) else σ 2 i) 2) j (rw2 σ 2 (fun i => if i < j then σ 2 (i + 112) else σ 2 i) 2 (j + 112))) = rw2 σ 2 (fun i => if i < j + 1 then σ 2 (i + 112) else σ 2 i) := by
  rw [rw2_rw2, rw2_s]
  congr 1
  funext i
  unfold upd
  by_cases e : i = j
  · subst e; rw [if_pos rfl, if_neg (by omega), if_pos (by omega)]
  · rw [if_neg e]
    dsimp only
    by_cases e2 : i < j
    · rw [if_pos e2, if_pos (by omega)]
    · rw [if_neg e2, if_neg (by omega)]
theorem kp_8 {σ : Tw} {hs : List Blk} {gb : Blk} (hH : HsIs σ hs) (hb : BEq (σ 1) gb) (h28 : hs.length = 8) (h7 : hs.length - 1 = 7) :
    HsIs (ws1 (rw2 (ws1 (rw2 σ 2 (fun i => if i < 784 then σ 2 (i + 112) else σ 2 i)) 3 (nI (hs.length - 1))) 2 (va_cpy (ws1 (rw2 σ 2 (fun i => if i < 784 then σ 2 (i + 112) else σ 2 i)) 3 (nI (hs.length - 1)) 1) (ws1 (rw2 σ 2 (fun i => if i < 784 then σ 2 (i + 112) else σ 2 i)) 3 (nI (hs.length - 1)) 2) 0 ((hs.length - 1) * 112) 112)) 3 (nI (hs.length - 1 + 1))) (push8 hs gb) := by
  have h1 : HsIs (ws1 (rw2 σ 2 (fun i => if i < 784 then σ 2 (i + 112) else σ 2 i)) 3 (nI (hs.length - 1))) (hs.drop 1) := hs_shift hH h28 rfl (by rw [h7]; rfl)
  have hl : (hs.drop 1).length = hs.length - 1 := by rw [List.length_drop]
  have h2 := hs_push (τ := ws1 (rw2 (ws1 (rw2 σ 2 (fun i => if i < 784 then σ 2 (i + 112) else σ 2 i)) 3 (nI (hs.length - 1))) 2 (va_cpy (ws1 (rw2 σ 2 (fun i => if i < 784 then σ 2 (i + 112) else σ 2 i)) 3 (nI (hs.length - 1)) 1) (ws1 (rw2 σ 2 (fun i => if i < 784 then σ 2 (i + 112) else σ 2 i)) 3 (nI (hs.length - 1)) 2) 0 ((hs.length - 1) * 112) 112)) 3 (nI (hs.length - 1 + 1))) h1 (gb := gb) hb (by rw [hl]; omega) (by rw [hl]; rfl) (by rw [hl]; rfl)
  have e : push8 (hs.drop 1) gb = push8 hs gb := by
    unfold push8
    rw [if_neg (by rw [hl]; omega), if_pos h28]
  rw [e] at h2
  exact h2
theorem ok_side (b : Blk) (v : Int32) : (o_side b v).1 < 1000 ∧ ((o_side b v).1 = 0 → (o_side b v).2.1 = none) := by
  unfold o_side opSide; split
  · split
    · exact ⟨Nat.le_of_ble_eq_true rfl, fun z => by cases z⟩
    · exact ⟨Nat.le_of_ble_eq_true rfl, fun _ => rfl⟩
  · exact ⟨Nat.le_of_ble_eq_true rfl, fun _ => rfl⟩
theorem ok_set (b : Blk) (p v : Int32) : (o_set b p v).1 < 1000 ∧ ((o_set b p v).1 = 0 → (o_set b p v).2.1 = none) := by
  unfold o_set opSet; split
  · split
    · split
      · exact ⟨Nat.le_of_ble_eq_true rfl, fun z => by cases z⟩
      · exact ⟨Nat.le_of_ble_eq_true rfl, fun _ => rfl⟩
    · exact ⟨Nat.le_of_ble_eq_true rfl, fun _ => rfl⟩
  · exact ⟨Nat.le_of_ble_eq_true rfl, fun _ => rfl⟩
theorem ok_take (b : Blk) : (o_take b).1 < 1000 ∧ ((o_take b).1 = 0 → (o_take b).2.1 = none) := by
  unfold o_take opTake; split
  · exact ⟨Nat.le_of_ble_eq_true rfl, fun z => by cases z⟩
  · exact ⟨Nat.le_of_ble_eq_true rfl, fun _ => rfl⟩
theorem ok_coop (b : Blk) (v : Int32) : (o_coop b v).1 < 1000 ∧ ((o_coop b v).1 = 0 → (o_coop b v).2.1 = none) := by
  unfold o_coop opCoop; split
  · split
    · exact ⟨Nat.le_of_ble_eq_true rfl, fun z => by cases z⟩
    · exact ⟨Nat.le_of_ble_eq_true rfl, fun _ => rfl⟩
  · exact ⟨Nat.le_of_ble_eq_true rfl, fun _ => rfl⟩
theorem ok_leave (b : Blk) (p : Int32) : (o_leave b p).1 < 1000 ∧ ((o_leave b p).1 = 0 → (o_leave b p).2.1 = none) := by
  unfold o_leave opLeave; split
  · exact ⟨Nat.le_of_ble_eq_true rfl, fun _ => rfl⟩
  · exact ⟨Nat.le_of_ble_eq_true rfl, fun _ => rfl⟩
theorem ok_plan (b : Blk) (u v : Int32) : (o_plan b u v).1 < 1000 ∧ ((o_plan b u v).1 = 0 → (o_plan b u v).2.1 = none) := by
  unfold o_plan opPlan; split
  · split
    · exact ⟨Nat.le_of_ble_eq_true rfl, fun z => by cases z⟩
    · exact ⟨Nat.le_of_ble_eq_true rfl, fun _ => rfl⟩
  · exact ⟨Nat.le_of_ble_eq_true rfl, fun _ => rfl⟩
theorem ok_drop (b : Blk) (p : Int32) : (o_drop b p).1 < 1000 ∧ ((o_drop b p).1 = 0 → (o_drop b p).2.1 = none) := by
  unfold o_drop opDrop; split
  · exact ⟨Nat.le_of_ble_eq_true rfl, fun _ => rfl⟩
  · exact ⟨Nat.le_of_ble_eq_true rfl, fun _ => rfl⟩
theorem rs_e {r0 r20 r26 r38 r51 : Nat → Int32} {k v1 v2 : Nat} (h20 : r20 = upd r0 k (nI 101)) (h26 : r26 = r20) (h38 : r38 = r26) (h51 : r51 = upd r38 (k + 1) (nI v1)) : WdIs (upd r51 (k + 2) (nI v2)) k (101, v1, v2) := by
  subst h20; subst h26; subst h38; subst h51
  refine ⟨?_, fun _ => ?_, fun _ => upd_s _ _ _⟩
  · rw [upd_n (by omega), upd_n (by omega)]; exact upd_s _ _ _
  · rw [upd_n (by omega)]; exact upd_s _ _ _
theorem rs_1 {r0 r1 : Nat → Int32} {k c v : Nat} (hc : r0 k = nI c) (h1 : r1 = r0) (hne : ¬ (c = 101 ∨ c = 112)) (w : Nat) : WdIs (upd r1 (k + 1) (nI v)) k (c, v, w) := by
  subst h1
  exact ⟨by rw [upd_n (by omega)]; exact hc, fun _ => upd_s _ _ _, fun z => absurd z hne⟩
theorem rs_2 {r0 r1 r2 : Nat → Int32} {k c v w : Nat} (hc : r0 k = nI c) (h1 : r1 = r0) (h2 : r2 = upd r1 (k + 1) (nI v)) : WdIs (upd r2 (k + 2) (nI w)) k (c, v, w) := by
  subst h1; subst h2
  exact ⟨by rw [upd_n (by omega), upd_n (by omega)]; exact hc, fun _ => by rw [upd_n (by omega)]; exact upd_s _ _ _, fun _ => upd_s _ _ _⟩
theorem readO_99 {t : List Nat} {p : Nat} (h : t[p]? = some 99) : readO t p = ((numF t 5 (needF t 114 (needF t 101 (needF t 112 (needF t 111 (needF t 111 (p + 1, false))))))).1, (99, (numF t 5 (needF t 114 (needF t 101 (needF t 112 (needF t 111 (needF t 111 (p + 1, false))))))).2, 0)) := if_pos h
theorem readO_112 {t : List Nat} {p : Nat} (h : t[p]? = some 112) : readO t p = ((numF t 1 (numF t 1 (needF t 110 (needF t 97 (needF t 108 (p + 1, false))))).1).1, (112, (numF t 1 (needF t 110 (needF t 97 (needF t 108 (p + 1, false))))).2, (numF t 1 (numF t 1 (needF t 110 (needF t 97 (needF t 108 (p + 1, false))))).1).2)) := by
  unfold readO; rw [if_neg (by rw [h]; simp), if_pos h]
theorem readO_115 {t : List Nat} {p : Nat} (h : t[p]? = some 115) : readO t p = readS t (p + 1) := by
  unfold readO; rw [if_neg (by rw [h]; simp), if_neg (by rw [h]; simp), if_pos h]
theorem readO_116 {t : List Nat} {p : Nat} (h : t[p]? = some 116) : readO t p = (needF t 101 (needF t 107 (needF t 97 (p + 1, false))), (116, 0, 0)) := by
  unfold readO; rw [if_neg (by rw [h]; simp), if_neg (by rw [h]; simp), if_neg (by rw [h]; simp), if_pos h]
theorem readO_d {t : List Nat} {p : Nat} (h1 : ¬ t[p]? = some 99) (h2 : ¬ t[p]? = some 112) (h3 : ¬ t[p]? = some 115) (h4 : ¬ t[p]? = some 116) : readO t p = ((p, true), (0, 0, 0)) := by
  unfold readO; rw [if_neg h1, if_neg h2, if_neg h3, if_neg h4]
theorem lt_get {t : List Nat} {p c : Nat} (h : t[p]? = some c) : p + 1 ≤ t.length := (List.getElem?_eq_some_iff.mp h).1
/-- an order done to a block -/
def opO (b : Blk) (o : Ord3) : OpR := if o.1 = 115 then o_side b (nI o.2.1) else if o.1 = 101 then o_set b (nI o.2.1) (nI o.2.2) else if o.1 = 116 then o_take b else if o.1 = 99 then o_coop b (nI o.2.1) else o_plan b (nI o.2.1) (nI o.2.2)
def OrdOk (o : Ord3) : Prop := o.1 = 99 ∨ o.1 = 101 ∨ o.1 = 112 ∨ o.1 = 115 ∨ o.1 = 116
theorem opO_115 {b : Blk} {o : Ord3} (h : o.1 = 115) : opO b o = o_side b (nI o.2.1) := if_pos h
theorem opO_101 {b : Blk} {o : Ord3} (h : o.1 = 101) : opO b o = o_set b (nI o.2.1) (nI o.2.2) := by unfold opO; rw [if_neg (by omega), if_pos h]
theorem opO_116 {b : Blk} {o : Ord3} (h : o.1 = 116) : opO b o = o_take b := by unfold opO; rw [if_neg (by omega), if_neg (by omega), if_pos h]
theorem opO_99 {b : Blk} {o : Ord3} (h : o.1 = 99) : opO b o = o_coop b (nI o.2.1) := by unfold opO; rw [if_neg (by omega), if_neg (by omega), if_neg (by omega), if_pos h]
theorem opO_112 {b : Blk} {o : Ord3} (h : o.1 = 112) : opO b o = o_plan b (nI o.2.1) (nI o.2.2) := by unfold opO; rw [if_neg (by omega), if_neg (by omega), if_neg (by omega), if_neg (by omega)]
theorem opO_eq {b b' : Blk} (h : WFB b) (he : BEq b b') {o : Ord3} (ho : OrdOk o) : OpEq (opO b o) (opO b' o) := by
  rcases ho with e | e | e | e | e
  · rw [opO_99 e, opO_99 e]; exact oe_coop h he _
  · rw [opO_101 e, opO_101 e]; exact oe_set h he _ _
  · rw [opO_112 e, opO_112 e]; exact oe_plan h he _ _
  · rw [opO_115 e, opO_115 e]; exact oe_side h he _
  · rw [opO_116 e, opO_116 e]; exact oe_take h he
theorem opO_wf {b : Blk} (h : WFB b) {o : Ord3} (ho : OrdOk o) : WFB (opO b o).2.2.2 ∧ (opO b o).1 < 1000 ∧ ((opO b o).1 = 0 → (opO b o).2.1 = none) := by
  rcases ho with e | e | e | e | e
  · rw [opO_99 e]; exact ⟨wf_coop h _, ok_coop _ _⟩
  · rw [opO_101 e]; exact ⟨wf_set h _ _, ok_set _ _ _⟩
  · rw [opO_112 e]; exact ⟨wf_plan h _ _, ok_plan _ _ _⟩
  · rw [opO_115 e]; exact ⟨wf_side h _, ok_side _ _⟩
  · rw [opO_116 e]; exact ⟨wf_take h, ok_take _⟩
theorem readS_ok {t : List Nat} {p : Nat} : OrdOk (readS t p).2 := by
  unfold readS; split
  · exact Or.inr (Or.inl rfl)
  · exact Or.inr (Or.inr (Or.inr (Or.inl rfl)))
theorem readO_ok {t : List Nat} {p : Nat} (h : ¬ (readO t p).1.2 = true) : OrdOk (readO t p).2 := by
  unfold readO at h ⊢
  split
  · exact Or.inl rfl
  · split
    · exact Or.inr (Or.inr (Or.inl rfl))
    · split
      · exact readS_ok
      · split
        · exact Or.inr (Or.inr (Or.inr (Or.inr rfl)))
        · rename_i h1 h2 h3 h4
          rw [if_neg h1, if_neg h2, if_neg h3, if_neg h4] at h
          exact absurd rfl h
theorem readS_le {t : List Nat} {p : Nat} (h : p ≤ t.length) : p ≤ (readS t p).1.1 ∧ (readS t p).1.1 ≤ t.length := by
  have a := fun c (s : PS) (h : s.1 ≤ t.length) => need_le (t := t) (c := c) h
  have b := fun m (s : PS) (h : s.1 ≤ t.length) => numF_le (t := t) (m := m) h
  unfold readS; split
  · have h1 := a 101 (p, false) h
    have h2 := a 116 _ h1.2
    have h3 := b 1 _ h2.2
    have h4 := b 2 _ h3.2
    dsimp only at *; omega
  · have h1 := a 105 (p, false) h
    have h2 := a 100 _ h1.2
    have h3 := a 101 _ h2.2
    have h4 := b 2 _ h3.2
    dsimp only at *; omega
theorem readO_le {t : List Nat} {p : Nat} (h : p ≤ t.length) : p ≤ (readO t p).1.1 ∧ (readO t p).1.1 ≤ t.length ∧ (¬ (readO t p).1.2 = true → p + 1 ≤ (readO t p).1.1) := by
  have a := fun c (s : PS) (h : s.1 ≤ t.length) => need_le (t := t) (c := c) h
  have b := fun m (s : PS) (h : s.1 ≤ t.length) => numF_le (t := t) (m := m) h
  by_cases e1 : t[p]? = some 99
  · have hp := lt_get e1
    rw [readO_99 e1]
    have h1 := a 111 (p + 1, false) hp
    have h2 := a 111 _ h1.2
    have h3 := a 112 _ h2.2
    have h4 := a 101 _ h3.2
    have h5 := a 114 _ h4.2
    have h6 := b 5 _ h5.2
    dsimp only at *; omega
  by_cases e2 : t[p]? = some 112
  · have hp := lt_get e2
    rw [readO_112 e2]
    have h1 := a 108 (p + 1, false) hp
    have h2 := a 97 _ h1.2
    have h3 := a 110 _ h2.2
    have h4 := b 1 _ h3.2
    have h5 := b 1 _ h4.2
    dsimp only at *; omega
  by_cases e3 : t[p]? = some 115
  · have hp := lt_get e3
    rw [readO_115 e3]
    have := readS_le (t := t) hp
    omega
  by_cases e4 : t[p]? = some 116
  · have hp := lt_get e4
    rw [readO_116 e4]
    have h1 := a 97 (p + 1, false) hp
    have h2 := a 107 _ h1.2
    have h3 := a 101 _ h2.2
    dsimp only at *; omega
  · rw [readO_d e1 e2 e3 e4]
    exact ⟨Nat.le_refl _, h, fun z => absurd rfl z⟩
/-- all orders of a text -/
def rdL (t : List Nat) : Nat → Nat → List Ord3 × PS
  | 0, p => ([], (p, true))
  | f + 1, p => if (readO t p).1.2 = true then ([], (readO t p).1) else if t[(readO t p).1.1]? = some 59 then ((readO t p).2 :: (rdL t f ((readO t p).1.1 + 1)).1, (rdL t f ((readO t p).1.1 + 1)).2) else ([(readO t p).2], (readO t p).1)
def rdAll (t : List Nat) : List Ord3 × PS := rdL t (t.length + 1) 0
/-- orders done one behind the other -/
def runB : Blk → List Ord3 → Nat → OpR
  | b, [], n => (0, none, nI n, b)
  | b, o :: os, n => if (opO b o).1 = 0 then runB (opO b o).2.2.2 os n else ((if (opO b o).2.1 = none then 1 else 2), (opO b o).2.1, 0, b)
theorem runB_wf : ∀ (os : List Ord3) (b : Blk) (n : Nat), WFB b → (∀ o ∈ os, OrdOk o) → WFB (runB b os n).2.2.2 ∧ (runB b os n).1 < 1000 ∧ ((runB b os n).1 = 0 → (runB b os n).2.1 = none)
  | [], b, n, h, _ => ⟨h, by show 0 < 1000; omega, fun _ => rfl⟩
  | o :: os, b, n, h, ho => by
    have hw := opO_wf h (ho o List.mem_cons_self)
    unfold runB
    split
    · exact runB_wf os _ n hw.1 (fun o h => ho o (List.mem_cons_of_mem _ h))
    · refine ⟨h, ?_, fun z => ?_⟩
      · show (if _ then 1 else 2) < 1000
        split <;> omega
      · exfalso
        have : (if (opO b o).2.1 = none then 1 else 2) = 0 := z
        split at this <;> omega
def runA (a : AS) : AS × Nat × Int32 :=
  if (rdAll a.2.2.2.1).2.2 = true ∨ (rdAll a.2.2.2.1).2.1 < a.2.2.2.1.length then ((a.1, a.2.1, a.2.2.1, [], nI (rdAll a.2.2.2.1).2.1, a.2.2.2.2.2), 1, 0)
  else (stepA (a.1, a.2.1, a.2.2.1, [], -1, a.2.2.2.2.2) (runB a.1 (rdAll a.2.2.2.1).1 (rdAll a.2.2.2.1).1.length), (runB a.1 (rdAll a.2.2.2.1).1 (rdAll a.2.2.2.1).1.length).1, (runB a.1 (rdAll a.2.2.2.1).1 (rdAll a.2.2.2.1).1.length).2.2.1)
/-- all orders read stand in the row of words -/
def WdAll (r : Nat → Int32) (os : List Ord3) : Prop := ∀ (i : Nat) (o : Ord3), os[i]? = some o → WdIs r (3 * i) o ∧ OrdOk o
theorem WdAll.push {r r' : Nat → Int32} {os : List Ord3} {o : Ord3} (h : WdAll r os) (hr : ∀ j, j < 3 * os.length → r' j = r j) (h2 : WdIs r' (3 * os.length) o) (ho : OrdOk o) : WdAll r' (os ++ [o]) := by
  intro i q hq
  by_cases hi : i < os.length
  · rw [List.getElem?_append_left hi] at hq
    obtain ⟨⟨w1, w2, w3⟩, w4⟩ := h i q hq
    exact ⟨⟨by rw [hr _ (by omega)]; exact w1, fun z => by rw [hr _ (by omega)]; exact w2 z, fun z => by rw [hr _ (by omega)]; exact w3 z⟩, w4⟩
  · rw [List.getElem?_append_right (by omega)] at hq
    have : i - os.length < 1 := (List.getElem?_eq_some_iff.mp hq).1
    have e : i = os.length := by omega
    subst e
    rw [Nat.sub_self] at hq
    cases hq
    exact ⟨h2, ho⟩
theorem lo_e {r0 r20 r26 r38 r51 : Nat → Int32} {k v1 : Nat} {x y : Int32} (h20 : r20 = upd r0 k y) (h26 : r26 = r20) (h38 : r38 = r26) (h51 : r51 = upd r38 (k + 1) (nI v1)) : ∀ j, j < k → upd r51 (k + 2) x j = r0 j := by
  subst h20; subst h26; subst h38; subst h51
  intro j hj
  rw [upd_n (by omega), upd_n (by omega), upd_n (by omega)]
theorem lo_1 {r0 r1 : Nat → Int32} {k : Nat} {x : Int32} (h1 : r1 = r0) : ∀ j, j < k → upd r1 (k + 1) x j = r0 j := by
  subst h1; intro j hj; rw [upd_n (by omega)]
theorem lo_2 {r0 r1 r2 : Nat → Int32} {k : Nat} {x y : Int32} (h1 : r1 = r0) (h2 : r2 = upd r1 (k + 1) y) : ∀ j, j < k → upd r2 (k + 2) x j = r0 j := by
  subst h1; subst h2; intro j hj; rw [upd_n (by omega), upd_n (by omega)]
theorem lo_0 {r : Nat → Int32} {k : Nat} {z : Int32} {f : Nat → Int32} (h : ∀ j, j < k → f j = (upd r k z) j) : ∀ j, j < k → f j = r j := fun j hj => (h j hj).trans (upd_n (by omega))
theorem rn_fail {σ1 τ τ' : Tw} {b : Blk} {o : Ord3} {os : List Ord3} {r v : Int32} {n : Nat} (hC : Ch scR scN σ1 τ) (h9 : τ 99 9 = σ1 99 9) (h10 : τ 99 10 = σ1 99 10) (hc : Cr τ (opO b o) r τ') (hf : ¬ (opO b o).1 = 0) (k : Int32) (hk : k = nI (if (opO b o).2.1 = none then 1 else 2)) : Cr σ1 (runB b (o :: os) n) v (ws1 τ' 14 k) := by
  have e : runB b (o :: os) n = ((if (opO b o).2.1 = none then 1 else 2), (opO b o).2.1, 0, b) := by
    show (if _ then _ else _) = _
    rw [if_neg hf]
  rw [e]
  obtain ⟨c1, c2, c3, c4, c5⟩ := hc
  refine ⟨(hC.tr c1).num 14 _ (by decide), by rw [hk]; rfl, fun z => ?_, fun z => ?_, fun w z => ?_⟩
  · exfalso
    have z : (if (opO b o).2.1 = none then 1 else 2) = 0 := z
    split at z <;> omega
  · obtain ⟨a1, a2, a3⟩ := c4 z
    exact ⟨a1.trans h9, a2.trans h10, fun _ => a3 hf⟩
  · exact c5 w z
theorem run_ne0 {q : OpR} : (if q.2.1 = none then 1 else 2) < 1000 := by split <;> omega
theorem rn_none {σ τ : Tw} {q : OpR} {r : Int32} (h : Cr σ q r τ) (h0 : τ 99 11 = 0) : q.2.1 = none := by
  cases e : q.2.1 with
  | none => rfl
  | some w =>
    have := (h.2.2.2.2 w e).2.2
    rw [h0] at this
    exact absurd this (by decide)
theorem tr_inp {σ τ : Tw} {a : AS} {e : Int32} (h : TRel σ a) (hC : Ch (33 :: scQ) (7 :: 8 :: scQN) σ τ) (h7 : τ 99 7 = 0) (h8 : τ 99 8 = e) : TRel τ (a.1, a.2.1, a.2.2.1, [], e, a.2.2.2.2.2) := by
  obtain ⟨h1, h2, h3, h4, h5, h6, h7', h8', h9, h10, h11, h12⟩ := h
  have r0 := hC.1 0 (by decide) (by decide)
  have r2 := hC.1 2 (by decide) (by decide)
  have r4 := hC.1 4 (by decide) (by decide)
  have r12 := hC.1 12 (by decide) (by decide)
  exact ⟨by rw [r0]; exact h1, h2, h3.same r2 (hC.2 3 (by decide)), h4, by rw [hC.2 5 (by decide)]; exact h5, by rw [r4]; exact h6, ⟨fun k c z => (by cases z), h7, Nat.zero_le _, fun c z => (by cases z)⟩, h8, by rw [hC.2 9 (by decide)]; exact h9, by rw [hC.2 10 (by decide)]; exact h10, h11.same r12 (hC.2 13 (by decide)), h12⟩
theorem run_bad {a : AS} {os : List Ord3} {s : PS} (h : rdAll a.2.2.2.1 = (os, s)) (hw : s.2 = true ∨ s.1 < a.2.2.2.1.length) : runA a = ((a.1, a.2.1, a.2.2.1, [], nI s.1, a.2.2.2.2.2), 1, 0) := by
  unfold runA; rw [h, if_pos hw]
theorem run_good {a : AS} {os : List Ord3} {s : PS} (h : rdAll a.2.2.2.1 = (os, s)) (hw : ¬ (s.2 = true ∨ s.1 < a.2.2.2.1.length)) : runA a = (stepA (a.1, a.2.1, a.2.2.1, [], -1, a.2.2.2.2.2) (runB a.1 os os.length), (runB a.1 os os.length).1, (runB a.1 os os.length).2.2.1) := by
  unfold runA; rw [h, if_neg hw]
theorem rn_done {ρ σ1 τ ω : Tw} {a : AS} {b : Blk} {os ds : List Ord3} {i n : Nat} {v r : Int32} (hT : TRel ρ a) (h1 : rw2 ρ 1 (va_cpy (ρ 0) (ρ 1) 0 0 112) = σ1) (hrb : runB b (os.drop i) n = runB a.1 os n) (hd : os.drop i = ds) (hC : Cr σ1 (runB b ds n) v τ) (hw : WFB (runB a.1 os n).2.2.2 ∧ (runB a.1 os n).1 < 1000 ∧ ((runB a.1 os n).1 = 0 → (runB a.1 os n).2.1 = none)) (hk : KeptP τ a.2.1 v r ω) : TOut (stepA a (runB a.1 os n)) (runB a.1 os n).1 (runB a.1 os n).2.2.1 r ω := by
  subst h1
  rw [← hd, hrb] at hC
  exact tr_done hT hC hw.1 hk hw.2.1 hw.2.2
theorem rdL_w {t : List Nat} {f p : Nat} (h : (readO t p).1.2 = true) : rdL t (f + 1) p = ([], (readO t p).1) := if_pos h
theorem rdL_m {t : List Nat} {f p : Nat} (h : ¬ (readO t p).1.2 = true) (h2 : t[(readO t p).1.1]? = some 59) : rdL t (f + 1) p = ((readO t p).2 :: (rdL t f ((readO t p).1.1 + 1)).1, (rdL t f ((readO t p).1.1 + 1)).2) := (if_neg h).trans (if_pos h2)
theorem rdL_e {t : List Nat} {f p : Nat} (h : ¬ (readO t p).1.2 = true) (h2 : ¬ t[(readO t p).1.1]? = some 59) : rdL t (f + 1) p = ([(readO t p).2], (readO t p).1) := (if_neg h).trans (if_neg h2)

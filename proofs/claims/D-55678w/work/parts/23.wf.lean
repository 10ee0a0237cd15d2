/-! blocks that are sound -/
def nS (b : Blk) : Nat := (b 0).toNatClampNeg
def nC (b : Blk) : Nat := (b 10).toNatClampNeg
def nP (b : Blk) : Nat := (b 15).toNatClampNeg
def sdN (b : Blk) : Nat → Nat := fun i => if i < 9 then (b (1 + i)).toNatClampNeg else 0
def stN (b : Blk) : Nat → Nat := fun k => if k < 4 then (b (11 + k)).toNatClampNeg else 0
def WFB (b : Blk) : Prop :=
  b 0 = nI (nS b) ∧ nS b ≤ 9 ∧ SdOf b (sdN b) ∧ (∀ i, sdN b i ≤ 50) ∧ (∀ j, j < nS b → 1 ≤ sdN b j) ∧ StOf b (stN b) (nC b) ∧ b 15 = nI (nP b) ∧ nP b ≤ 4 ∧ PlansOk b (nP b)
theorem WFB.mk' {b : Blk} {n C np : Nat} {sd st : Nat → Nat} (h0 : b 0 = nI n) (hn : n ≤ 9) (hsd : SdOf b sd) (h50 : ∀ i, i < 9 → sd i ≤ 50) (h1 : ∀ j, j < n → 1 ≤ sd j) (hst : StOf b st C) (h15 : b 15 = nI np) (hp : np ≤ 4) (hpl : PlansOk b np) : WFB b ∧ nS b = n ∧ nC b = C ∧ nP b = np := by
  have e0 : nS b = n := by unfold nS; rw [h0]; exact nI_clamp (by omega)
  have e10 : nC b = C := by unfold nC; rw [hst.1]; exact nI_clamp (by have := hst.2.1; omega)
  have e15 : nP b = np := by unfold nP; rw [h15]; exact nI_clamp (by omega)
  have es : ∀ i, i < 9 → sdN b i = sd i := fun i hi => by
    unfold sdN; rw [if_pos hi, hsd i hi]; exact nI_clamp (by have := h50 i hi; omega)
  have et : ∀ k, k < 4 → stN b k = st k := fun k hk => by
    unfold stN; rw [if_pos hk, (hst.2.2 k hk).1]; exact nI_clamp (by have := (hst.2.2 k hk).2; omega)
  refine ⟨⟨by rw [e0]; exact h0, by omega, fun i hi => by rw [es i hi]; exact hsd i hi, fun i => ?_, fun j hj => ?_, ⟨by rw [e10]; exact hst.1, by rw [e10]; exact hst.2.1, fun k hk => by rw [et k hk]; exact hst.2.2 k hk⟩, by rw [e15]; exact h15, by omega, by rw [e15]; exact hpl⟩, e0, e10, e15⟩
  · by_cases hi : i < 9
    · rw [es i hi]; exact h50 i hi
    · unfold sdN; rw [if_neg hi]; exact Nat.zero_le _
  · rw [es j (by omega)]; exact h1 j (by omega)
theorem PlanAt.congr {b b' : Blk} {i j f l : Nat} {sp : Nat → Nat → Nat} (h : PlanAt b i f l sp) (he : ∀ d, d < 24 → b' (16 + 24 * j + d) = b (16 + 24 * i + d)) : PlanAt b' j f l sp := by
  obtain ⟨h1, h2, h3, h4, h5, h6⟩ := h
  refine ⟨h1, h2, h3, by rw [he 0 (by omega)]; exact h4, by rw [he 1 (by omega)]; exact h5, fun k e hk => ?_⟩
  have hl := (List.getElem?_eq_some_iff.mp hk).1
  rw [pl_length h3] at hl
  obtain ⟨a, b2, c⟩ := h6 k e hk
  rw [he _ (by omega), he _ (by omega), he _ (by omega)]
  exact ⟨a, b2, c⟩
theorem StOf.congr {b b' : Blk} {st : Nat → Nat} {C : Nat} (h : StOf b st C) (he : ∀ j, 10 ≤ j → j < 15 → b' j = b j) : StOf b' st C :=
  ⟨by rw [he 10 (by omega) (by omega)]; exact h.1, h.2.1, fun k hk => by rw [he (11 + k) (by omega) (by omega)]; exact h.2.2 k hk⟩
theorem SdOf.congr {b b' : Blk} {sd : Nat → Nat} (h : SdOf b sd) (he : ∀ j, 1 ≤ j → j < 10 → b' j = b j) : SdOf b' sd := fun i hi => by rw [he (1 + i) (by omega) (by omega)]; exact h i hi
theorem PlansOk.congr {b b' : Blk} {np : Nat} (hp : np ≤ 4) (h : PlansOk b np) (he : ∀ j, 16 ≤ j → j < 112 → b' j = b j) : PlansOk b' np := by
  intro i hi
  obtain ⟨f, l, sp, hP⟩ := h i hi
  exact ⟨f, l, sp, hP.congr (fun d hd => he _ (by omega) (by omega))⟩
theorem WFB.congr {b b' : Blk} (h : WFB b) (he : BEq b b') : WFB b' ∧ nS b' = nS b ∧ nC b' = nC b ∧ nP b' = nP b := by
  obtain ⟨h0, h9, hsd, h50, h1, hst, h15, hp, hpl⟩ := h
  exact WFB.mk' (by rw [← he 0 (by omega)]; exact h0) h9 (hsd.congr (fun j _ h2 => (he j (by omega)).symm)) (fun i _ => h50 i) h1 (hst.congr (fun j _ h2 => (he j (by omega)).symm)) (by rw [← he 15 (by omega)]; exact h15) hp (hpl.congr hp (fun j _ h2 => (he j h2).symm))
def o_side (b : Blk) (v : Int32) : OpR := opSide b (nS b) v
def o_set (b : Blk) (p v : Int32) : OpR := opSet b (nS b) p v
def o_take (b : Blk) : OpR := opTake b (nS b)
def o_coop (b : Blk) (v : Int32) : OpR := opCoop b (nC b) v
def o_leave (b : Blk) (p : Int32) : OpR := opLeave b (nC b) p
def o_plan (b : Blk) (a c : Int32) : OpR := opPlan b (nS b) (nP b) (sdN b) a c
def o_drop (b : Blk) (a : Int32) : OpR := opDrop b (nP b) a
theorem wf_side {b : Blk} (h : WFB b) (v : Int32) : WFB (o_side b v).2.2.2 := by
  obtain ⟨h0, h9, hsd, h50, h1, hst, h15, hp, hpl⟩ := id h
  unfold o_side opSide
  split
  · rename_i hv
    split
    · exact h
    · rename_i hn
      obtain ⟨w, hw1, hw2, rfl⟩ := rng_of (by omega) (by omega) hv
      refine (WFB.mk' (n := nS b + 1) (C := nC b) (np := nP b) (sd := updS (sdN b) (nS b) w) (st := stN b) (upd_s _ _ _) (by omega) ?_ (fun i _ => updS_50 h50 hw2 i) ?_ (hst.congr (fun j _ _ => ?_)) ?_ hp (hpl.congr hp (fun j _ _ => ?_))).1
      · exact (updS_of hsd (nS b) w).congr (fun j hj _ => upd_n (by omega))
      · intro j hj
        unfold updS
        split
        · exact hw1
        · exact h1 j (by omega)
      · rw [upd_n (by omega), upd_n (by omega)]
      · show upd _ _ _ 15 = _
        rw [upd_n (by omega), upd_n (by omega)]; exact h15
      · show upd _ _ _ j = _
        rw [upd_n (by omega), upd_n (by omega)]
  · exact h
theorem wf_set {b : Blk} (h : WFB b) (p v : Int32) : WFB (o_set b p v).2.2.2 := by
  obtain ⟨h0, h9, hsd, h50, h1, hst, h15, hp, hpl⟩ := id h
  unfold o_set opSet
  split
  · rename_i hpn
    split
    · rename_i hv
      split
      · exact h
      · obtain ⟨w, hw1, hw2, rfl⟩ := rng_of (by omega) (by omega) hv
        obtain ⟨i, hi, rfl⟩ := inN_of (by omega) hpn
        rw [nI_clamp (by omega)]
        refine (WFB.mk' (n := nS b) (C := nC b) (np := nP b) (sd := updS (sdN b) i w) (st := stN b) ?_ h9 (updS_of hsd i w) (fun i _ => updS_50 h50 hw2 i) ?_ (hst.congr (fun j _ _ => upd_n (by omega))) ?_ hp (hpl.congr hp (fun j _ _ => upd_n (by omega)))).1
        · show upd _ _ _ 0 = _
          rw [upd_n (by omega)]; exact h0
        · intro j hj
          unfold updS
          split
          · exact hw1
          · exact h1 j (by omega)
        · show upd _ _ _ 15 = _
          rw [upd_n (by omega)]; exact h15
    · exact h
  · exact h
theorem wf_take {b : Blk} (h : WFB b) : WFB (o_take b).2.2.2 := by
  obtain ⟨h0, h9, hsd, h50, h1, hst, h15, hp, hpl⟩ := id h
  unfold o_take opTake
  split
  · exact h
  · rename_i hn
    refine (WFB.mk' (n := nS b - 1) (C := nC b) (np := nP b) (sd := updS (sdN b) (nS b - 1) 0) (st := stN b) ?_ (by omega) ?_ (fun i _ => updS_50 h50 (by omega) i) ?_ (hst.congr (fun j _ _ => ?_)) ?_ hp (hpl.congr hp (fun j _ _ => ?_))).1
    · show upd _ _ _ 0 = _
      rw [upd_n (by omega)]; exact upd_s _ _ _
    · have := updS_of hsd (nS b - 1) 0
      intro i hi
      have e := this i hi
      rw [← e, show 1 + (nS b - 1) = nS b by omega]
      show upd (upd b 0 _) (nS b) 0 (1 + i) = upd b (nS b) (nI 0) (1 + i)
      unfold upd
      split
      · rfl
      · rw [if_neg (by omega)]
    · intro j hj
      unfold updS
      rw [if_neg (by omega)]; exact h1 j (by omega)
    · show upd _ _ _ j = _
      rw [upd_n (by omega), upd_n (by omega)]
    · show upd _ _ _ 15 = _
      rw [upd_n (by omega), upd_n (by omega)]; exact h15
    · show upd _ _ _ j = _
      rw [upd_n (by omega), upd_n (by omega)]
theorem wf_coop {b : Blk} (h : WFB b) (v : Int32) : WFB (o_coop b v).2.2.2 := by
  obtain ⟨h0, h9, hsd, h50, h1, hst, h15, hp, hpl⟩ := id h
  unfold o_coop opCoop
  split
  · rename_i hv
    split
    · exact h
    · rename_i hn
      have h4 := hst.2.1
      obtain ⟨w, hw1, hw2, rfl⟩ := rng_of (by omega) (by omega) hv
      refine (WFB.mk' (n := nS b) (C := nC b + 1) (np := nP b) (sd := sdN b) (st := updS (stN b) (nC b) w) ?_ h9 (hsd.congr (fun j _ _ => ?_)) (fun i _ => h50 i) h1 ⟨upd_s _ _ _, by omega, fun k hk => ?_⟩ ?_ hp (hpl.congr hp (fun j _ _ => ?_))).1
      · show upd _ _ _ 0 = _
        rw [upd_n (by omega), upd_n (by omega)]; exact h0
      · show upd _ _ _ j = _
        rw [upd_n (by omega), upd_n (by omega)]
      · show upd _ _ _ (11 + k) = _ ∧ _
        rw [upd_n (by omega)]
        unfold updS
        by_cases e : k = nC b
        · subst e; rw [upd_s, if_pos rfl]; exact ⟨rfl, hw2⟩
        · rw [upd_n (by omega), if_neg e]; exact hst.2.2 k hk
      · show upd _ _ _ 15 = _
        rw [upd_n (by omega), upd_n (by omega)]; exact h15
      · show upd _ _ _ j = _
        rw [upd_n (by omega), upd_n (by omega)]
  · exact h
theorem wf_leave {b : Blk} (h : WFB b) (p : Int32) : WFB (o_leave b p).2.2.2 := by
  obtain ⟨h0, h9, hsd, h50, h1, hst, h15, hp, hpl⟩ := id h
  have h4 := hst.2.1
  unfold o_leave opLeave
  split
  · rename_i hpn
    obtain ⟨i, hi, rfl⟩ := inN_of (by omega) hpn
    rw [nI_clamp (by omega)]
    have far : ∀ j, (j < 10 ∨ 15 ≤ j) → upd (shiftC (upd b 10 (nI (nC b - 1))) i (nC b - 1)) (11 + (nC b - 1)) 0 j = b j := by
      intro j hj
      rw [upd_n (by omega)]; unfold shiftC; rw [if_neg (by omega), upd_n (by omega)]
    refine (WFB.mk' (n := nS b) (C := nC b - 1) (np := nP b) (sd := sdN b) (st := fun k => if k = nC b - 1 then 0 else if i ≤ k ∧ k < nC b - 1 then stN b (k + 1) else stN b k) ?_ h9 (hsd.congr (fun j _ _ => far j (by omega))) (fun i _ => h50 i) h1 ⟨?_, by omega, fun k hk => ?_⟩ ?_ hp (hpl.congr hp (fun j _ _ => far j (by omega)))).1
    · exact (far 0 (by omega)).trans h0
    · show upd _ _ _ 10 = _
      rw [upd_n (by omega)]; unfold shiftC; rw [if_neg (by omega)]; exact upd_s _ _ _
    · show upd _ _ _ (11 + k) = _ ∧ _
      dsimp only
      by_cases e : k = nC b - 1
      · rw [e, upd_s, if_pos rfl]; exact ⟨rfl, Nat.zero_le _⟩
      · rw [upd_n (by omega), if_neg e]
        unfold shiftC
        by_cases e2 : i ≤ k ∧ k < nC b - 1
        · rw [if_pos (by omega), if_pos e2, upd_n (by omega)]; exact hst.2.2 (k + 1) (by omega)
        · rw [if_neg (by omega), if_neg e2, upd_n (by omega)]; exact hst.2.2 k hk
    · exact (far 15 (by omega)).trans h15
  · exact h
theorem Gp_far {b : Blk} {a f l md : Nat} {L : List T3} {k j : Nat} (hL : L.length ≤ 7) (h : j < a ∨ a + 24 ≤ j) : Gp b a f l md L k j = b j := by
  unfold Gp
  rw [if_neg (by omega), if_neg (by omega), if_neg (by omega), if_neg (by omega)]
theorem Gp_plan {b : Blk} {np f l md : Nat} {sp : Nat → Nat → Nat} (hsp : SpOk sp) (hfl : f ≤ l) (hl : l < 8) (v : Int32) : PlanAt (upd (Gp b (16 + 24 * np) f l md (pl sp f l) 0) 15 v) np f l sp := by
  have hlen := pl_length hsp f l
  refine ⟨hfl, hl, hsp, ?_, ?_, fun k e hk => ?_⟩
  · rw [upd_n (by omega)]; unfold Gp; rw [if_pos (by omega)]
  · rw [upd_n (by omega)]; unfold Gp; rw [if_neg (by omega), if_pos (by omega)]
  · have hkl := (List.getElem?_eq_some_iff.mp hk).1
    have hg := getD_of hk
    refine ⟨?_, ?_, ?_⟩
    · rw [upd_n (by omega)]; unfold Gp
      rw [if_neg (by omega), if_neg (by omega), if_neg (by omega), if_pos (by omega), if_pos (by omega), show (16 + 24 * np + (3 + 3 * k + 0) - (16 + 24 * np + 3)) / 3 = k by omega, hg]
    · rw [upd_n (by omega)]; unfold Gp
      rw [if_neg (by omega), if_neg (by omega), if_neg (by omega), if_pos (by omega), if_neg (by omega), if_pos (by omega), show (16 + 24 * np + (3 + 3 * k + 1) - (16 + 24 * np + 3)) / 3 = k by omega, hg]
    · rw [upd_n (by omega)]; unfold Gp
      rw [if_neg (by omega), if_neg (by omega), if_neg (by omega), if_pos (by omega), if_neg (by omega), if_neg (by omega), show (16 + 24 * np + (3 + 3 * k + 2) - (16 + 24 * np + 3)) / 3 = k by omega, hg]
theorem wf_plan {b : Blk} (h : WFB b) (a c : Int32) : WFB (o_plan b a c).2.2.2 := by
  obtain ⟨h0, h9, hsd, h50, h1, hst, h15, hp, hpl⟩ := id h
  unfold o_plan opPlan
  split
  · rename_i hr
    split
    · exact h
    · rename_i hn
      obtain ⟨f, l, hfl, hl, rfl, rfl⟩ := isRun_of h9 hr
      rw [nI_clamp (show f < 2 ^ 31 by omega), nI_clamp (show l < 2 ^ 31 by omega)]
      have hlen := pl_length (spD_ok (sdN b)) f l
      have far : ∀ j, j ≠ 15 → (j < 16 + 24 * nP b ∨ 16 + 24 * nP b + 24 ≤ j) → upd (Gp b (16 + 24 * nP b) f l (Dv (sdN b) f l).1 (pl (spD (sdN b)) f l) 0) 15 (nI (nP b + 1)) j = b j := by
        intro j hj hr2
        rw [upd_n hj]; exact Gp_far (by omega) hr2
      refine (WFB.mk' (n := nS b) (C := nC b) (np := nP b + 1) (sd := sdN b) (st := stN b) ((far 0 (by omega) (by omega)).trans h0) h9 (hsd.congr (fun j _ _ => far j (by omega) (by omega))) (fun i _ => h50 i) h1 (hst.congr (fun j _ _ => far j (by omega) (by omega))) (upd_s _ _ _) (by omega) (fun i hi => ?_)).1
      by_cases e : i = nP b
      · subst e; exact ⟨f, l, _, Gp_plan (spD_ok _) hfl (by omega) _⟩
      · obtain ⟨f2, l2, sp2, hP⟩ := hpl i (by omega)
        exact ⟨f2, l2, sp2, hP.congr (fun d hd => far _ (by omega) (by omega))⟩
  · exact h
theorem wf_drop {b : Blk} (h : WFB b) (a : Int32) : WFB (o_drop b a).2.2.2 := by
  obtain ⟨h0, h9, hsd, h50, h1, hst, h15, hp, hpl⟩ := id h
  unfold o_drop opDrop
  split
  · rename_i hr
    obtain ⟨i, hi, rfl⟩ := inN_of (by omega) hr
    rw [nI_clamp (by omega)]
    have far : ∀ j, j ≠ 15 → j < 16 + 24 * i → dropB b i (nP b - 1) j = b j := by
      intro j h1 h2
      unfold dropB; rw [if_neg h1, if_neg (by omega), if_neg (by omega)]
    refine (WFB.mk' (n := nS b) (C := nC b) (np := nP b - 1) (sd := sdN b) (st := stN b) ((far 0 (by omega) (by omega)).trans h0) h9 (hsd.congr (fun j _ _ => far j (by omega) (by omega))) (fun i _ => h50 i) h1 (hst.congr (fun j _ _ => far j (by omega) (by omega))) (if_pos rfl) (by omega) (fun q hq => ?_)).1
    by_cases e : q < i
    · obtain ⟨f2, l2, sp2, hP⟩ := hpl q (by omega)
      exact ⟨f2, l2, sp2, hP.congr (fun d hd => far _ (by omega) (by omega))⟩
    · obtain ⟨f2, l2, sp2, hP⟩ := hpl (q + 1) (by omega)
      refine ⟨f2, l2, sp2, hP.congr (fun d hd => ?_)⟩
      unfold dropB
      rw [if_neg (by omega), if_pos (by omega)]
      congr 1; omega
  · exact h

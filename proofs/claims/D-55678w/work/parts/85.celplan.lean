theorem dpFold_at {T : Nat → Nat → DV} {pr : Nat → Nat} {f l : Nat} : ∀ i, 0 < i → (dpFold T pr f l i).1 = (T f (dpFold T pr f l i).2.2.1).1 + (T ((dpFold T pr f l i).2.2.1 + 1) l).1 + pr (dpFold T pr f l i).2.2.1
  | 0, h => by omega
  | i + 1, _ => by
    show (dpStep _ _ _ _ _ _).1 = (T f (dpStep _ _ _ _ _ _).2.2.1).1 + (T ((dpStep _ _ _ _ _ _).2.2.1 + 1) l).1 + pr (dpStep _ _ _ _ _ _).2.2.1
    unfold dpStep
    dsimp only
    split
    · rfl
    · rename_i h
      have : ¬ f + i = f := fun z => h (Or.inl z)
      exact dpFold_at i (by omega)
theorem Dv_at (sd : Nat → Nat) {f l : Nat} (h : f < l) : (Dv sd f l).1 = (Dv sd f (Dv sd f l).2.2.1).1 + (Dv sd ((Dv sd f l).2.2.1 + 1) l).1 + prN sd f (Dv sd f l).2.2.1 l := by
  have e := Dv_eq sd (f := f) (l := l) (by omega)
  have k := dpFold_at (T := Dv sd) (pr := fun s => prN sd f s l) (f := f) (l := l) (l - f) (by omega)
  rw [← e] at k
  exact k
theorem coT_oT (sd : Nat → Nat) : ∀ (n f l : Nat), f ≤ l → l - f ≤ n → coT sd (oT sd n f l) = (Dv sd f l).1
  | 0, f, l, h, hn => by
    have e : f = l := by omega
    subst e
    rw [Dv_self]; rfl
  | n + 1, f, l, h, hn => by
    by_cases e : f = l
    · subst e
      rw [Dv_self]
      show coT sd (if f = f then lf f else _) = 0
      rw [if_pos rfl]; rfl
    · have hs := Dv_split sd (show f < l by omega)
      show coT sd (if f = l then lf f else nd _ _) = _
      rw [if_neg e, Dv_at sd (show f < l by omega)]
      show coT sd _ + coT sd _ + prN sd (fsT _) (lsT _) (lsT _) = _
      rw [coT_oT sd n f _ (by omega) (by omega), coT_oT sd n _ l (by omega) (by omega), (oT_fs sd n f _ (by omega) (by omega)).1, (oT_fs sd n f _ (by omega) (by omega)).2.1, (oT_fs sd n _ l (by omega) (by omega)).2.1]
theorem PlRel.eqs {dd : Nat → ClassId} {tl : va_W} {b : Blk} {i : Nat} {o : Option Nat} (h : PlRel dd tl b i o) : ∃ (p : Nat) (T : Tr), o = some p ∧ PlanIs dd tl p T (b (16 + 24 * i + 2)) ∧ TrOk T ∧ fsT T = pF b i ∧ lsT T = pE b i ∧ plT T = pL b i := by
  obtain ⟨p, T, h1, h2, h3, h4, h5, h6⟩ := h
  have hl := h3.len
  have e0 : pF b i = fsT T := by unfold pF; rw [h4]; exact nI_clamp (by omega)
  have e1 : pE b i = lsT T := by unfold pE; rw [h5]; exact nI_clamp (by omega)
  refine ⟨p, T, h1, h2, h3, e0.symm, e1.symm, ?_⟩
  apply List.ext_getElem?
  intro k
  unfold pL
  rw [e0, e1, List.getElem?_map]
  by_cases hk : k < lsT T - fsT T
  · rw [List.getElem?_range hk]
    obtain ⟨e, hke⟩ := get_lt (L := plT T) (k := k) (by omega)
    have hee := plT_bd T h3.2.2 e (List.mem_of_getElem? hke)
    rw [hke]
    obtain ⟨a1, a2, a3⟩ := h6 k e hke
    dsimp only [Option.map]
    rw [a1, a2, a3, nI_clamp (by omega), nI_clamp (by omega), nI_clamp (by omega)]
  · rw [List.getElem?_eq_none (by omega), List.getElem?_eq_none (by rw [List.length_range]; omega)]
    rfl
theorem CelOk.plan {dd : Nat → ClassId} {tl nw tl' : va_W} {b : Blk} {n C np : Nat} {f cf : Nat → Int32} {pf : Nat → Option Nat} (h : CelOk dd tl b n C np f cf pf) (hnp : ¬ np = 4) {u l p : Nat} (hul : u ≤ l) (hl : l < 8) (hP : PlanIs dd nw p (oT (sdN b) 7 u l) (nI (coT (sdN b) (oT (sdN b) 7 u l)))) (hm : ∀ q ∈ tl, q ∈ tl') (hm2 : ∀ q ∈ nw, q ∈ tl') : CelOk dd tl' (upd (Gp b (16 + 24 * np) u l (Dv (sdN b) u l).1 (pl (spD (sdN b)) u l) 0) 15 (nI (np + 1))) n C (np + 1) f cf (va_up pf np (some p)) := by
  obtain ⟨⟨h0, h10, h15⟩, hb, hf, hc, hp, hn⟩ := h
  obtain ⟨ef, el, -, -, epl⟩ := oT_fs (sdN b) 7 u l hul (by omega)
  have hok := oT_ok (sd := sdN b) hul hl
  have hlen := hok.len
  rw [epl] at hlen
  have far : ∀ j, (j < 15 ∨ (15 < j ∧ j < 16 + 24 * np)) → upd (Gp b (16 + 24 * np) u l (Dv (sdN b) u l).1 (pl (spD (sdN b)) u l) 0) 15 (nI (np + 1)) j = b j := fun j hj => by
    rw [upd_n (by omega)]; exact Gp_far hlen.1 (by omega)
  refine ⟨⟨(far 0 (by omega)).trans h0, (far 10 (by omega)).trans h10, upd_s _ _ _⟩, by omega, fun i hi => (hf i hi).trans (far _ (by omega)).symm, fun k hk => (hc k hk).trans (far _ (by omega)).symm, fun i hi => ?_, fun i hi hni => by unfold va_up; rw [if_neg (by omega)]; exact hn i hi (by omega)⟩
  unfold va_up
  by_cases e : i = np
  · subst e
    rw [if_pos rfl]
    have hG := Gp_plan (b := b) (np := i) (md := (Dv (sdN b) u l).1) (spD_ok (sdN b)) hul hl (nI (i + 1))
    obtain ⟨-, -, -, g0, g1, g2⟩ := hG
    refine ⟨p, _, rfl, ?_, hok, by rw [g0, ef], by rw [g1, el], fun k e hk => g2 k e (by rw [← epl]; exact hk)⟩
    have e2 : upd (Gp b (16 + 24 * i) u l (Dv (sdN b) u l).1 (pl (spD (sdN b)) u l) 0) 15 (nI (i + 1)) (16 + 24 * i + 2) = nI (Dv (sdN b) u l).1 := by
      rw [upd_n (by omega)]; unfold Gp; rw [if_neg (by omega), if_neg (by omega), if_pos rfl]
    rw [e2, ← coT_oT (sdN b) 7 u l hul (by omega)]
    exact hP.mono hm2
  · rw [if_neg e]
    exact (hp i (by omega)).mv hm (fun d hd => far _ (by omega))

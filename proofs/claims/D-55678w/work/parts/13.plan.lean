/-! the pourings of an order, those of parts ahead; an order by what splits its runs -/
def plL (sp : Nat → Nat → Nat) : Nat → Nat → Nat → List (Nat × Nat × Nat)
  | 0, _, _ => []
  | n + 1, f, l => if f < l then plL sp n f (sp f l) ++ (plL sp n (sp f l + 1) l ++ [(f, l, sp f l)]) else []
def SpOk (sp : Nat → Nat → Nat) : Prop := ∀ f l : Nat, f < l → f ≤ sp f l ∧ sp f l < l
theorem plL_fuel {sp : Nat → Nat → Nat} (h : SpOk sp) : ∀ (n m f l : Nat), l - f ≤ n → l - f ≤ m → plL sp n f l = plL sp m f l
  | 0, 0, _, _, _, _ => rfl
  | 0, m + 1, f, l, h1, _ => by show [] = if f < l then _ else []; rw [if_neg (by omega)]
  | n + 1, 0, f, l, _, h2 => by show (if f < l then _ else []) = []; rw [if_neg (by omega)]
  | n + 1, m + 1, f, l, h1, h2 => by
    show (if f < l then _ else []) = if f < l then _ else []
    by_cases hl : f < l
    · rw [if_pos hl, if_pos hl]
      have := h f l hl
      rw [plL_fuel h n m f (sp f l) (by omega) (by omega), plL_fuel h n m (sp f l + 1) l (by omega) (by omega)]
    · rw [if_neg hl, if_neg hl]
def pl (sp : Nat → Nat → Nat) (f l : Nat) : List (Nat × Nat × Nat) := plL sp (l - f) f l
theorem pl_nil {sp : Nat → Nat → Nat} {f l : Nat} (h : l ≤ f) : pl sp f l = [] := by
  unfold pl; rw [show l - f = 0 by omega]; rfl
theorem pl_eq {sp : Nat → Nat → Nat} (h : SpOk sp) {f l : Nat} (hl : f < l) : pl sp f l = pl sp f (sp f l) ++ (pl sp (sp f l + 1) l ++ [(f, l, sp f l)]) := by
  have hs := h f l hl
  show plL sp (l - f) f l = _
  obtain ⟨n, hn⟩ : ∃ n, l - f = n + 1 := ⟨l - f - 1, by omega⟩
  rw [hn]
  show (if f < l then _ else []) = _
  rw [if_pos hl, plL_fuel h n (sp f l - f) f (sp f l) (by omega) (by omega), plL_fuel h n (l - (sp f l + 1)) (sp f l + 1) l (by omega) (by omega)]
  rfl
theorem pl_len {sp : Nat → Nat → Nat} (h : SpOk sp) : ∀ (n f l : Nat), l - f ≤ n → (pl sp f l).length = l - f
  | 0, f, l, h1 => by rw [pl_nil (by omega)]; show 0 = _; omega
  | n + 1, f, l, h1 => by
    by_cases hl : f < l
    · have hs := h f l hl
      rw [pl_eq h hl, List.length_append, List.length_append, pl_len h n f (sp f l) (by omega), pl_len h n (sp f l + 1) l (by omega)]
      show _ + (_ + 1) = _
      omega
    · rw [pl_nil (by omega)]; show 0 = _; omega
theorem pl_length {sp : Nat → Nat → Nat} (h : SpOk sp) (f l : Nat) : (pl sp f l).length = l - f := pl_len h _ f l (Nat.le_refl _)
/-- a pouring lies within its run, and its split within it -/
theorem pl_in {sp : Nat → Nat → Nat} (h : SpOk sp) : ∀ (n f l : Nat), l - f ≤ n → ∀ e ∈ pl sp f l, f ≤ e.1 ∧ e.1 ≤ e.2.2 ∧ e.2.2 < e.2.1 ∧ e.2.1 ≤ l ∧ e.2.2 = sp e.1 e.2.1
  | 0, f, l, h1, e, he => by rw [pl_nil (by omega)] at he; cases he
  | n + 1, f, l, h1, e, he => by
    by_cases hl : f < l
    · have hs := h f l hl
      rw [pl_eq h hl] at he
      rcases List.mem_append.mp he with he | he
      · have := pl_in h n f (sp f l) (by omega) e he
        omega
      · rcases List.mem_append.mp he with he | he
        · have := pl_in h n (sp f l + 1) l (by omega) e he
          omega
        · rw [List.mem_singleton] at he
          subst he
          exact ⟨Nat.le_refl _, hs.1, hs.2, Nat.le_refl _, rfl⟩
    · rw [pl_nil (by omega)] at he; cases he
theorem pl_mem {sp : Nat → Nat → Nat} (h : SpOk sp) {f l : Nat} {e : Nat × Nat × Nat} (he : e ∈ pl sp f l) : f ≤ e.1 ∧ e.1 ≤ e.2.2 ∧ e.2.2 < e.2.1 ∧ e.2.1 ≤ l ∧ e.2.2 = sp e.1 e.2.1 := pl_in h _ f l (Nat.le_refl _) e he
def spD (sd : Nat → Nat) : Nat → Nat → Nat := fun f l => (Dv sd f l).2.2.1
theorem spD_ok (sd : Nat → Nat) : SpOk (spD sd) := fun f l h => Dv_split sd h
/-- a plan in a block: from at on its run, what it cost when made, its pourings from the k-th on -/
def Gp (b : Blk) (at_ f l md : Nat) (L : List (Nat × Nat × Nat)) (k : Nat) : Blk := fun j =>
  if j = at_ then nI f else if j = at_ + 1 then nI l else if j = at_ + 2 then nI md else
  if at_ + 3 + 3 * k ≤ j ∧ j < at_ + 3 + 3 * L.length then
    (if (j - (at_ + 3)) % 3 = 0 then nI (L.getD ((j - (at_ + 3)) / 3) (0, 0, 0)).1 else if (j - (at_ + 3)) % 3 = 1 then nI (L.getD ((j - (at_ + 3)) / 3) (0, 0, 0)).2.1 else nI (L.getD ((j - (at_ + 3)) / 3) (0, 0, 0)).2.2)
  else b j
theorem Gp_0 (b : Blk) (at_ f l md : Nat) (L : List (Nat × Nat × Nat)) : Gp b at_ f l md L L.length = upd (upd (upd b at_ (nI f)) (at_ + 1) (nI l)) (at_ + 2) (nI md) := by
  funext j
  unfold Gp upd
  by_cases h0 : j = at_
  · subst h0; rw [if_pos rfl, if_neg (by omega), if_neg (by omega), if_pos rfl]
  by_cases h1 : j = at_ + 1
  · subst h1; rw [if_neg h0, if_pos rfl, if_neg (by omega), if_pos rfl]
  by_cases h2 : j = at_ + 2
  · subst h2; rw [if_neg h0, if_neg h1, if_pos rfl, if_pos rfl]
  rw [if_neg h0, if_neg h1, if_neg h2, if_neg (by omega), if_neg h2, if_neg h1, if_neg h0]
theorem Gp_s {b : Blk} {at_ f l md : Nat} {L : List (Nat × Nat × Nat)} {k : Nat} {e : Nat × Nat × Nat} (he : L[k]? = some e) : upd (upd (upd (Gp b at_ f l md L (k + 1)) (at_ + 3 + 3 * k) (nI e.1)) (at_ + 3 + 3 * k + 1) (nI e.2.1)) (at_ + 3 + 3 * k + 2) (nI e.2.2) = Gp b at_ f l md L k := by
  have hk : k < L.length := (List.getElem?_eq_some_iff.mp he).1
  have hg : L.getD k (0, 0, 0) = e := by rw [List.getD_eq_getElem?_getD, he]; rfl
  funext j
  unfold upd
  by_cases h2 : j = at_ + 3 + 3 * k + 2
  · subst h2
    unfold Gp
    rw [if_pos rfl, if_neg (by omega), if_neg (by omega), if_neg (by omega), if_pos (by omega), if_neg (by omega), if_neg (by omega), show (at_ + 3 + 3 * k + 2 - (at_ + 3)) / 3 = k by omega, hg]
  by_cases h1 : j = at_ + 3 + 3 * k + 1
  · subst h1
    unfold Gp
    rw [if_neg h2, if_pos rfl, if_neg (by omega), if_neg (by omega), if_neg (by omega), if_pos (by omega), if_neg (by omega), if_pos (by omega), show (at_ + 3 + 3 * k + 1 - (at_ + 3)) / 3 = k by omega, hg]
  by_cases h0 : j = at_ + 3 + 3 * k
  · subst h0
    unfold Gp
    rw [if_neg h2, if_neg h1, if_pos rfl, if_neg (by omega), if_neg (by omega), if_neg (by omega), if_pos (by omega), if_pos (by omega), show (at_ + 3 + 3 * k - (at_ + 3)) / 3 = k by omega, hg]
  rw [if_neg h2, if_neg h1, if_neg h0]
  unfold Gp
  by_cases a0 : j = at_
  · rw [if_pos a0, if_pos a0]
  by_cases a1 : j = at_ + 1
  · rw [if_neg a0, if_neg a0, if_pos a1, if_pos a1]
  by_cases a2 : j = at_ + 2
  · rw [if_neg a0, if_neg a0, if_neg a1, if_neg a1, if_pos a2, if_pos a2]
  rw [if_neg a0, if_neg a0, if_neg a1, if_neg a1, if_neg a2, if_neg a2]
  by_cases hr : at_ + 3 + 3 * (k + 1) ≤ j ∧ j < at_ + 3 + 3 * L.length
  · rw [if_pos hr, if_pos (show at_ + 3 + 3 * k ≤ j ∧ j < at_ + 3 + 3 * L.length by omega)]
  · rw [if_neg hr, if_neg (show ¬ (at_ + 3 + 3 * k ≤ j ∧ j < at_ + 3 + 3 * L.length) by omega)]
def opPlan (b : Blk) (n k : Nat) (sd : Nat → Nat) (a c : Int32) : OpR :=
  if isRunP n a c then (if k = 4 then (2, some (nI 1, nI 4), 0, b) else (0, none, nI k, upd (Gp b (16 + 24 * k) a.toNatClampNeg c.toNatClampNeg (Dv sd a.toNatClampNeg c.toNatClampNeg).1 (pl (spD sd) a.toNatClampNeg c.toNatClampNeg) 0) 15 (nI (k + 1)))) else (1, none, 0, b)
/-! the stack of runs still to be gone through -/
def flP (sp : Nat → Nat → Nat) (S : List (Nat × Nat)) : List (Nat × Nat × Nat) := S.flatMap (fun q => pl sp q.1 q.2)
def muS (S : List (Nat × Nat)) : Nat := (S.map (fun q => 2 * (q.2 - q.1) + 1)).sum
theorem muS_app (S T : List (Nat × Nat)) : muS (S ++ T) = muS S + muS T := by simp [muS]
theorem muS_len : ∀ S : List (Nat × Nat), S.length ≤ muS S
  | [] => Nat.le_refl _
  | q :: S => by
    have := muS_len S
    show S.length + 1 ≤ (2 * (q.2 - q.1) + 1) + muS S
    omega
/-- the reference's stack holds S, its bottom first -/
def StkIs (r : Nat → Int32) (S : List (Nat × Nat)) : Prop := ∀ (i : Nat) (q : Nat × Nat), S[i]? = some q → r i = nI (8 * q.1 + q.2)
theorem StkIs.push {r : Nat → Int32} {S : List (Nat × Nat)} (h : StkIs r S) (a c : Nat) : StkIs (upd r S.length (nI (8 * a + c))) (S ++ [(a, c)]) := by
  intro i q hq
  by_cases hi : i < S.length
  · rw [List.getElem?_append_left hi] at hq
    rw [upd_n (by omega)]; exact h i q hq
  · rw [List.getElem?_append_right (by omega)] at hq
    have : i - S.length < 1 := (List.getElem?_eq_some_iff.mp hq).1
    have e : i = S.length := by omega
    subst e
    rw [Nat.sub_self] at hq
    cases hq
    exact upd_s _ _ _
theorem StkIs.pop {r : Nat → Int32} {S : List (Nat × Nat)} {q : Nat × Nat} (h : StkIs r (S ++ [q])) : StkIs r S ∧ r S.length = nI (8 * q.1 + q.2) := by
  refine ⟨fun i p hp => h i p ?_, h _ q ?_⟩
  · rw [List.getElem?_append_left (List.getElem?_eq_some_iff.mp hp).1]; exact hp
  · rw [List.getElem?_append_right (Nat.le_refl _), Nat.sub_self]; rfl
theorem Gp_15 {b : Blk} {np f l md : Nat} {L : List (Nat × Nat × Nat)} {k : Nat} : Gp b (16 + 24 * np) f l md L k 15 = b 15 := by
  unfold Gp
  rw [if_neg (by omega), if_neg (by omega), if_neg (by omega), if_neg (by omega)]
theorem flP_app (sp : Nat → Nat → Nat) (S T : List (Nat × Nat)) : flP sp (S ++ T) = flP sp S ++ flP sp T := by simp [flP]
theorem flP_1 (sp : Nat → Nat → Nat) (q : Nat × Nat) : flP sp [q] = pl sp q.1 q.2 := by simp [flP]
/-- the reference's loop that makes a plan -/
def PcI (σ σ1 : Tw) (sd : Nat → Nat) (np f l : Nat) (L : List (Nat × Nat × Nat)) (S : List (Nat × Nat)) (k : Nat) (τ : Tw) : Prop :=
  Ch scR [21] σ τ ∧ τ 0 = Gp (σ 0) (16 + 24 * np) f l (Dv sd f l).1 L k ∧ τ 99 21 = nI S.length ∧ StkIs (τ 20) S ∧ flP (spD sd) S = L.take k ∧ k ≤ L.length ∧ muS S ≤ 15 ∧ (∀ q ∈ S, f ≤ q.1 ∧ q.1 ≤ q.2 ∧ q.2 ≤ l) ∧ τ 17 = σ1 17
theorem pc_init {σ σ1 : Tw} {n np f l : Nat} {sd : Nat → Nat} {L : List (Nat × Nat × Nat)} (h : Rk σ n sd σ1) (hfl : f ≤ l) (hl : l < 8) (hLL : pl (spD sd) f l = L) (hLn : L.length = l - f) :
    PcI σ σ1 sd np f l L [(f, l)] (l - f) (ws1 (wa1 (ws1 (wa1 (wa1 (wa1 σ1 0 (16 + 24 * np + 0) (nI f)) 0 (16 + 24 * np + 1) (nI l)) 0 (16 + 24 * np + 2) (nI (Dv sd f l).1)) 21 (nI 0)) 20 0 (nI (8 * f + l))) 21 (nI (0 + 1))) := by
  have h1 : Ch scR [21] σ σ1 := h.1.mono (by decide) (by simp)
  refine ⟨(((((h1.row 0 _ (by decide) (by decide)).row 0 _ (by decide) (by decide)).row 0 _ (by decide) (by decide)).num 21 _ (by decide)).row 20 _ (by decide) (by decide)).num 21 _ (by decide), ?_, rfl, ?_, ?_, by omega, ?_, ?_, rfl⟩
  · show upd (upd (upd (σ1 0) _ _) _ _) _ _ = _
    rw [h.1.1 0 (by decide) (by decide), ← hLn, Gp_0]; rfl
  · exact StkIs.push (S := []) (fun i q h => by cases h) f l
  · rw [flP_1, hLL, ← hLn, List.take_length]
  · show (2 * (l - f) + 1) + 0 ≤ 15; omega
  · intro q hq
    rw [List.mem_singleton] at hq
    subst hq
    exact ⟨Nat.le_refl _, hfl, Nat.le_refl _⟩
theorem pc_leaf {σ σ1 τ : Tw} {np f l k : Nat} {sd : Nat → Nat} {L : List (Nat × Nat × Nat)} {S1 : List (Nat × Nat)} {q : Nat × Nat} (h : PcI σ σ1 sd np f l L (S1 ++ [q]) k τ) (hq : q.2 ≤ q.1) : PcI σ σ1 sd np f l L S1 k (ws1 τ 21 (nI (S1.length + 1 - 1))) := by
  obtain ⟨hC, hG, hT, hK, hF, hkL, hM, hB, h17⟩ := h
  refine ⟨hC.num 21 _ (by decide), hG, by rw [Nat.add_sub_cancel]; rfl, hK.pop.1, ?_, hkL, ?_, fun p hp => hB p (List.mem_append_left _ hp), h17⟩
  · rw [← hF, flP_app, flP_1, pl_nil hq, List.append_nil]
  · rw [muS_app] at hM; omega
theorem tk_last {α : Type} {L Y : List α} {e : α} {k : Nat} (h : Y ++ [e] = L.take k) (hk : k ≤ L.length) : 1 ≤ k ∧ Y = L.take (k - 1) ∧ L[k - 1]? = some e := by
  have h1 : Y.length + 1 = k := by
    have := congrArg List.length h
    rw [List.length_append, List.length_take, Nat.min_eq_left hk] at this
    exact this
  refine ⟨by omega, ?_, ?_⟩
  · have := congrArg (List.take (k - 1)) h
    rw [List.take_take, Nat.min_eq_left (by omega), List.take_append_of_le_length (by omega), List.take_of_length_le (by omega)] at this
    exact this
  · have := congrArg (fun z => z[k - 1]?) h
    simp only [List.getElem?_take] at this
    rw [if_pos (by omega), List.getElem?_append_right (by omega), show k - 1 - Y.length = 0 by omega] at this
    exact this.symm
theorem pc_last {σ σ1 τ : Tw} {np f l k : Nat} {sd : Nat → Nat} {L : List (Nat × Nat × Nat)} {S1 : List (Nat × Nat)} {q : Nat × Nat} (h : PcI σ σ1 sd np f l L (S1 ++ [q]) k τ) (hq : q.1 < q.2) :
    1 ≤ k ∧ flP (spD sd) S1 ++ (pl (spD sd) q.1 (spD sd q.1 q.2) ++ pl (spD sd) (spD sd q.1 q.2 + 1) q.2) = L.take (k - 1) ∧ L[k - 1]? = some (q.1, q.2, spD sd q.1 q.2) := by
  obtain ⟨hC, hG, hT, hK, hF, hkL, hM, hB, h17⟩ := h
  refine tk_last ?_ hkL
  rw [← hF, flP_app, flP_1, pl_eq (spD_ok sd) hq, List.append_assoc, List.append_assoc]
theorem pc_node {σ σ1 τ : Tw} {np f l k : Nat} {sd : Nat → Nat} {L : List (Nat × Nat × Nat)} {S1 : List (Nat × Nat)} {q : Nat × Nat} (h : PcI σ σ1 sd np f l L (S1 ++ [q]) k τ) (hq : q.1 < q.2) :
    PcI σ σ1 sd np f l L ((S1 ++ [(q.1, spD sd q.1 q.2)]) ++ [(spD sd q.1 q.2 + 1, q.2)]) (k - 1) (ws1 (wa1 (ws1 (wa1 (wa1 (wa1 (wa1 (ws1 τ 21 (nI (S1.length + 1 - 1))) 0 (16 + 24 * np + 3 + 3 * (k - 1)) (nI q.1)) 0 (16 + 24 * np + 3 + 3 * (k - 1) + 1) (nI q.2)) 0 (16 + 24 * np + 3 + 3 * (k - 1) + 2) (nI (spD sd q.1 q.2))) 20 S1.length (nI (8 * q.1 + spD sd q.1 q.2))) 21 (nI (S1.length + 1))) 20 (S1.length + 1) (nI (8 * (spD sd q.1 q.2 + 1) + q.2))) 21 (nI (S1.length + 1 + 1))) := by
  obtain ⟨hk1, hT2, hL2⟩ := pc_last h hq
  obtain ⟨hC, hG, hT, hK, hF, hkL, hM, hB, h17⟩ := h
  have hs := spD_ok sd q.1 q.2 hq
  have hqb := hB q (by simp)
  have hB1 : ∀ p ∈ S1, f ≤ p.1 ∧ p.1 ≤ p.2 ∧ p.2 ≤ l := fun p hp => hB p (List.mem_append_left _ hp)
  refine ⟨(((((((hC.num 21 _ (by decide)).row 0 _ (by decide) (by decide)).row 0 _ (by decide) (by decide)).row 0 _ (by decide) (by decide)).row 20 _ (by decide) (by decide)).num 21 _ (by decide)).row 20 _ (by decide) (by decide)).num 21 _ (by decide), ?_, ?_, ?_, ?_, by omega, ?_, ?_, h17⟩
  · show upd (upd (upd (τ 0) _ _) _ _) _ _ = _
    rw [hG, ← Gp_s hL2, show k - 1 + 1 = k by omega]
  · simp [List.length_append]; rfl
  · have := (hK.pop.1.push q.1 (spD sd q.1 q.2)).push (spD sd q.1 q.2 + 1) q.2
    rw [show (S1 ++ [(q.1, spD sd q.1 q.2)]).length = S1.length + 1 by simp] at this
    exact this
  · rw [flP_app, flP_app, flP_1, flP_1, List.append_assoc]; exact hT2
  · rw [muS_app] at hM
    rw [muS_app, muS_app]
    simp only [muS, List.map, List.sum_cons, List.sum_nil] at hM ⊢
    omega
  · intro p hp
    rcases List.mem_append.mp hp with hp | hp
    · rcases List.mem_append.mp hp with hp | hp
      · exact hB1 p hp
      · rw [List.mem_singleton] at hp; subst hp; exact ⟨hqb.1, hs.1, by omega⟩
    · rw [List.mem_singleton] at hp; subst hp; exact ⟨by show f ≤ _ + 1; omega, by show _ + 1 ≤ q.2; omega, hqb.2.2⟩
theorem pc_end {σ σ1 τ : Tw} {n np f l k : Nat} {sd : Nat → Nat} {L : List (Nat × Nat × Nat)} {S : List (Nat × Nat)} {r : Int32} (h : PcI σ σ1 sd np f l L S k τ) (hS : S.length = 0) (h6 : isRunP n (nI f) (nI l)) (h4 : ¬ np = 4) (hcf : (nI f).toNatClampNeg = f) (hcl : (nI l).toNatClampNeg = l) (hLL : pl (spD sd) f l = L) (hr : r = nI np) : Cr σ (opPlan (σ 0) n np sd (nI f) (nI l)) r (ws1 (wa1 τ 0 15 (nI (np + 1))) 14 0) := by
  obtain ⟨hC, hG, hT, hK, hF, hkL, hM, hB, h17⟩ := h
  have e : S = [] := List.length_eq_zero_iff.mp hS
  subst e
  have hk0 : k = 0 := by
    have := congrArg List.length hF
    rw [List.length_take, Nat.min_eq_left hkL] at this
    exact this.symm
  subst hk0
  refine Cr.ok (b := upd (Gp (σ 0) (16 + 24 * np) f l (Dv sd f l).1 L 0) 15 (nI (np + 1))) (z := nI np) ?_ hr ?_ ((hC.mono (by decide) (by decide)).row 0 _ (by decide) (by decide)) (hC.2 9 (by decide)) (hC.2 10 (by decide))
  · unfold opPlan
    rw [if_pos h6, if_neg h4, hcf, hcl, hLL]
  · show BEq (upd (τ 0) 15 _) _
    rw [hG]; exact BEq.rf _

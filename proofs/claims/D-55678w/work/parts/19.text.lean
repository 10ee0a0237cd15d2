/-! texts -/
theorem nar_c {c : Nat} (h : c < 65536) : vp_nar .char (nI c) = nI c := by
  unfold vp_nar; rw [(pk_charN h).1]
theorem i2c_n {c : Nat} (h : c < 65536) : ((nI c).toUInt32 % 65536).toInt32 = nI c := by
  rw [pk_char, pk_tn (by omega), Nat.mod_eq_of_lt h]
/-- a row holds a text -/
def TxIs (r : Nat → Int32) (t : List Nat) : Prop := ∀ (k c : Nat), t[k]? = some c → r k = nI c
theorem TxIs.nil (r : Nat → Int32) : TxIs r [] := fun k c h => by cases h
theorem TxIs.push {r : Nat → Int32} {t : List Nat} (h : TxIs r t) (c : Nat) : TxIs (upd r t.length (nI c)) (t ++ [c]) := by
  intro i q hq
  by_cases hi : i < t.length
  · rw [List.getElem?_append_left hi] at hq
    rw [upd_n (by omega)]; exact h i q hq
  · rw [List.getElem?_append_right (by omega)] at hq
    have : i - t.length < 1 := (List.getElem?_eq_some_iff.mp hq).1
    have e : i = t.length := by omega
    subst e
    rw [Nat.sub_self] at hq
    cases hq
    exact upd_s _ _ _
theorem TxIs.pop {r : Nat → Int32} {S : List Nat} {q : Nat} (h : TxIs r (S ++ [q])) : TxIs r S ∧ r S.length = nI q := by
  refine ⟨fun i p hp => h i p ?_, h _ q ?_⟩
  · rw [List.getElem?_append_left (List.getElem?_eq_some_iff.mp hp).1]; exact hp
  · rw [List.getElem?_append_right (Nat.le_refl _), Nat.sub_self]; rfl
/-- the line of the reference -/
def LnIs (σ : Tw) (t : List Nat) : Prop := TxIs (σ 12) t ∧ σ 99 13 = nI t.length
def dec2 (v : Nat) : List Nat := if 9 < v then [48 + v / 10, 48 + v % 10] else [48 + v % 10]
theorem dec2_len (v : Nat) : (dec2 v).length ≤ 2 := by unfold dec2; split <;> simp
/-- an order as brackets -/
def txL (sp : Nat → Nat → Nat) : Nat → Nat → Nat → List Nat
  | 0, f, _ => [48 + f]
  | n + 1, f, l => if f < l then 40 :: (txL sp n f (sp f l) ++ (txL sp n (sp f l + 1) l ++ [41])) else [48 + f]
theorem txL_fuel {sp : Nat → Nat → Nat} (h : SpOk sp) : ∀ (n m f l : Nat), l - f ≤ n → l - f ≤ m → txL sp n f l = txL sp m f l
  | 0, 0, _, _, _, _ => rfl
  | 0, m + 1, f, l, h1, _ => by show _ = if f < l then _ else _; rw [if_neg (by omega)]; rfl
  | n + 1, 0, f, l, _, h2 => by show (if f < l then _ else _) = _; rw [if_neg (by omega)]; rfl
  | n + 1, m + 1, f, l, h1, h2 => by
    show (if f < l then _ else _) = if f < l then _ else _
    by_cases hl : f < l
    · rw [if_pos hl, if_pos hl]
      have := h f l hl
      rw [txL_fuel h n m f (sp f l) (by omega) (by omega), txL_fuel h n m (sp f l + 1) l (by omega) (by omega)]
    · rw [if_neg hl, if_neg hl]
def txt (sp : Nat → Nat → Nat) (f l : Nat) : List Nat := txL sp (l - f) f l
theorem txt_1 {sp : Nat → Nat → Nat} {f l : Nat} (h : l ≤ f) : txt sp f l = [48 + f] := by
  unfold txt; rw [show l - f = 0 by omega]; rfl
theorem txt_eq {sp : Nat → Nat → Nat} (h : SpOk sp) {f l : Nat} (hl : f < l) : txt sp f l = 40 :: (txt sp f (sp f l) ++ (txt sp (sp f l + 1) l ++ [41])) := by
  have hs := h f l hl
  show txL sp (l - f) f l = _
  obtain ⟨n, hn⟩ : ∃ n, l - f = n + 1 := ⟨l - f - 1, by omega⟩
  rw [hn]
  show (if f < l then _ else _) = _
  rw [if_pos hl, txL_fuel h n (sp f l - f) f (sp f l) (by omega) (by omega), txL_fuel h n (l - (sp f l + 1)) (sp f l + 1) l (by omega) (by omega)]
  rfl
theorem txt_len {sp : Nat → Nat → Nat} (h : SpOk sp) : ∀ (n f l : Nat), l - f ≤ n → (txt sp f l).length = 3 * (l - f) + 1
  | 0, f, l, h1 => by rw [txt_1 (by omega)]; show 1 = _; omega
  | n + 1, f, l, h1 => by
    by_cases hl : f < l
    · have hs := h f l hl
      rw [txt_eq h hl, List.length_cons, List.length_append, List.length_append, txt_len h n f (sp f l) (by omega), txt_len h n (sp f l + 1) l (by omega)]
      show _ + (_ + 1) + 1 = _
      omega
    · rw [txt_1 (by omega)]; show 1 = _; omega
/-- what an item of the stack will write: 99 a closing bracket, else a run -/
def itT (sp : Nat → Nat → Nat) (c : Nat) : List Nat := if c = 99 then [41] else txt sp (c / 8) (c % 8)
def remT (sp : Nat → Nat → Nat) (S : List Nat) : List Nat := S.reverse.flatMap (itT sp)
def muI (c : Nat) : Nat := if c = 99 then 1 else 3 * (c % 8 - c / 8) + 1
def muT (S : List Nat) : Nat := (S.map muI).sum
theorem muT_app (S T : List Nat) : muT (S ++ T) = muT S + muT T := by simp [muT]
theorem muT_1 (c : Nat) : muT [c] = muI c := by simp [muT]
theorem muT_len : ∀ S : List Nat, S.length ≤ muT S
  | [] => Nat.le_refl _
  | q :: S => by
    have := muT_len S
    have h : 1 ≤ muI q := by unfold muI; split <;> omega
    show S.length + 1 ≤ muI q + muT S
    omega
theorem remT_push (sp : Nat → Nat → Nat) (S : List Nat) (c : Nat) : remT sp (S ++ [c]) = itT sp c ++ remT sp S := by
  unfold remT; rw [List.reverse_append]; simp
/-- the runs of the stack are runs of the order -/
def StOk (sp : Nat → Nat → Nat) (f l : Nat) (S : List Nat) : Prop := ∀ c ∈ S, c ≠ 99 → c < 64 ∧ f ≤ c / 8 ∧ c / 8 ≤ c % 8 ∧ c % 8 ≤ l ∧ (c / 8 < c % 8 → ∃ y ∈ pl sp f l, y.1 = c / 8 ∧ y.2.1 = c % 8)
theorem StOk.kids {sp : Nat → Nat → Nat} (hs : SpOk sp) {f l : Nat} {S : List Nat} {c : Nat} (hl : l < 8) (h : StOk sp f l (S ++ [c])) (hc : c ≠ 99) (hlt : c / 8 < c % 8) :
    StOk sp f l (((S ++ [99]) ++ [8 * (sp (c / 8) (c % 8) + 1) + c % 8]) ++ [8 * (c / 8) + sp (c / 8) (c % 8)]) := by
  have h0 := h c (by simp) hc
  have h2 := hs _ _ hlt
  obtain ⟨y, hy, y1, y2⟩ := h0.2.2.2.2 hlt
  have hm := pl_mem hs hy
  have hk := pl_kid hs _ f l (Nat.le_refl _) y hy
  rw [y1, y2] at hm hk
  have hys : y.2.2 = sp (c / 8) (c % 8) := hm.2.2.2.2
  rw [hys] at hk
  intro d hd hd9
  rcases List.mem_append.mp hd with hd | hd
  · rcases List.mem_append.mp hd with hd | hd
    · rcases List.mem_append.mp hd with hd | hd
      · exact h d (List.mem_append_left _ hd) hd9
      · rw [List.mem_singleton] at hd; exact absurd hd hd9
    · rw [List.mem_singleton] at hd; subst hd
      have e1 : (8 * (sp (c / 8) (c % 8) + 1) + c % 8) / 8 = sp (c / 8) (c % 8) + 1 := by omega
      have e2 : (8 * (sp (c / 8) (c % 8) + 1) + c % 8) % 8 = c % 8 := by omega
      rw [e1, e2]
      exact ⟨by omega, by omega, by omega, by omega, hk.2⟩
  · rw [List.mem_singleton] at hd; subst hd
    have e1 : (8 * (c / 8) + sp (c / 8) (c % 8)) / 8 = c / 8 := by omega
    have e2 : (8 * (c / 8) + sp (c / 8) (c % 8)) % 8 = sp (c / 8) (c % 8) := by omega
    rw [e1, e2]
    exact ⟨by omega, by omega, by omega, by omega, hk.1⟩
/-- the loop that writes an order: what is written, what is still on the stack -/
def WrI (σ : Tw) (sp : Nat → Nat → Nat) (f l : Nat) (S t : List Nat) (τ : Tw) : Prop :=
  Ch [12, 20] [13, 21] σ τ ∧ LnIs τ t ∧ TxIs (τ 20) S ∧ τ 99 21 = nI S.length ∧ t ++ remT sp S = txt sp f l ∧ muT S ≤ 22 ∧ StOk sp f l S
theorem it_99 (sp : Nat → Nat → Nat) : itT sp 99 = [41] := if_pos rfl
theorem it_run {sp : Nat → Nat → Nat} {c : Nat} (h : c ≠ 99) : itT sp c = txt sp (c / 8) (c % 8) := if_neg h
theorem mu_99 : muI 99 = 1 := rfl
theorem mu_run {c : Nat} (h : c ≠ 99) : muI c = 3 * (c % 8 - c / 8) + 1 := if_neg h
theorem rem_kids {sp : Nat → Nat → Nat} (hs : SpOk sp) {S : List Nat} {c : Nat} (h64 : c < 64) (hlt : c / 8 < c % 8) :
    remT sp (S ++ [c]) = 40 :: remT sp (((S ++ [99]) ++ [8 * (sp (c / 8) (c % 8) + 1) + c % 8]) ++ [8 * (c / 8) + sp (c / 8) (c % 8)]) := by
  have h2 := hs _ _ hlt
  rw [remT_push, remT_push, remT_push, remT_push, it_99, it_run (by omega), it_run (show 8 * (c / 8) + sp (c / 8) (c % 8) ≠ 99 by omega), it_run (show 8 * (sp (c / 8) (c % 8) + 1) + c % 8 ≠ 99 by omega), txt_eq hs hlt]
  rw [show (8 * (sp (c / 8) (c % 8) + 1) + c % 8) / 8 = sp (c / 8) (c % 8) + 1 by omega, show (8 * (sp (c / 8) (c % 8) + 1) + c % 8) % 8 = c % 8 by omega, show (8 * (c / 8) + sp (c / 8) (c % 8)) / 8 = c / 8 by omega, show (8 * (c / 8) + sp (c / 8) (c % 8)) % 8 = sp (c / 8) (c % 8) by omega]
  simp
theorem mu_kids {sp : Nat → Nat → Nat} (hs : SpOk sp) {S : List Nat} {c : Nat} (h64 : c < 64) (hlt : c / 8 < c % 8) :
    muT (((S ++ [99]) ++ [8 * (sp (c / 8) (c % 8) + 1) + c % 8]) ++ [8 * (c / 8) + sp (c / 8) (c % 8)]) + 1 = muT (S ++ [c]) := by
  have h2 := hs _ _ hlt
  rw [muT_app, muT_app, muT_app, muT_app, muT_1, muT_1, muT_1, muT_1, mu_99, mu_run (show c ≠ 99 by omega), mu_run (show 8 * (c / 8) + sp (c / 8) (c % 8) ≠ 99 by omega), mu_run (show 8 * (sp (c / 8) (c % 8) + 1) + c % 8 ≠ 99 by omega)]
  omega
/-- the sides as a line -/
def sdTx (sd : Nat → Nat) : Nat → List Nat
  | 0 => []
  | k + 1 => sdTx sd k ++ ((if k = 0 then [] else [120]) ++ dec2 (sd k))
theorem sdTx_len (sd : Nat → Nat) : ∀ k, (sdTx sd k).length ≤ 3 * k
  | 0 => Nat.le_refl _
  | k + 1 => by
    have h1 := sdTx_len sd k
    have h2 := dec2_len (sd k)
    unfold sdTx
    rw [List.length_append, List.length_append]
    split <;> simp <;> omega
theorem nI_nm1 {i : Nat} (h : i < 1000) : ¬ nI i = -1 := by
  intro e
  have := congrArg Int32.toInt e
  rw [nI_toInt (by omega)] at this
  have h2 : (-1 : Int32).toInt = -1 := by decide
  omega
theorem plan_ix (L : List T3) {y : T3} {a c : Nat} (hy : y ∈ L) (h1 : y.1 = a) (h2 : y.2.1 = c) : ∃ j, idxL L a c L.length = some j := by
  obtain ⟨i, hi, he⟩ := List.getElem_of_mem hy
  have hg : L.getD i (0, 0, 0) = y := getD_of (by rw [List.getElem?_eq_getElem hi, he])
  exact idxL_ex hi (by rw [hg]; exact h1) (by rw [hg]; exact h2)
theorem LnIs.same {σ τ : Tw} {t : List Nat} (h : LnIs σ t) (h1 : τ 12 = σ 12) (h2 : τ 99 13 = σ 99 13) : LnIs τ t := ⟨by rw [h1]; exact h.1, by rw [h2]; exact h.2⟩
theorem wr_init {σ : Tw} {sp : Nat → Nat → Nat} {f l : Nat} (hsp : SpOk sp) (hfl : f ≤ l) (hl : l < 8) : WrI σ sp f l [8 * f + l] [] (ws1 (wa1 (ws1 (ws1 σ 13 (nI 0)) 21 (nI 0)) 20 0 (nI (8 * f + l))) 21 (nI (0 + 1))) := by
  refine ⟨((((Ch.rf _ _ _).num 13 _ (by decide)).num 21 _ (by decide)).row 20 _ (by decide) (by decide)).num 21 _ (by decide), ⟨TxIs.nil _, rfl⟩, TxIs.push (t := []) (TxIs.nil _) _, rfl, ?_, ?_, ?_⟩
  · show [] ++ remT sp ([] ++ [8 * f + l]) = _
    rw [remT_push, it_run (by omega), show (8 * f + l) / 8 = f by omega, show (8 * f + l) % 8 = l by omega]
    simp [remT]
  · rw [muT_1, mu_run (by omega)]; omega
  · intro c hc hc9
    rw [List.mem_singleton] at hc
    subst hc
    rw [show (8 * f + l) / 8 = f by omega, show (8 * f + l) % 8 = l by omega]
    exact ⟨by omega, by omega, by omega, by omega, fun h => ⟨_, pl_root hsp h, rfl, rfl⟩⟩
theorem wr_99 {σ τ τ' : Tw} {sp : Nat → Nat → Nat} {f l q : Nat} {S1 t : List Nat} (h : WrI σ sp f l (S1 ++ [q]) t τ) (hq : q = 99) (h2 : LnIs τ' (t ++ [41]) ∧ Ch [12] [13] (ws1 τ 21 (nI (S1.length + 1 - 1))) τ') : WrI σ sp f l S1 (t ++ [41]) τ' := by
  obtain ⟨hC, hL, hK, hT, hR, hM, hO⟩ := h
  refine ⟨(hC.num 21 _ (by decide)).tr (h2.2.mono (by decide) (by decide)), h2.1, ?_, ?_, ?_, ?_, fun c hc => hO c (List.mem_append_left _ hc)⟩
  · rw [h2.2.1 20 (by decide) (by decide)]; exact hK.pop.1
  · rw [h2.2.2 21 (by decide), Nat.add_sub_cancel]; rfl
  · rw [← hR, remT_push, hq, it_99]; simp
  · rw [muT_app] at hM; omega
theorem wr_leaf {σ τ τ' : Tw} {sp : Nat → Nat → Nat} {f l q : Nat} {S1 t : List Nat} (h : WrI σ sp f l (S1 ++ [q]) t τ) (hq : ¬ q = 99) (he : q / 8 = q % 8) (h2 : LnIs τ' (t ++ [48 + q / 8]) ∧ Ch [12] [13] (ws1 τ 21 (nI (S1.length + 1 - 1))) τ') : WrI σ sp f l S1 (t ++ [48 + q / 8]) τ' := by
  obtain ⟨hC, hL, hK, hT, hR, hM, hO⟩ := h
  refine ⟨(hC.num 21 _ (by decide)).tr (h2.2.mono (by decide) (by decide)), h2.1, ?_, ?_, ?_, ?_, fun c hc => hO c (List.mem_append_left _ hc)⟩
  · rw [h2.2.1 20 (by decide) (by decide)]; exact hK.pop.1
  · rw [h2.2.2 21 (by decide), Nat.add_sub_cancel]; rfl
  · rw [← hR, remT_push, it_run hq, txt_1 (by omega)]; simp
  · rw [muT_app] at hM; omega
theorem wr_node {σ τ τ' : Tw} {sp : Nat → Nat → Nat} {f l q : Nat} {S1 t : List Nat} (hsp : SpOk sp) (hl : l < 8) (h : WrI σ sp f l (S1 ++ [q]) t τ) (hq : ¬ q = 99) (he : ¬ q / 8 = q % 8) (h2 : LnIs τ' (t ++ [40]) ∧ Ch [12] [13] (ws1 τ 21 (nI (S1.length + 1 - 1))) τ') :
    WrI σ sp f l (((S1 ++ [99]) ++ [8 * (sp (q / 8) (q % 8) + 1) + q % 8]) ++ [8 * (q / 8) + sp (q / 8) (q % 8)]) (t ++ [40]) (ws1 (wa1 (ws1 (wa1 (ws1 (wa1 τ' 20 (S1.length + 1 - 1) (nI 99)) 21 (nI (S1.length + 1 - 1 + 1))) 20 (S1.length + 1) (nI (8 * (sp (q / 8) (q % 8) + 1) + q % 8))) 21 (nI (S1.length + 1 + 1))) 20 (S1.length + 2) (nI (8 * (q / 8) + sp (q / 8) (q % 8)))) 21 (nI (S1.length + 2 + 1))) := by
  obtain ⟨hC, hL, hK, hT, hR, hM, hO⟩ := h
  have hq1 := hO q (by simp) hq
  have hlt : q / 8 < q % 8 := by omega
  refine ⟨(((((((hC.num 21 _ (by decide)).tr (h2.2.mono (by decide) (by decide))).row 20 _ (by decide) (by decide)).num 21 _ (by decide)).row 20 _ (by decide) (by decide)).num 21 _ (by decide)).row 20 _ (by decide) (by decide)).num 21 _ (by decide), h2.1, ?_, ?_, ?_, ?_, hO.kids hsp hl hq hlt⟩
  · have h20 : τ' 20 = τ 20 := h2.2.1 20 (by decide) (by decide)
    have := (((show TxIs (τ' 20) S1 by rw [h20]; exact hK.pop.1).push 99).push (8 * (sp (q / 8) (q % 8) + 1) + q % 8)).push (8 * (q / 8) + sp (q / 8) (q % 8))
    simp only [List.length_append, List.length_cons, List.length_nil] at this
    exact this
  · simp [List.length_append]; rfl
  · rw [← hR, rem_kids hsp hq1.1 hlt]; simp
  · have := mu_kids hsp (S := S1) hq1.1 hlt; omega
theorem wr_end {σ τ : Tw} {sp : Nat → Nat → Nat} {f l : Nat} {S t : List Nat} (h : WrI σ sp f l S t τ) (hS : S.length = 0) : τ 99 13 = nI (txt sp f l).length ∧ LnIs (ws1 τ 14 0) (txt sp f l) ∧ Ch [12, 20] [13, 14, 21] σ (ws1 τ 14 0) ∧ ws1 τ 14 0 99 14 = 0 := by
  obtain ⟨hC, hL, hK, hT, hR, hM, hO⟩ := h
  have e : S = [] := List.length_eq_zero_iff.mp hS
  subst e
  have ht : t = txt sp f l := by rw [← hR]; simp [remT]
  subst ht
  exact ⟨hL.2, hL.same rfl rfl, (hC.mono (by decide) (by decide)).num 14 _ (by decide), rfl⟩

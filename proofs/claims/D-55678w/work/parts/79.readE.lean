/-- the word at p against the reference's reading -/
def WdOk (t : List Nat) (p : Nat) : Prop := (wdF t p = [115, 105, 100, 101] ∧ readO t p = ((numF t 2 (p + 4, false)).1, (115, (numF t 2 (p + 4, false)).2, 0))) ∨ (wdF t p = [115, 101, 116] ∧ readO t p = ((numF t 2 (numF t 1 (p + 3, false)).1).1, (101, (numF t 1 (p + 3, false)).2, (numF t 2 (numF t 1 (p + 3, false)).1).2))) ∨ (wdF t p = [116, 97, 107, 101] ∧ readO t p = ((p + 4, false), (116, 0, 0))) ∨ (wdF t p = [99, 111, 111, 112, 101, 114] ∧ readO t p = ((numF t 5 (p + 6, false)).1, (99, (numF t 5 (p + 6, false)).2, 0))) ∨ (wdF t p = [112, 108, 97, 110] ∧ readO t p = ((numF t 1 (numF t 1 (p + 4, false)).1).1, (112, (numF t 1 (p + 4, false)).2, (numF t 1 (numF t 1 (p + 4, false)).1).2))) ∨ ((∀ z ∈ wds, ¬ wdF t p = z.2) ∧ (readO t p).1 = (p + (wdF t p).length, true))
theorem wdG_x {t : List Nat} {p u : Nat} {w : List Nat} (h : ∀ c, t[p + w.length]? = some c → ¬ begB (w ++ [c]) = true) : wdG t p u w = w := by
  cases u with
  | zero => rfl
  | succ u =>
    cases e : t[p + w.length]? with
    | none => exact wdG_n e
    | some c => exact wdG_e e (h c e)
theorem bn_cooper (c : Nat) (h : begB ([99, 111, 111, 112, 101, 114] ++ [c]) = true) : False := by
  unfold begB wds at h
  simp [SwP] at h
theorem n_cooper {t : List Nat} {p : Nat} (h0 : t[p]? = some 99) (h1 : t[p + 1]? = some 111) (h2 : t[p + 2]? = some 111) (h3 : t[p + 3]? = some 112) (h4 : t[p + 4]? = some 101) (hw : wdF t p = wdG t p 2 [99, 111, 111, 112, 101, 114]) (h5 : t[p + 5]? = some 114) : WdOk t p := by
  have e : wdF t p = [99, 111, 111, 112, 101, 114] := hw.trans (wdG_x (fun c hc hb => by
    have hc : t[p + 6]? = some c := hc
    exact bn_cooper c hb))
  refine Or.inr (Or.inr (Or.inr (Or.inl ⟨e, ?_⟩)))
  simp [readO, readS, needF, h0, h1, h2, h3, h4, h5]
theorem bn_coope (c : Nat) (h : begB ([99, 111, 111, 112, 101] ++ [c]) = true) : c = 114 := by
  unfold begB wds at h
  simp [SwP] at h
  omega
theorem n_coope {t : List Nat} {p : Nat} (h0 : t[p]? = some 99) (h1 : t[p + 1]? = some 111) (h2 : t[p + 2]? = some 111) (h3 : t[p + 3]? = some 112) (hw : wdF t p = wdG t p 3 [99, 111, 111, 112, 101]) (h4 : t[p + 4]? = some 101) : WdOk t p := by
  by_cases g114 : t[p + 5]? = some 114
  · exact n_cooper h0 h1 h2 h3 h4 (hw.trans (wdG_s (c := 114) g114 (by decide))) g114
  have e : wdF t p = [99, 111, 111, 112, 101] := hw.trans (wdG_x (fun c hc hb => by
    have hc : t[p + 5]? = some c := hc
    rcases bn_coope c hb with rfl
    · exact g114 hc))
  refine Or.inr (Or.inr (Or.inr (Or.inr (Or.inr (⟨fun z hz he => ?_, ?_⟩)))))
  · rw [e] at he; revert he; revert z; decide
  · rw [e]; simp [readO, readS, needF, numF, h0, h1, h2, h3, h4, g114]
theorem bn_coop (c : Nat) (h : begB ([99, 111, 111, 112] ++ [c]) = true) : c = 101 := by
  unfold begB wds at h
  simp [SwP] at h
  omega
theorem n_coop {t : List Nat} {p : Nat} (h0 : t[p]? = some 99) (h1 : t[p + 1]? = some 111) (h2 : t[p + 2]? = some 111) (hw : wdF t p = wdG t p 4 [99, 111, 111, 112]) (h3 : t[p + 3]? = some 112) : WdOk t p := by
  by_cases g101 : t[p + 4]? = some 101
  · exact n_coope h0 h1 h2 h3 (hw.trans (wdG_s (c := 101) g101 (by decide))) g101
  have e : wdF t p = [99, 111, 111, 112] := hw.trans (wdG_x (fun c hc hb => by
    have hc : t[p + 4]? = some c := hc
    rcases bn_coop c hb with rfl
    · exact g101 hc))
  refine Or.inr (Or.inr (Or.inr (Or.inr (Or.inr (⟨fun z hz he => ?_, ?_⟩)))))
  · rw [e] at he; revert he; revert z; decide
  · rw [e]; simp [readO, readS, needF, numF, h0, h1, h2, h3, g101]
theorem bn_side (c : Nat) (h : begB ([115, 105, 100, 101] ++ [c]) = true) : False := by
  unfold begB wds at h
  simp [SwP] at h
theorem n_side {t : List Nat} {p : Nat} (h0 : t[p]? = some 115) (h1 : t[p + 1]? = some 105) (h2 : t[p + 2]? = some 100) (hw : wdF t p = wdG t p 4 [115, 105, 100, 101]) (h3 : t[p + 3]? = some 101) : WdOk t p := by
  have e : wdF t p = [115, 105, 100, 101] := hw.trans (wdG_x (fun c hc hb => by
    have hc : t[p + 4]? = some c := hc
    exact bn_side c hb))
  refine Or.inl ⟨e, ?_⟩
  simp [readO, readS, needF, h0, h1, h2, h3]
theorem bn_take (c : Nat) (h : begB ([116, 97, 107, 101] ++ [c]) = true) : False := by
  unfold begB wds at h
  simp [SwP] at h
theorem n_take {t : List Nat} {p : Nat} (h0 : t[p]? = some 116) (h1 : t[p + 1]? = some 97) (h2 : t[p + 2]? = some 107) (hw : wdF t p = wdG t p 4 [116, 97, 107, 101]) (h3 : t[p + 3]? = some 101) : WdOk t p := by
  have e : wdF t p = [116, 97, 107, 101] := hw.trans (wdG_x (fun c hc hb => by
    have hc : t[p + 4]? = some c := hc
    exact bn_take c hb))
  refine Or.inr (Or.inr (Or.inl ⟨e, ?_⟩))
  simp [readO, readS, needF, h0, h1, h2, h3]
theorem bn_plan (c : Nat) (h : begB ([112, 108, 97, 110] ++ [c]) = true) : False := by
  unfold begB wds at h
  simp [SwP] at h
theorem n_plan {t : List Nat} {p : Nat} (h0 : t[p]? = some 112) (h1 : t[p + 1]? = some 108) (h2 : t[p + 2]? = some 97) (hw : wdF t p = wdG t p 4 [112, 108, 97, 110]) (h3 : t[p + 3]? = some 110) : WdOk t p := by
  have e : wdF t p = [112, 108, 97, 110] := hw.trans (wdG_x (fun c hc hb => by
    have hc : t[p + 4]? = some c := hc
    exact bn_plan c hb))
  refine Or.inr (Or.inr (Or.inr (Or.inr (Or.inl ⟨e, ?_⟩))))
  simp [readO, readS, needF, h0, h1, h2, h3]
theorem bn_sid (c : Nat) (h : begB ([115, 105, 100] ++ [c]) = true) : c = 101 := by
  unfold begB wds at h
  simp [SwP] at h
  omega
theorem n_sid {t : List Nat} {p : Nat} (h0 : t[p]? = some 115) (h1 : t[p + 1]? = some 105) (hw : wdF t p = wdG t p 5 [115, 105, 100]) (h2 : t[p + 2]? = some 100) : WdOk t p := by
  by_cases g101 : t[p + 3]? = some 101
  · exact n_side h0 h1 h2 (hw.trans (wdG_s (c := 101) g101 (by decide))) g101
  have e : wdF t p = [115, 105, 100] := hw.trans (wdG_x (fun c hc hb => by
    have hc : t[p + 3]? = some c := hc
    rcases bn_sid c hb with rfl
    · exact g101 hc))
  refine Or.inr (Or.inr (Or.inr (Or.inr (Or.inr (⟨fun z hz he => ?_, ?_⟩)))))
  · rw [e] at he; revert he; revert z; decide
  · rw [e]; simp [readO, readS, needF, numF, h0, h1, h2, g101]
theorem bn_coo (c : Nat) (h : begB ([99, 111, 111] ++ [c]) = true) : c = 112 := by
  unfold begB wds at h
  simp [SwP] at h
  omega
theorem n_coo {t : List Nat} {p : Nat} (h0 : t[p]? = some 99) (h1 : t[p + 1]? = some 111) (hw : wdF t p = wdG t p 5 [99, 111, 111]) (h2 : t[p + 2]? = some 111) : WdOk t p := by
  by_cases g112 : t[p + 3]? = some 112
  · exact n_coop h0 h1 h2 (hw.trans (wdG_s (c := 112) g112 (by decide))) g112
  have e : wdF t p = [99, 111, 111] := hw.trans (wdG_x (fun c hc hb => by
    have hc : t[p + 3]? = some c := hc
    rcases bn_coo c hb with rfl
    · exact g112 hc))
  refine Or.inr (Or.inr (Or.inr (Or.inr (Or.inr (⟨fun z hz he => ?_, ?_⟩)))))
  · rw [e] at he; revert he; revert z; decide
  · rw [e]; simp [readO, readS, needF, numF, h0, h1, h2, g112]
theorem bn_tak (c : Nat) (h : begB ([116, 97, 107] ++ [c]) = true) : c = 101 := by
  unfold begB wds at h
  simp [SwP] at h
  omega
theorem n_tak {t : List Nat} {p : Nat} (h0 : t[p]? = some 116) (h1 : t[p + 1]? = some 97) (hw : wdF t p = wdG t p 5 [116, 97, 107]) (h2 : t[p + 2]? = some 107) : WdOk t p := by
  by_cases g101 : t[p + 3]? = some 101
  · exact n_take h0 h1 h2 (hw.trans (wdG_s (c := 101) g101 (by decide))) g101
  have e : wdF t p = [116, 97, 107] := hw.trans (wdG_x (fun c hc hb => by
    have hc : t[p + 3]? = some c := hc
    rcases bn_tak c hb with rfl
    · exact g101 hc))
  refine Or.inr (Or.inr (Or.inr (Or.inr (Or.inr (⟨fun z hz he => ?_, ?_⟩)))))
  · rw [e] at he; revert he; revert z; decide
  · rw [e]; simp [readO, readS, needF, numF, h0, h1, h2, g101]
theorem bn_set (c : Nat) (h : begB ([115, 101, 116] ++ [c]) = true) : False := by
  unfold begB wds at h
  simp [SwP] at h
theorem n_set {t : List Nat} {p : Nat} (h0 : t[p]? = some 115) (h1 : t[p + 1]? = some 101) (hw : wdF t p = wdG t p 5 [115, 101, 116]) (h2 : t[p + 2]? = some 116) : WdOk t p := by
  have e : wdF t p = [115, 101, 116] := hw.trans (wdG_x (fun c hc hb => by
    have hc : t[p + 3]? = some c := hc
    exact bn_set c hb))
  refine Or.inr (Or.inl ⟨e, ?_⟩)
  simp [readO, readS, needF, h0, h1, h2]
theorem bn_pla (c : Nat) (h : begB ([112, 108, 97] ++ [c]) = true) : c = 110 := by
  unfold begB wds at h
  simp [SwP] at h
  omega
theorem n_pla {t : List Nat} {p : Nat} (h0 : t[p]? = some 112) (h1 : t[p + 1]? = some 108) (hw : wdF t p = wdG t p 5 [112, 108, 97]) (h2 : t[p + 2]? = some 97) : WdOk t p := by
  by_cases g110 : t[p + 3]? = some 110
  · exact n_plan h0 h1 h2 (hw.trans (wdG_s (c := 110) g110 (by decide))) g110
  have e : wdF t p = [112, 108, 97] := hw.trans (wdG_x (fun c hc hb => by
    have hc : t[p + 3]? = some c := hc
    rcases bn_pla c hb with rfl
    · exact g110 hc))
  refine Or.inr (Or.inr (Or.inr (Or.inr (Or.inr (⟨fun z hz he => ?_, ?_⟩)))))
  · rw [e] at he; revert he; revert z; decide
  · rw [e]; simp [readO, readS, needF, numF, h0, h1, h2, g110]
theorem bn_pl (c : Nat) (h : begB ([112, 108] ++ [c]) = true) : c = 97 := by
  unfold begB wds at h
  simp [SwP] at h
  omega
theorem n_pl {t : List Nat} {p : Nat} (h0 : t[p]? = some 112) (hw : wdF t p = wdG t p 6 [112, 108]) (h1 : t[p + 1]? = some 108) : WdOk t p := by
  by_cases g97 : t[p + 2]? = some 97
  · exact n_pla h0 h1 (hw.trans (wdG_s (c := 97) g97 (by decide))) g97
  have e : wdF t p = [112, 108] := hw.trans (wdG_x (fun c hc hb => by
    have hc : t[p + 2]? = some c := hc
    rcases bn_pl c hb with rfl
    · exact g97 hc))
  refine Or.inr (Or.inr (Or.inr (Or.inr (Or.inr (⟨fun z hz he => ?_, ?_⟩)))))
  · rw [e] at he; revert he; revert z; decide
  · rw [e]; simp [readO, readS, needF, numF, h0, h1, g97]
theorem bn_co (c : Nat) (h : begB ([99, 111] ++ [c]) = true) : c = 111 := by
  unfold begB wds at h
  simp [SwP] at h
  omega
theorem n_co {t : List Nat} {p : Nat} (h0 : t[p]? = some 99) (hw : wdF t p = wdG t p 6 [99, 111]) (h1 : t[p + 1]? = some 111) : WdOk t p := by
  by_cases g111 : t[p + 2]? = some 111
  · exact n_coo h0 h1 (hw.trans (wdG_s (c := 111) g111 (by decide))) g111
  have e : wdF t p = [99, 111] := hw.trans (wdG_x (fun c hc hb => by
    have hc : t[p + 2]? = some c := hc
    rcases bn_co c hb with rfl
    · exact g111 hc))
  refine Or.inr (Or.inr (Or.inr (Or.inr (Or.inr (⟨fun z hz he => ?_, ?_⟩)))))
  · rw [e] at he; revert he; revert z; decide
  · rw [e]; simp [readO, readS, needF, numF, h0, h1, g111]
theorem bn_se (c : Nat) (h : begB ([115, 101] ++ [c]) = true) : c = 116 := by
  unfold begB wds at h
  simp [SwP] at h
  omega
theorem n_se {t : List Nat} {p : Nat} (h0 : t[p]? = some 115) (hw : wdF t p = wdG t p 6 [115, 101]) (h1 : t[p + 1]? = some 101) : WdOk t p := by
  by_cases g116 : t[p + 2]? = some 116
  · exact n_set h0 h1 (hw.trans (wdG_s (c := 116) g116 (by decide))) g116
  have e : wdF t p = [115, 101] := hw.trans (wdG_x (fun c hc hb => by
    have hc : t[p + 2]? = some c := hc
    rcases bn_se c hb with rfl
    · exact g116 hc))
  refine Or.inr (Or.inr (Or.inr (Or.inr (Or.inr (⟨fun z hz he => ?_, ?_⟩)))))
  · rw [e] at he; revert he; revert z; decide
  · rw [e]; simp [readO, readS, needF, numF, h0, h1, g116]
theorem bn_si (c : Nat) (h : begB ([115, 105] ++ [c]) = true) : c = 100 := by
  unfold begB wds at h
  simp [SwP] at h
  omega
theorem n_si {t : List Nat} {p : Nat} (h0 : t[p]? = some 115) (hw : wdF t p = wdG t p 6 [115, 105]) (h1 : t[p + 1]? = some 105) : WdOk t p := by
  by_cases g100 : t[p + 2]? = some 100
  · exact n_sid h0 h1 (hw.trans (wdG_s (c := 100) g100 (by decide))) g100
  have e : wdF t p = [115, 105] := hw.trans (wdG_x (fun c hc hb => by
    have hc : t[p + 2]? = some c := hc
    rcases bn_si c hb with rfl
    · exact g100 hc))
  refine Or.inr (Or.inr (Or.inr (Or.inr (Or.inr (⟨fun z hz he => ?_, ?_⟩)))))
  · rw [e] at he; revert he; revert z; decide
  · rw [e]; simp [readO, readS, needF, numF, h0, h1, g100]
theorem bn_ta (c : Nat) (h : begB ([116, 97] ++ [c]) = true) : c = 107 := by
  unfold begB wds at h
  simp [SwP] at h
  omega
theorem n_ta {t : List Nat} {p : Nat} (h0 : t[p]? = some 116) (hw : wdF t p = wdG t p 6 [116, 97]) (h1 : t[p + 1]? = some 97) : WdOk t p := by
  by_cases g107 : t[p + 2]? = some 107
  · exact n_tak h0 h1 (hw.trans (wdG_s (c := 107) g107 (by decide))) g107
  have e : wdF t p = [116, 97] := hw.trans (wdG_x (fun c hc hb => by
    have hc : t[p + 2]? = some c := hc
    rcases bn_ta c hb with rfl
    · exact g107 hc))
  refine Or.inr (Or.inr (Or.inr (Or.inr (Or.inr (⟨fun z hz he => ?_, ?_⟩)))))
  · rw [e] at he; revert he; revert z; decide
  · rw [e]; simp [readO, readS, needF, numF, h0, h1, g107]
theorem bn_s (c : Nat) (h : begB ([115] ++ [c]) = true) : c = 101 ∨ c = 105 := by
  unfold begB wds at h
  simp [SwP] at h
  omega
theorem n_s {t : List Nat} {p : Nat}  (hw : wdF t p = wdG t p 7 [115]) (h0 : t[p]? = some 115) : WdOk t p := by
  by_cases g101 : t[p + 1]? = some 101
  · exact n_se h0 (hw.trans (wdG_s (c := 101) g101 (by decide))) g101
  by_cases g105 : t[p + 1]? = some 105
  · exact n_si h0 (hw.trans (wdG_s (c := 105) g105 (by decide))) g105
  have e : wdF t p = [115] := hw.trans (wdG_x (fun c hc hb => by
    have hc : t[p + 1]? = some c := hc
    rcases bn_s c hb with rfl | rfl
    · exact g101 hc
    · exact g105 hc))
  refine Or.inr (Or.inr (Or.inr (Or.inr (Or.inr (⟨fun z hz he => ?_, ?_⟩)))))
  · rw [e] at he; revert he; revert z; decide
  · rw [e]; simp [readO, readS, needF, numF, h0, g101, g105]
theorem bn_p (c : Nat) (h : begB ([112] ++ [c]) = true) : c = 108 := by
  unfold begB wds at h
  simp [SwP] at h
  omega
theorem n_p {t : List Nat} {p : Nat}  (hw : wdF t p = wdG t p 7 [112]) (h0 : t[p]? = some 112) : WdOk t p := by
  by_cases g108 : t[p + 1]? = some 108
  · exact n_pl h0 (hw.trans (wdG_s (c := 108) g108 (by decide))) g108
  have e : wdF t p = [112] := hw.trans (wdG_x (fun c hc hb => by
    have hc : t[p + 1]? = some c := hc
    rcases bn_p c hb with rfl
    · exact g108 hc))
  refine Or.inr (Or.inr (Or.inr (Or.inr (Or.inr (⟨fun z hz he => ?_, ?_⟩)))))
  · rw [e] at he; revert he; revert z; decide
  · rw [e]; simp [readO, readS, needF, numF, h0, g108]
theorem bn_c (c : Nat) (h : begB ([99] ++ [c]) = true) : c = 111 := by
  unfold begB wds at h
  simp [SwP] at h
  omega
theorem n_c {t : List Nat} {p : Nat}  (hw : wdF t p = wdG t p 7 [99]) (h0 : t[p]? = some 99) : WdOk t p := by
  by_cases g111 : t[p + 1]? = some 111
  · exact n_co h0 (hw.trans (wdG_s (c := 111) g111 (by decide))) g111
  have e : wdF t p = [99] := hw.trans (wdG_x (fun c hc hb => by
    have hc : t[p + 1]? = some c := hc
    rcases bn_c c hb with rfl
    · exact g111 hc))
  refine Or.inr (Or.inr (Or.inr (Or.inr (Or.inr (⟨fun z hz he => ?_, ?_⟩)))))
  · rw [e] at he; revert he; revert z; decide
  · rw [e]; simp [readO, readS, needF, numF, h0, g111]
theorem bn_t (c : Nat) (h : begB ([116] ++ [c]) = true) : c = 97 := by
  unfold begB wds at h
  simp [SwP] at h
  omega
theorem n_t {t : List Nat} {p : Nat}  (hw : wdF t p = wdG t p 7 [116]) (h0 : t[p]? = some 116) : WdOk t p := by
  by_cases g97 : t[p + 1]? = some 97
  · exact n_ta h0 (hw.trans (wdG_s (c := 97) g97 (by decide))) g97
  have e : wdF t p = [116] := hw.trans (wdG_x (fun c hc hb => by
    have hc : t[p + 1]? = some c := hc
    rcases bn_t c hb with rfl
    · exact g97 hc))
  refine Or.inr (Or.inr (Or.inr (Or.inr (Or.inr (⟨fun z hz he => ?_, ?_⟩)))))
  · rw [e] at he; revert he; revert z; decide
  · rw [e]; simp [readO, readS, needF, numF, h0, g97]
theorem bn_e (c : Nat) (h : begB ([] ++ [c]) = true) : c = 99 ∨ c = 112 ∨ c = 115 ∨ c = 116 := by
  unfold begB wds at h
  simp [SwP] at h
  omega
theorem n_e {t : List Nat} {p : Nat} (hw : wdF t p = wdG t p 8 []) : WdOk t p := by
  by_cases g99 : t[p]? = some 99
  · exact n_c  (hw.trans (wdG_s (c := 99) g99 (by decide))) g99
  by_cases g112 : t[p]? = some 112
  · exact n_p  (hw.trans (wdG_s (c := 112) g112 (by decide))) g112
  by_cases g115 : t[p]? = some 115
  · exact n_s  (hw.trans (wdG_s (c := 115) g115 (by decide))) g115
  by_cases g116 : t[p]? = some 116
  · exact n_t  (hw.trans (wdG_s (c := 116) g116 (by decide))) g116
  have e : wdF t p = [] := hw.trans (wdG_x (fun c hc hb => by
    have hc : t[p]? = some c := hc
    rcases bn_e c hb with rfl | rfl | rfl | rfl
    · exact g99 hc
    · exact g112 hc
    · exact g115 hc
    · exact g116 hc))
  refine Or.inr (Or.inr (Or.inr (Or.inr (Or.inr (⟨fun z hz he => ?_, ?_⟩)))))
  · rw [e] at he; revert he; revert z; decide
  · rw [e]; simp [readO, readS, needF, numF, g99, g112, g115, g116]
theorem wd_ok (t : List Nat) (p : Nat) : WdOk t p := n_e rfl

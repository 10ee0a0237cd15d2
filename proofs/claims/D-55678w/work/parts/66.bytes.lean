/-! bytes of characters -/
def bt (c : Nat) : Int32 := (nI c).toInt8.toInt32
theorem bt_nar (x : Int32) : vp_nar .byte x = x.toInt8.toInt32 := rfl
theorem nar_bt : ∀ c, c < 256 → vp_nar .byte (bt c) = bt c := by decide +kernel
theorem and_bt : ∀ c, c < 256 → bt c &&& nI 255 = nI c := by decide +kernel
theorem shr_0 {c : Nat} (h : c < 65536) : nI c >>> nI 0 = nI c := by
  apply Int32.toBitVec_inj.mp
  simp [nI]
theorem shr_8 {c : Nat} (h : c < 65536) : nI c >>> nI 8 = nI (c / 256) := by
  apply Int32.toBitVec_inj.mp
  rw [Int32.toBitVec_shiftRight]
  have e8 : (nI 8).toBitVec.smod 32 = 8#32 := by decide
  have hc : (nI c).toBitVec = BitVec.ofNat 32 c := rfl
  have hd : (nI (c / 256)).toBitVec = BitVec.ofNat 32 (c / 256) := rfl
  rw [e8, hc, hd]
  show (BitVec.ofNat 32 c).sshiftRight 8 = _
  rw [BitVec.sshiftRight_eq_of_msb_false]
  · apply BitVec.eq_of_toNat_eq
    simp only [BitVec.toNat_ushiftRight, BitVec.toNat_ofNat, Nat.shiftRight_eq_div_pow]
    omega
  · rw [BitVec.msb_eq_false_iff_two_mul_lt]
    simp only [BitVec.toNat_ofNat]
    omega
theorem i8_mod (c : Nat) : (nI c).toInt8 = (nI (c % 256)).toInt8 := by
  apply Int8.toBitVec_inj.mp
  apply BitVec.eq_of_toNat_eq
  have hc : (nI c).toInt8.toBitVec = (BitVec.ofNat 32 c).signExtend 8 := rfl
  have hd : (nI (c % 256)).toInt8.toBitVec = (BitVec.ofNat 32 (c % 256)).signExtend 8 := rfl
  rw [hc, hd, BitVec.signExtend_eq_setWidth_of_le _ (by decide), BitVec.signExtend_eq_setWidth_of_le _ (by decide)]
  simp only [BitVec.toNat_setWidth, BitVec.toNat_ofNat]
  omega
theorem bt_lo {c : Nat} (h : c < 65536) : (nI c >>> nI 0).toInt8.toInt32 = bt (c % 256) := by
  rw [shr_0 h, i8_mod]; rfl
theorem bt_hi {c : Nat} (h : c < 65536) : (nI c >>> nI 8).toInt8.toInt32 = bt (c / 256) := by
  rw [shr_8 h]; rfl
theorem cmb {h l : Nat} (hh : h < 256) (hl : l < 256) : (((nI l <<< nI 0) ||| (nI h <<< nI 8)).toUInt32 % 65536).toInt32 = nI (256 * h + l) := by
  have e1 : nI l <<< nI 0 = nI l := by
    apply Int32.toBitVec_inj.mp
    simp [nI]
  have e2 : nI h <<< nI 8 = nI (256 * h) := by
    apply Int32.toBitVec_inj.mp
    rw [Int32.toBitVec_shiftLeft]
    have e8 : (nI 8).toBitVec.smod 32 = 8#32 := by decide
    have hc : (nI h).toBitVec = BitVec.ofNat 32 h := rfl
    have hd : (nI (256 * h)).toBitVec = BitVec.ofNat 32 (256 * h) := rfl
    rw [e8, hc, hd]
    apply BitVec.eq_of_toNat_eq
    simp [Nat.shiftLeft_eq]
    omega
  have e3 : nI l ||| nI (256 * h) = nI (256 * h + l) := by
    apply Int32.toBitVec_inj.mp
    apply BitVec.eq_of_toNat_eq
    have hd : (nI l ||| nI (256 * h)).toBitVec.toNat = (l % 2 ^ 32) ||| ((256 * h) % 2 ^ 32) := rfl
    rw [hd]
    show _ = (256 * h + l) % 2 ^ 32
    rw [Nat.mod_eq_of_lt (show l < 2 ^ 32 by omega), Nat.mod_eq_of_lt (show 256 * h < 2 ^ 32 by omega), Nat.mod_eq_of_lt (show 256 * h + l < 2 ^ 32 by omega), Nat.or_comm, show 256 * h = 2 ^ 8 * h by omega]
    exact (Nat.two_pow_add_eq_or_of_lt (by omega) h).symm
  rw [e1, e2, e3]
  exact i2c_n (by omega)
/-- a text's bytes, narrow and wide -/
def L1Is (f : Nat → Int32) (t : List Nat) : Prop := ∀ (i c : Nat), t[i]? = some c → f i = bt c ∧ c < 256
def U16Is (f : Nat → Int32) (t : List Nat) : Prop := ∀ (i c : Nat), t[i]? = some c → f (2 * i) = bt (c % 256) ∧ f (2 * i + 1) = bt (c / 256) ∧ c < 65536
theorem L1Is.push {f : Nat → Int32} {t : List Nat} (h : L1Is f t) {c : Nat} (hc : c < 256) : L1Is (upd f t.length (bt c)) (t ++ [c]) := by
  intro i d hi
  by_cases e : i < t.length
  · rw [List.getElem?_append_left e] at hi
    rw [upd_n (by omega)]
    exact h i d hi
  · rw [List.getElem?_append_right (by omega)] at hi
    have : i - t.length < 1 := (List.getElem?_eq_some_iff.mp hi).1
    have e2 : i = t.length := by omega
    subst e2
    rw [Nat.sub_self] at hi
    cases hi
    exact ⟨upd_s _ _ _, hc⟩
theorem U16Is.push {f : Nat → Int32} {t : List Nat} (h : U16Is f t) {c : Nat} (hc : c < 65536) : U16Is (upd (upd f (2 * t.length) (bt (c % 256))) (2 * t.length + 1) (bt (c / 256))) (t ++ [c]) := by
  intro i d hi
  by_cases e : i < t.length
  · rw [List.getElem?_append_left e] at hi
    rw [upd_n (by omega), upd_n (by omega), upd_n (by omega), upd_n (by omega)]
    exact h i d hi
  · rw [List.getElem?_append_right (by omega)] at hi
    have : i - t.length < 1 := (List.getElem?_eq_some_iff.mp hi).1
    have e2 : i = t.length := by omega
    subst e2
    rw [Nat.sub_self] at hi
    cases hi
    exact ⟨by rw [upd_n (by omega)]; exact upd_s _ _ _, upd_s _ _ _, hc⟩
/-- a text as a builder holds it: coder 0 narrow, coder 1 wide -/
def TbIs (co : Nat) (f : Nat → Int32) (t : List Nat) : Prop := (co = 0 ∧ L1Is f t) ∨ (co = 1 ∧ U16Is f t)
theorem TbIs.co {co : Nat} {f : Nat → Int32} {t : List Nat} (h : TbIs co f t) : co = 0 ∨ co = 1 := by
  rcases h with h | h
  · exact Or.inl h.1
  · exact Or.inr h.1
theorem TbIs.lt {co : Nat} {f : Nat → Int32} {t : List Nat} (h : TbIs co f t) {i c : Nat} (hc : t[i]? = some c) : c < 65536 := by
  rcases h with h | h
  · have := (h.2 i c hc).2; omega
  · exact (h.2 i c hc).2.2

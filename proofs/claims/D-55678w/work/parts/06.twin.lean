/-! THE REFERENCE: its one object and its twenty arrays, as rows of numbers: row k is the array of field k, row 99 the numbers among the fields -/
set_option maxRecDepth 100000
abbrev Tw : Type := Nat → Nat → Int32
def rw2 (σ : Tw) (k : Nat) (f : Nat → Int32) : Tw := fun i => if i = k then f else σ i
theorem rw2_s (σ : Tw) (k : Nat) (f : Nat → Int32) : rw2 σ k f k = f := if_pos rfl
theorem rw2_n {σ : Tw} {k i : Nat} {f : Nat → Int32} (h : i ≠ k) : rw2 σ k f i = σ i := if_neg h
theorem rw2_id (σ : Tw) (k : Nat) : rw2 σ k (σ k) = σ := by funext i; by_cases h : i = k <;> simp [rw2, h]
theorem rw2_rw2 (σ : Tw) (k : Nat) (f g : Nat → Int32) : rw2 (rw2 σ k f) k g = rw2 σ k g := by funext i; by_cases h : i = k <;> simp [rw2, h]
/-- one number of the object -/
abbrev ws1 (σ : Tw) (k : Nat) (x : Int32) : Tw := rw2 σ 99 (upd (σ 99) k x)
/-- one element of an array -/
abbrev wa1 (σ : Tw) (k j : Nat) (x : Int32) : Tw := rw2 σ k (upd (σ k) j x)
def twF (ad : Nat → Nat) (σ : Tw) : List Value := [.ref (ad 0), .ref (ad 1), .ref (ad 2), .int (σ 99 3), .ref (ad 4), .int (σ 99 5), .ref (ad 6), .int (σ 99 7), .int (σ 99 8), .int (σ 99 9), .int (σ 99 10), .int (σ 99 11), .ref (ad 12), .int (σ 99 13), .int (σ 99 14), .ref (ad 15), .ref (ad 16), .ref (ad 17), .ref (ad 18), .ref (ad 19), .ref (ad 20), .int (σ 99 21), .ref (ad 22), .ref (ad 23), .int (σ 99 24), .ref (ad 25), .int (σ 99 26), .ref (ad 27), .ref (ad 28), .ref (ad 29), .ref (ad 30), .int (σ 99 31), .int (σ 99 32), .ref (ad 33)]
def tw (x : Nat) (ad : Nat → Nat) (dd : Nat → ClassId) (σ : Tw) : va_W := [(x, .inr (5, twF ad σ)), (ad 0, .inl (dd 0, 112, .inl (σ 0))), (ad 1, .inl (dd 0, 112, .inl (σ 1))), (ad 2, .inl (dd 0, 896, .inl (σ 2))), (ad 4, .inl (dd 0, 112, .inl (σ 4))), (ad 6, .inl (dd 1, 60, .inl (σ 6))), (ad 12, .inl (dd 1, 80, .inl (σ 12))), (ad 15, .inl (dd 0, 64, .inl (σ 15))), (ad 16, .inl (dd 0, 64, .inl (σ 16))), (ad 17, .inl (dd 0, 64, .inl (σ 17))), (ad 18, .inl (dd 0, 64, .inl (σ 18))), (ad 19, .inl (dd 0, 64, .inl (σ 19))), (ad 20, .inl (dd 0, 100, .inl (σ 20))), (ad 22, .inl (dd 0, 7, .inl (σ 22))), (ad 23, .inl (dd 0, 7, .inl (σ 23))), (ad 25, .inl (dd 0, 60, .inl (σ 25))), (ad 27, .inl (dd 0, 60, .inl (σ 27))), (ad 28, .inl (dd 0, 60, .inl (σ 28))), (ad 29, .inl (dd 0, 60, .inl (σ 29))), (ad 30, .inl (dd 0, 61, .inl (σ 30))), (ad 33, .inl (dd 0, 180, .inl (σ 33)))]
section TWIN
variable {x : Nat} {ad : Nat → Nat} {dd : Nat → ClassId} {σ : Tw}
theorem ta_0 : (tw x ad dd σ)[1]? = some (ad 0, .inl (dd 0, 112, .inl (σ 0))) := rfl
theorem tb_0 (f : Nat → Int32) : (tw x ad dd σ).set 1 (ad 0, .inl (dd 0, 112, .inl f)) = tw x ad dd (rw2 σ 0 f) := rfl
theorem ta_1 : (tw x ad dd σ)[2]? = some (ad 1, .inl (dd 0, 112, .inl (σ 1))) := rfl
theorem tb_1 (f : Nat → Int32) : (tw x ad dd σ).set 2 (ad 1, .inl (dd 0, 112, .inl f)) = tw x ad dd (rw2 σ 1 f) := rfl
theorem ta_2 : (tw x ad dd σ)[3]? = some (ad 2, .inl (dd 0, 896, .inl (σ 2))) := rfl
theorem tb_2 (f : Nat → Int32) : (tw x ad dd σ).set 3 (ad 2, .inl (dd 0, 896, .inl f)) = tw x ad dd (rw2 σ 2 f) := rfl
theorem ta_4 : (tw x ad dd σ)[4]? = some (ad 4, .inl (dd 0, 112, .inl (σ 4))) := rfl
theorem tb_4 (f : Nat → Int32) : (tw x ad dd σ).set 4 (ad 4, .inl (dd 0, 112, .inl f)) = tw x ad dd (rw2 σ 4 f) := rfl
theorem ta_6 : (tw x ad dd σ)[5]? = some (ad 6, .inl (dd 1, 60, .inl (σ 6))) := rfl
theorem tb_6 (f : Nat → Int32) : (tw x ad dd σ).set 5 (ad 6, .inl (dd 1, 60, .inl f)) = tw x ad dd (rw2 σ 6 f) := rfl
theorem ta_12 : (tw x ad dd σ)[6]? = some (ad 12, .inl (dd 1, 80, .inl (σ 12))) := rfl
theorem tb_12 (f : Nat → Int32) : (tw x ad dd σ).set 6 (ad 12, .inl (dd 1, 80, .inl f)) = tw x ad dd (rw2 σ 12 f) := rfl
theorem ta_15 : (tw x ad dd σ)[7]? = some (ad 15, .inl (dd 0, 64, .inl (σ 15))) := rfl
theorem tb_15 (f : Nat → Int32) : (tw x ad dd σ).set 7 (ad 15, .inl (dd 0, 64, .inl f)) = tw x ad dd (rw2 σ 15 f) := rfl
theorem ta_16 : (tw x ad dd σ)[8]? = some (ad 16, .inl (dd 0, 64, .inl (σ 16))) := rfl
theorem tb_16 (f : Nat → Int32) : (tw x ad dd σ).set 8 (ad 16, .inl (dd 0, 64, .inl f)) = tw x ad dd (rw2 σ 16 f) := rfl
theorem ta_17 : (tw x ad dd σ)[9]? = some (ad 17, .inl (dd 0, 64, .inl (σ 17))) := rfl
theorem tb_17 (f : Nat → Int32) : (tw x ad dd σ).set 9 (ad 17, .inl (dd 0, 64, .inl f)) = tw x ad dd (rw2 σ 17 f) := rfl
theorem ta_18 : (tw x ad dd σ)[10]? = some (ad 18, .inl (dd 0, 64, .inl (σ 18))) := rfl
theorem tb_18 (f : Nat → Int32) : (tw x ad dd σ).set 10 (ad 18, .inl (dd 0, 64, .inl f)) = tw x ad dd (rw2 σ 18 f) := rfl
theorem ta_19 : (tw x ad dd σ)[11]? = some (ad 19, .inl (dd 0, 64, .inl (σ 19))) := rfl
theorem tb_19 (f : Nat → Int32) : (tw x ad dd σ).set 11 (ad 19, .inl (dd 0, 64, .inl f)) = tw x ad dd (rw2 σ 19 f) := rfl
theorem ta_20 : (tw x ad dd σ)[12]? = some (ad 20, .inl (dd 0, 100, .inl (σ 20))) := rfl
theorem tb_20 (f : Nat → Int32) : (tw x ad dd σ).set 12 (ad 20, .inl (dd 0, 100, .inl f)) = tw x ad dd (rw2 σ 20 f) := rfl
theorem ta_22 : (tw x ad dd σ)[13]? = some (ad 22, .inl (dd 0, 7, .inl (σ 22))) := rfl
theorem tb_22 (f : Nat → Int32) : (tw x ad dd σ).set 13 (ad 22, .inl (dd 0, 7, .inl f)) = tw x ad dd (rw2 σ 22 f) := rfl
theorem ta_23 : (tw x ad dd σ)[14]? = some (ad 23, .inl (dd 0, 7, .inl (σ 23))) := rfl
theorem tb_23 (f : Nat → Int32) : (tw x ad dd σ).set 14 (ad 23, .inl (dd 0, 7, .inl f)) = tw x ad dd (rw2 σ 23 f) := rfl
theorem ta_25 : (tw x ad dd σ)[15]? = some (ad 25, .inl (dd 0, 60, .inl (σ 25))) := rfl
theorem tb_25 (f : Nat → Int32) : (tw x ad dd σ).set 15 (ad 25, .inl (dd 0, 60, .inl f)) = tw x ad dd (rw2 σ 25 f) := rfl
theorem ta_27 : (tw x ad dd σ)[16]? = some (ad 27, .inl (dd 0, 60, .inl (σ 27))) := rfl
theorem tb_27 (f : Nat → Int32) : (tw x ad dd σ).set 16 (ad 27, .inl (dd 0, 60, .inl f)) = tw x ad dd (rw2 σ 27 f) := rfl
theorem ta_28 : (tw x ad dd σ)[17]? = some (ad 28, .inl (dd 0, 60, .inl (σ 28))) := rfl
theorem tb_28 (f : Nat → Int32) : (tw x ad dd σ).set 17 (ad 28, .inl (dd 0, 60, .inl f)) = tw x ad dd (rw2 σ 28 f) := rfl
theorem ta_29 : (tw x ad dd σ)[18]? = some (ad 29, .inl (dd 0, 60, .inl (σ 29))) := rfl
theorem tb_29 (f : Nat → Int32) : (tw x ad dd σ).set 18 (ad 29, .inl (dd 0, 60, .inl f)) = tw x ad dd (rw2 σ 29 f) := rfl
theorem ta_30 : (tw x ad dd σ)[19]? = some (ad 30, .inl (dd 0, 61, .inl (σ 30))) := rfl
theorem tb_30 (f : Nat → Int32) : (tw x ad dd σ).set 19 (ad 30, .inl (dd 0, 61, .inl f)) = tw x ad dd (rw2 σ 30 f) := rfl
theorem ta_33 : (tw x ad dd σ)[20]? = some (ad 33, .inl (dd 0, 180, .inl (σ 33))) := rfl
theorem tb_33 (f : Nat → Int32) : (tw x ad dd σ).set 20 (ad 33, .inl (dd 0, 180, .inl f)) = tw x ad dd (rw2 σ 33 f) := rfl
theorem tf_3 (v : Int32) : (tw x ad dd σ).set 0 (x, .inr (5, (twF ad σ).set 3 (.int v))) = tw x ad dd (ws1 σ 3 v) := rfl
theorem tf_5 (v : Int32) : (tw x ad dd σ).set 0 (x, .inr (5, (twF ad σ).set 5 (.int v))) = tw x ad dd (ws1 σ 5 v) := rfl
theorem tf_7 (v : Int32) : (tw x ad dd σ).set 0 (x, .inr (5, (twF ad σ).set 7 (.int v))) = tw x ad dd (ws1 σ 7 v) := rfl
theorem tf_8 (v : Int32) : (tw x ad dd σ).set 0 (x, .inr (5, (twF ad σ).set 8 (.int v))) = tw x ad dd (ws1 σ 8 v) := rfl
theorem tf_9 (v : Int32) : (tw x ad dd σ).set 0 (x, .inr (5, (twF ad σ).set 9 (.int v))) = tw x ad dd (ws1 σ 9 v) := rfl
theorem tf_10 (v : Int32) : (tw x ad dd σ).set 0 (x, .inr (5, (twF ad σ).set 10 (.int v))) = tw x ad dd (ws1 σ 10 v) := rfl
theorem tf_11 (v : Int32) : (tw x ad dd σ).set 0 (x, .inr (5, (twF ad σ).set 11 (.int v))) = tw x ad dd (ws1 σ 11 v) := rfl
theorem tf_13 (v : Int32) : (tw x ad dd σ).set 0 (x, .inr (5, (twF ad σ).set 13 (.int v))) = tw x ad dd (ws1 σ 13 v) := rfl
theorem tf_14 (v : Int32) : (tw x ad dd σ).set 0 (x, .inr (5, (twF ad σ).set 14 (.int v))) = tw x ad dd (ws1 σ 14 v) := rfl
theorem tf_21 (v : Int32) : (tw x ad dd σ).set 0 (x, .inr (5, (twF ad σ).set 21 (.int v))) = tw x ad dd (ws1 σ 21 v) := rfl
theorem tf_24 (v : Int32) : (tw x ad dd σ).set 0 (x, .inr (5, (twF ad σ).set 24 (.int v))) = tw x ad dd (ws1 σ 24 v) := rfl
theorem tf_26 (v : Int32) : (tw x ad dd σ).set 0 (x, .inr (5, (twF ad σ).set 26 (.int v))) = tw x ad dd (ws1 σ 26 v) := rfl
theorem tf_31 (v : Int32) : (tw x ad dd σ).set 0 (x, .inr (5, (twF ad σ).set 31 (.int v))) = tw x ad dd (ws1 σ 31 v) := rfl
theorem tf_32 (v : Int32) : (tw x ad dd σ).set 0 (x, .inr (5, (twF ad σ).set 32 (.int v))) = tw x ad dd (ws1 σ 32 v) := rfl
end TWIN
section TWIN2
variable {p : Program} {l : Launch} {e : Env} {R : Room} {s : State} {m : MethodId} {args : Array Value} {below : List Frame} {meth : Method} {c : Code} {cc : ByteArray} {nL : Nat} {own : String} {D : va_G} {dd : Nat → ClassId} {A : Nat → Prop} {cells slots : Nat} {Q : State → Prop} {pc : Nat} {loc : List (Nat × Value)} {st : List Value} {x : Nat} {ad : Nat → Nat} {σ : Tw}
theorem t_get {index : Nat} {v : Value} (X : VX p s m args meth c cc nL RX6 D dd A) (k : Nat) (hk : k < 34) (hlink : Cond.fieldLink RX6 index RX6 (TX6 k).2.1 (TX6 k).2.2.1 ∈ lw_all) (hcl : (TX6 k).1 = RX6) (hv : (twF ad σ)[k]? = some v) (d : decode cc pc = .ok (.getfield index, 3)) (kk : V p l e R s m args below meth c D A nL cells slots Q (tw x ad dd σ) (pc + 3) loc (v :: st)) : V p l e R s m args below meth c D A nL cells slots Q (tw x ad dd σ) pc loc (.ref x :: st) :=
  v_get X in_X6 0 rfl rfl k hk hlink (fun y h => by rw [hcl] at h; exact h) hv d kk
theorem t_put {index : Nat} {v : Int32} {σ' : Tw} (X : VX p s m args meth c cc nL RX6 D dd A) (k : Nat) (hk : k < 34) (hlink : Cond.fieldLink RX6 index RX6 (TX6 k).2.1 (TX6 k).2.2.1 ∈ lw_all) (hcl : (TX6 k).1 = RX6) (hfin : (TX6 k).2.2.2 = false) (hn : narrow (tyX6 k) (.int v) = .int v) (hfit : fits (tyX6 k) (.int v) = true) (d : decode cc pc = .ok (.putfield index, 3)) (hw : (tw x ad dd σ).set 0 (x, .inr (5, (twF ad σ).set k (.int v))) = tw x ad dd σ') (kk : V p l e R s m args below meth c D A nL cells slots Q (tw x ad dd σ') (pc + 3) loc st) : V p l e R s m args below meth c D A nL cells slots Q (tw x ad dd σ) pc loc (.int v :: .ref x :: st) :=
  v_put X in_X6 tyX6 tyX6_ok nmX6 0 rfl rfl k hk hlink (fun y h => by rw [hcl] at h; exact h) hfin hn hfit hk d hw kk
end TWIN2
/-- a contract of the reference's -/
def TM (l : Launch) (D : va_G) (dd : Nat → ClassId) (x : Nat) (ad : Nat → Nat) (y : MethodName) (cd : ByteArray) (nL : Nat) (ret : Option FieldType) (fr lc : Nat) (av : List Value) (σ : Tw) (post : Option Value → Tw → Prop) : Prop :=
  MW l D dd y cd nL ret fr 0 0 lc av (tw x ad dd σ) (fun v w => ∃ σ', w = tw x ad dd σ' ∧ post v σ')
/-- the returned number, the state after -/
abbrev TI (P : Int32 → Tw → Prop) : Option Value → Tw → Prop := fun v σ' => ∃ r : Int32, v = some (.int r) ∧ P r σ'
abbrev TF (P : UInt32 → Tw → Prop) : Option Value → Tw → Prop := fun v σ' => ∃ r : UInt32, v = some (.float r) ∧ P r σ'
abbrev TD (P : UInt64 → Tw → Prop) : Option Value → Tw → Prop := fun v σ' => ∃ r : UInt64, v = some (.double r) ∧ P r σ'
abbrev TV (P : Tw → Prop) : Option Value → Tw → Prop := fun v σ' => v = none ∧ P σ'
section TWIN3
variable {p : Program} {l : Launch} {e : Env} {R : Room} {s : State} {m : MethodId} {args : Array Value} {below : List Frame} {meth : Method} {c : Code} {cc : ByteArray} {nL : Nat} {own : String} {D : va_G} {dd : Nat → ClassId} {A : Nat → Prop} {cells slots : Nat} {Q : State → Prop} {pc : Nat} {loc : List (Nat × Value)} {st : List Value} {x : Nat} {ad : Nat → Nat} {σ : Tw}
theorem t_call {index : Nat} {y : MethodName} {cd : ByteArray} {nL' : Nat} {ret : Option FieldType} {fr lc n : Nat} {As st0 : List Value} {post : Option Value → Tw → Prop} (X : VX p s m args meth c cc nL own D dd A)
    (hM : TM l D dd x ad y cd nL' ret fr lc (.ref x :: As) σ post) (hG : GoodIn lw_all (wsV own index RX6 y (ws_ y cd nL' ret))) (hd : y.cls = RX6 ∧ y.cls ≠ "java/lang/invoke/MethodHandle" ∧ y.cls ≠ "java/lang/invoke/VarHandle" ∧ (parseMethodDescriptor y.desc).map (fun d => d.parameters.length) = some n) (hR : fr + 1 ≤ R.frames ∧ 8 + (nL' + 11) + lc ≤ R.locals)
    (hn : As.length = n) (hst : st0 = As.reverse ++ .ref x :: st) (hW : (st.map fun v => v.category).sum ≤ 8) (d : decode cc pc = .ok (.invokevirtual index, 3)) (hf : cells + 0 ≤ R.cells ∧ slots + 0 ≤ R.slots)
    (kk : ∀ (v : Option Value) (σ' : Tw), post v σ' → V p l e R s m args below meth c D A nL cells slots Q (tw x ad dd σ') (pc + 3) loc (v.toList ++ st)) : V p l e R s m args below meth c D A nL cells slots Q (tw x ad dd σ) pc loc st0 :=
  v_callV X hM 0 rfl rfl rfl hG hd hR hn hst hW d hf (fun v w hp => by obtain ⟨σ', rfl, h⟩ := hp; exact kk v σ' h)
theorem t_callS {index : Nat} {y : MethodName} {cd : ByteArray} {nL' : Nat} {ret : Option FieldType} {fr lc n : Nat} {As st0 : List Value} {post : Option Value → Tw → Prop} (X : VX p s m args meth c cc nL own D dd A)
    (hM : TM l D dd x ad y cd nL' ret fr lc As σ post) (hG : GoodIn lw_all (va_wsS own index y (ws_ y cd nL' ret))) (hd : y.cls ≠ "java/lang/invoke/MethodHandle" ∧ y.cls ≠ "java/lang/invoke/VarHandle" ∧ (parseMethodDescriptor y.desc).map (fun d => d.parameters.length) = some n) (hR : fr + 1 ≤ R.frames ∧ 8 + (nL' + 11) + lc ≤ R.locals)
    (hn : As.length = n) (hst : st0 = As.reverse ++ st) (hW : (st.map fun v => v.category).sum ≤ 8) (d : decode cc pc = .ok (.invokestatic index, 3)) (hf : cells + 0 ≤ R.cells ∧ slots + 0 ≤ R.slots)
    (kk : ∀ (v : Option Value) (σ' : Tw), post v σ' → V p l e R s m args below meth c D A nL cells slots Q (tw x ad dd σ') (pc + 3) loc (v.toList ++ st)) : V p l e R s m args below meth c D A nL cells slots Q (tw x ad dd σ) pc loc st0 :=
  v_callS X hM hG hd hR hn hst hW d hf (fun v w hp => by obtain ⟨σ', rfl, h⟩ := hp; exact kk v σ' h)
theorem t_callI {index : Nat} {y : MethodName} {cd : ByteArray} {nL' : Nat} {ret : Option FieldType} {fr lc n : Nat} {As st0 : List Value} {P : Int32 → Tw → Prop} (X : VX p s m args meth c cc nL own D dd A)
    (hM : TM l D dd x ad y cd nL' ret fr lc (.ref x :: As) σ (TI P)) (hG : GoodIn lw_all (wsV own index RX6 y (ws_ y cd nL' ret))) (hd : y.cls = RX6 ∧ y.cls ≠ "java/lang/invoke/MethodHandle" ∧ y.cls ≠ "java/lang/invoke/VarHandle" ∧ (parseMethodDescriptor y.desc).map (fun d => d.parameters.length) = some n) (hR : fr + 1 ≤ R.frames ∧ 8 + (nL' + 11) + lc ≤ R.locals)
    (hn : As.length = n) (hst : st0 = As.reverse ++ .ref x :: st) (hW : (st.map fun v => v.category).sum ≤ 8) (d : decode cc pc = .ok (.invokevirtual index, 3)) (hf : cells + 0 ≤ R.cells ∧ slots + 0 ≤ R.slots)
    (kk : ∀ (r : Int32) (σ' : Tw), P r σ' → V p l e R s m args below meth c D A nL cells slots Q (tw x ad dd σ') (pc + 3) loc (.int r :: st)) : V p l e R s m args below meth c D A nL cells slots Q (tw x ad dd σ) pc loc st0 :=
  t_call X hM hG hd hR hn hst hW d hf (fun v σ' hp => by obtain ⟨r, rfl, h⟩ := hp; exact kk r σ' h)
theorem t_callF {index : Nat} {y : MethodName} {cd : ByteArray} {nL' : Nat} {ret : Option FieldType} {fr lc n : Nat} {As st0 : List Value} {P : UInt32 → Tw → Prop} (X : VX p s m args meth c cc nL own D dd A)
    (hM : TM l D dd x ad y cd nL' ret fr lc (.ref x :: As) σ (TF P)) (hG : GoodIn lw_all (wsV own index RX6 y (ws_ y cd nL' ret))) (hd : y.cls = RX6 ∧ y.cls ≠ "java/lang/invoke/MethodHandle" ∧ y.cls ≠ "java/lang/invoke/VarHandle" ∧ (parseMethodDescriptor y.desc).map (fun d => d.parameters.length) = some n) (hR : fr + 1 ≤ R.frames ∧ 8 + (nL' + 11) + lc ≤ R.locals)
    (hn : As.length = n) (hst : st0 = As.reverse ++ .ref x :: st) (hW : (st.map fun v => v.category).sum ≤ 8) (d : decode cc pc = .ok (.invokevirtual index, 3)) (hf : cells + 0 ≤ R.cells ∧ slots + 0 ≤ R.slots)
    (kk : ∀ (r : UInt32) (σ' : Tw), P r σ' → V p l e R s m args below meth c D A nL cells slots Q (tw x ad dd σ') (pc + 3) loc (.float r :: st)) : V p l e R s m args below meth c D A nL cells slots Q (tw x ad dd σ) pc loc st0 :=
  t_call X hM hG hd hR hn hst hW d hf (fun v σ' hp => by obtain ⟨r, rfl, h⟩ := hp; exact kk r σ' h)
theorem t_callD {index : Nat} {y : MethodName} {cd : ByteArray} {nL' : Nat} {ret : Option FieldType} {fr lc n : Nat} {As st0 : List Value} {P : UInt64 → Tw → Prop} (X : VX p s m args meth c cc nL own D dd A)
    (hM : TM l D dd x ad y cd nL' ret fr lc (.ref x :: As) σ (TD P)) (hG : GoodIn lw_all (wsV own index RX6 y (ws_ y cd nL' ret))) (hd : y.cls = RX6 ∧ y.cls ≠ "java/lang/invoke/MethodHandle" ∧ y.cls ≠ "java/lang/invoke/VarHandle" ∧ (parseMethodDescriptor y.desc).map (fun d => d.parameters.length) = some n) (hR : fr + 1 ≤ R.frames ∧ 8 + (nL' + 11) + lc ≤ R.locals)
    (hn : As.length = n) (hst : st0 = As.reverse ++ .ref x :: st) (hW : (st.map fun v => v.category).sum ≤ 8) (d : decode cc pc = .ok (.invokevirtual index, 3)) (hf : cells + 0 ≤ R.cells ∧ slots + 0 ≤ R.slots)
    (kk : ∀ (r : UInt64) (σ' : Tw), P r σ' → V p l e R s m args below meth c D A nL cells slots Q (tw x ad dd σ') (pc + 3) loc (.double r :: st)) : V p l e R s m args below meth c D A nL cells slots Q (tw x ad dd σ) pc loc st0 :=
  t_call X hM hG hd hR hn hst hW d hf (fun v σ' hp => by obtain ⟨r, rfl, h⟩ := hp; exact kk r σ' h)
theorem t_callV {index : Nat} {y : MethodName} {cd : ByteArray} {nL' : Nat} {ret : Option FieldType} {fr lc n : Nat} {As st0 : List Value} {P : Tw → Prop} (X : VX p s m args meth c cc nL own D dd A)
    (hM : TM l D dd x ad y cd nL' ret fr lc (.ref x :: As) σ (TV P)) (hG : GoodIn lw_all (wsV own index RX6 y (ws_ y cd nL' ret))) (hd : y.cls = RX6 ∧ y.cls ≠ "java/lang/invoke/MethodHandle" ∧ y.cls ≠ "java/lang/invoke/VarHandle" ∧ (parseMethodDescriptor y.desc).map (fun d => d.parameters.length) = some n) (hR : fr + 1 ≤ R.frames ∧ 8 + (nL' + 11) + lc ≤ R.locals)
    (hn : As.length = n) (hst : st0 = As.reverse ++ .ref x :: st) (hW : (st.map fun v => v.category).sum ≤ 8) (d : decode cc pc = .ok (.invokevirtual index, 3)) (hf : cells + 0 ≤ R.cells ∧ slots + 0 ≤ R.slots)
    (kk : ∀ (σ' : Tw), P σ' → V p l e R s m args below meth c D A nL cells slots Q (tw x ad dd σ') (pc + 3) loc st) : V p l e R s m args below meth c D A nL cells slots Q (tw x ad dd σ) pc loc st0 :=
  t_call X hM hG hd hR hn hst hW d hf (fun v σ' hp => by obtain ⟨rfl, h⟩ := hp; exact kk σ' h)
theorem t_callSI {index : Nat} {y : MethodName} {cd : ByteArray} {nL' : Nat} {ret : Option FieldType} {fr lc n : Nat} {As st0 : List Value} {P : Int32 → Tw → Prop} (X : VX p s m args meth c cc nL own D dd A)
    (hM : TM l D dd x ad y cd nL' ret fr lc As σ (TI P)) (hG : GoodIn lw_all (va_wsS own index y (ws_ y cd nL' ret))) (hd : y.cls ≠ "java/lang/invoke/MethodHandle" ∧ y.cls ≠ "java/lang/invoke/VarHandle" ∧ (parseMethodDescriptor y.desc).map (fun d => d.parameters.length) = some n) (hR : fr + 1 ≤ R.frames ∧ 8 + (nL' + 11) + lc ≤ R.locals)
    (hn : As.length = n) (hst : st0 = As.reverse ++ st) (hW : (st.map fun v => v.category).sum ≤ 8) (d : decode cc pc = .ok (.invokestatic index, 3)) (hf : cells + 0 ≤ R.cells ∧ slots + 0 ≤ R.slots)
    (kk : ∀ (r : Int32) (σ' : Tw), P r σ' → V p l e R s m args below meth c D A nL cells slots Q (tw x ad dd σ') (pc + 3) loc (.int r :: st)) : V p l e R s m args below meth c D A nL cells slots Q (tw x ad dd σ) pc loc st0 :=
  t_callS X hM hG hd hR hn hst hW d hf (fun v σ' hp => by obtain ⟨r, rfl, h⟩ := hp; exact kk r σ' h)
theorem t_callSF {index : Nat} {y : MethodName} {cd : ByteArray} {nL' : Nat} {ret : Option FieldType} {fr lc n : Nat} {As st0 : List Value} {P : UInt32 → Tw → Prop} (X : VX p s m args meth c cc nL own D dd A)
    (hM : TM l D dd x ad y cd nL' ret fr lc As σ (TF P)) (hG : GoodIn lw_all (va_wsS own index y (ws_ y cd nL' ret))) (hd : y.cls ≠ "java/lang/invoke/MethodHandle" ∧ y.cls ≠ "java/lang/invoke/VarHandle" ∧ (parseMethodDescriptor y.desc).map (fun d => d.parameters.length) = some n) (hR : fr + 1 ≤ R.frames ∧ 8 + (nL' + 11) + lc ≤ R.locals)
    (hn : As.length = n) (hst : st0 = As.reverse ++ st) (hW : (st.map fun v => v.category).sum ≤ 8) (d : decode cc pc = .ok (.invokestatic index, 3)) (hf : cells + 0 ≤ R.cells ∧ slots + 0 ≤ R.slots)
    (kk : ∀ (r : UInt32) (σ' : Tw), P r σ' → V p l e R s m args below meth c D A nL cells slots Q (tw x ad dd σ') (pc + 3) loc (.float r :: st)) : V p l e R s m args below meth c D A nL cells slots Q (tw x ad dd σ) pc loc st0 :=
  t_callS X hM hG hd hR hn hst hW d hf (fun v σ' hp => by obtain ⟨r, rfl, h⟩ := hp; exact kk r σ' h)
theorem t_callSD {index : Nat} {y : MethodName} {cd : ByteArray} {nL' : Nat} {ret : Option FieldType} {fr lc n : Nat} {As st0 : List Value} {P : UInt64 → Tw → Prop} (X : VX p s m args meth c cc nL own D dd A)
    (hM : TM l D dd x ad y cd nL' ret fr lc As σ (TD P)) (hG : GoodIn lw_all (va_wsS own index y (ws_ y cd nL' ret))) (hd : y.cls ≠ "java/lang/invoke/MethodHandle" ∧ y.cls ≠ "java/lang/invoke/VarHandle" ∧ (parseMethodDescriptor y.desc).map (fun d => d.parameters.length) = some n) (hR : fr + 1 ≤ R.frames ∧ 8 + (nL' + 11) + lc ≤ R.locals)
    (hn : As.length = n) (hst : st0 = As.reverse ++ st) (hW : (st.map fun v => v.category).sum ≤ 8) (d : decode cc pc = .ok (.invokestatic index, 3)) (hf : cells + 0 ≤ R.cells ∧ slots + 0 ≤ R.slots)
    (kk : ∀ (r : UInt64) (σ' : Tw), P r σ' → V p l e R s m args below meth c D A nL cells slots Q (tw x ad dd σ') (pc + 3) loc (.double r :: st)) : V p l e R s m args below meth c D A nL cells slots Q (tw x ad dd σ) pc loc st0 :=
  t_callS X hM hG hd hR hn hst hW d hf (fun v σ' hp => by obtain ⟨r, rfl, h⟩ := hp; exact kk r σ' h)
theorem t_callSV {index : Nat} {y : MethodName} {cd : ByteArray} {nL' : Nat} {ret : Option FieldType} {fr lc n : Nat} {As st0 : List Value} {P : Tw → Prop} (X : VX p s m args meth c cc nL own D dd A)
    (hM : TM l D dd x ad y cd nL' ret fr lc As σ (TV P)) (hG : GoodIn lw_all (va_wsS own index y (ws_ y cd nL' ret))) (hd : y.cls ≠ "java/lang/invoke/MethodHandle" ∧ y.cls ≠ "java/lang/invoke/VarHandle" ∧ (parseMethodDescriptor y.desc).map (fun d => d.parameters.length) = some n) (hR : fr + 1 ≤ R.frames ∧ 8 + (nL' + 11) + lc ≤ R.locals)
    (hn : As.length = n) (hst : st0 = As.reverse ++ st) (hW : (st.map fun v => v.category).sum ≤ 8) (d : decode cc pc = .ok (.invokestatic index, 3)) (hf : cells + 0 ≤ R.cells ∧ slots + 0 ≤ R.slots)
    (kk : ∀ (σ' : Tw), P σ' → V p l e R s m args below meth c D A nL cells slots Q (tw x ad dd σ') (pc + 3) loc st) : V p l e R s m args below meth c D A nL cells slots Q (tw x ad dd σ) pc loc st0 :=
  t_callS X hM hG hd hR hn hst hW d hf (fun v σ' hp => by obtain ⟨rfl, h⟩ := hp; exact kk σ' h)
theorem t_iret {post : Option Value → Tw → Prop} {v : Int32} (X : VX p s m args meth c cc nL own D dd A) (hr : meth.sig.returnType = some .int) (d : decode cc pc = .ok (.ireturn, 1)) (h : post (some (.int v)) σ) : V p l e R s m args below meth c D A nL cells slots (MQ below (QW D A (fun v w => ∃ σ', w = tw x ad dd σ' ∧ post v σ')) args s cells slots A) (tw x ad dd σ) pc loc [.int v] :=
  v_iret X hr d ⟨σ, rfl, h⟩
theorem t_zret {post : Option Value → Tw → Prop} {ty : FieldType} {v : Int32} (X : VX p s m args meth c cc nL own D dd A) (hr : meth.sig.returnType = some ty) (hn : narrow ty (.int v) = .int v) (d : decode cc pc = .ok (.ireturn, 1)) (h : post (some (.int v)) σ) : V p l e R s m args below meth c D A nL cells slots (MQ below (QW D A (fun v w => ∃ σ', w = tw x ad dd σ' ∧ post v σ')) args s cells slots A) (tw x ad dd σ) pc loc [.int v] :=
  v_zret X hr hn d ⟨σ, rfl, h⟩
theorem t_vret {post : Option Value → Tw → Prop} (X : VX p s m args meth c cc nL own D dd A) (hr : meth.sig.returnType = none) (d : decode cc pc = .ok (.return_, 1)) (h : post none σ) : V p l e R s m args below meth c D A nL cells slots (MQ below (QW D A (fun v w => ∃ σ', w = tw x ad dd σ' ∧ post v σ')) args s cells slots A) (tw x ad dd σ) pc loc [] :=
  v_vret X hr d ⟨σ, rfl, h⟩
end TWIN3
theorem nzb (b : Prop) [Decidable b] : narrow .boolean (.int (bI b)) = .int (bI b) := by
  by_cases h : b
  · rw [bI_t h]; rfl
  · rw [bI_f h]; rfl

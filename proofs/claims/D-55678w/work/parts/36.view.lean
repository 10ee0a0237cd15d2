/-! VIEWS: a method's world by a state of numbers; calls that only read -/
section VIEWS
variable {p : Program} {l : Launch} {e : Env} {R : Room} {s : State} {m : MethodId} {args : Array Value} {below : List Frame} {meth : Method} {c : Code} {cc : ByteArray} {nL : Nat} {own : String} {D : va_G} {dd : Nat → ClassId} {A : Nat → Prop} {cells slots : Nat} {Q : State → Prop} {ws : va_W} {pc : Nat} {loc : List (Nat × Value)} {st : List Value}
theorem v_readG {wc : va_W} {st0 : List Value} {P : Option Value → Prop} (X : VX p s m args meth c cc nL own D dd A) (hs : ∃ wr, ws.Perm (wc ++ wr)) (hr : RunF p l e R s m args below meth c D A nL cells slots 0 0 wc pc st0 st (fun v w => P v ∧ wc = w))
    (kk : ∀ v : Option Value, P v → V p l e R s m args below meth c D A nL cells slots Q ws (pc + 3) loc (v.toList ++ st)) : V p l e R s m args below meth c D A nL cells slots Q ws pc loc st0 := by
  obtain ⟨wr, hp⟩ := hs
  refine v_frame X hp hr (fun v w1 h => ?_)
  obtain ⟨h1, rfl⟩ := h
  exact v_perm hp.symm (kk v h1)
theorem v_read {wc : va_W} {st0 : List Value} {P : Int32 → Prop} (X : VX p s m args meth c cc nL own D dd A) (hs : ∃ wr, ws.Perm (wc ++ wr)) (hr : RunF p l e R s m args below meth c D A nL cells slots 0 0 wc pc st0 st (fun v w => (∃ r : Int32, v = some (.int r) ∧ P r) ∧ wc = w))
    (kk : ∀ r : Int32, P r → V p l e R s m args below meth c D A nL cells slots Q ws (pc + 3) loc (.int r :: st)) : V p l e R s m args below meth c D A nL cells slots Q ws pc loc st0 :=
  v_readG X hs hr (fun v h => by obtain ⟨r, rfl, h⟩ := h; exact kk r h)
theorem v_sv {G : Tw → va_W} {σ : Tw} {wr : va_W} {st0 : List Value} {P : Int32 → Tw → Prop} (X : VX p s m args meth c cc nL own D dd A) (hp : ws.Perm (G σ ++ wr)) (hr : RunF p l e R s m args below meth c D A nL cells slots 0 0 (G σ) pc st0 st (fun v w => ∃ σ', w = G σ' ∧ ∃ r : Int32, v = some (.int r) ∧ P r σ'))
    (kk : ∀ (r : Int32) (σ' : Tw), P r σ' → V p l e R s m args below meth c D A nL cells slots Q (G σ' ++ wr) (pc + 3) loc (.int r :: st)) : V p l e R s m args below meth c D A nL cells slots Q ws pc loc st0 :=
  v_frame X hp hr (fun v w1 h => by obtain ⟨σ', rfl, r, rfl, h⟩ := h; exact kk r σ' h)
theorem v_svV {G : Tw → va_W} {σ : Tw} {wr : va_W} {st0 : List Value} {P : Tw → Prop} (X : VX p s m args meth c cc nL own D dd A) (hp : ws.Perm (G σ ++ wr)) (hr : RunF p l e R s m args below meth c D A nL cells slots 0 0 (G σ) pc st0 st (fun v w => ∃ σ', w = G σ' ∧ v = none ∧ P σ'))
    (kk : ∀ (σ' : Tw), P σ' → V p l e R s m args below meth c D A nL cells slots Q (G σ' ++ wr) (pc + 3) loc st) : V p l e R s m args below meth c D A nL cells slots Q ws pc loc st0 :=
  v_frame X hp hr (fun v w1 h => by obtain ⟨σ', rfl, rfl, h⟩ := h; exact kk σ' h)
end VIEWS
theorem mem1 {ws : va_W} {q : Nat × va_E} (h : q ∈ ws) : ∃ wr, ws.Perm ([q] ++ wr) := by
  obtain ⟨s, t, rfl⟩ := List.append_of_mem h
  exact ⟨s ++ t, List.perm_middle⟩
theorem at1 {ws : va_W} {q : Nat × va_E} (k : Nat) (h : ws[k]? = some q) : ∃ wr, ws.Perm ([q] ++ wr) := mem1 (List.mem_of_getElem? h)
/-- what a method answers that only reads -/
abbrev RI (P : Int32 → Prop) (wc : va_W) : Option Value → va_W → Prop := fun v w => (∃ r : Int32, v = some (.int r) ∧ P r) ∧ wc = w
abbrev GI (G : Tw → va_W) (P : Int32 → Tw → Prop) : Option Value → va_W → Prop := fun v w => ∃ σ', w = G σ' ∧ ∃ r : Int32, v = some (.int r) ∧ P r σ'
abbrev GV (G : Tw → va_W) (P : Tw → Prop) : Option Value → va_W → Prop := fun v w => ∃ σ', w = G σ' ∧ v = none ∧ P σ'
theorem perm_nil (w : va_W) : w.Perm (w ++ []) := by rw [List.append_nil]

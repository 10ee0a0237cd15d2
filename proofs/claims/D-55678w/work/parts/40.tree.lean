/-! parts of an order: trees in the world -/
def dep : Tr → Nat
  | .append a b => max (dep a) (dep b) + 1
  | _ => 0
def PartIs (ws : va_W) : Tr → Nat → Prop
  | .append x y => fun a => ∃ b c : Nat, (a, .inr (8, [.ref b, .ref c])) ∈ ws ∧ PartIs ws x b ∧ PartIs ws y c
  | .tag v _ => fun a => (a, .inr (9, [.int (nI v)])) ∈ ws
  | _ => fun _ => False
theorem PartIs.mono {ws ws' : va_W} (h : ∀ q ∈ ws, q ∈ ws') : ∀ {T : Tr} {a : Nat}, PartIs ws T a → PartIs ws' T a
  | .append x y, a, hp => by obtain ⟨b, c, h1, h2, h3⟩ := hp; exact ⟨b, c, h _ h1, PartIs.mono h h2, PartIs.mono h h3⟩
  | .tag v _, a, hp => h _ hp
  | .nil, _, hp => hp.elim
  | .line, _, hp => hp.elim
  | .align _, _, hp => hp.elim
  | .text _, _, hp => hp.elim
  | .nest _ _, _, hp => hp.elim
  | .group _ _, _, hp => hp.elim
theorem lw_F {own : String} {idx : Nat} {C : String} {x y : MethodName} {b : ByteArray} {L : Nat} {r : Option FieldType} (h1 : Cond.methodLink own idx x ∈ lw_all) (h2 : Cond.selects C x y ∈ lw_all) (h3 : Cond.instanceMethod y ∈ lw_all) (h4 : Cond.initialized y.cls ∈ lw_all) (h5 : Cond.code y b L r ∈ lw_all) : GoodIn lw_all (va_wsF own idx C x y (ws_ y b L r)) := by
  refine lw_app ?_ (lw_meth h5)
  intro w hw
  simp only [List.mem_cons, List.not_mem_nil, or_false] at hw
  rcases hw with e | e | e | e
  · rw [e]; exact h1
  · rw [e]; exact h2
  · rw [e]; exact h3
  · rw [e]; exact h4
/-- what a part answers that is only read, by what it is: a method of Both or of Vat -/
def PM (l : Launch) (D : va_G) (dd : Nat → ClassId) (yB yV : MethodName) (cB cV : ByteArray) (nB nV : Nat) (ret : Option FieldType) (fr lc : Nat) (As : List Value) (wc : va_W) (P : Int32 → Prop) : Tr → Nat → Prop
  | .append _ _ => fun a => MW l D dd yB cB nB ret fr 0 0 lc (.ref a :: As) wc (RI P wc)
  | .tag _ _ => fun a => MW l D dd yV cV nV ret fr 0 0 lc (.ref a :: As) wc (RI P wc)
  | _ => fun _ => True

/-! a default method, by its interface -/
section DFLT
variable {p : Program} {l : Launch} {e : Env} {R : Room} {s : State} {m : MethodId} {args : Array Value} {below : List Frame} {meth : Method} {c : Code} {cc : ByteArray} {nL : Nat} {own : String} {D : va_G} {dd : Nat → ClassId} {A : Nat → Prop} {cells slots : Nat} {Q : State → Prop} {ws : va_W} {pc : Nat} {loc : List (Nat × Value)} {st : List Value}
theorem r_FD {C : String} {index count : Nat} {x y : MethodName} {cd : ByteArray} {nL' : Nat} {ret : Option FieldType} {fr mc ms lc n : Nat} {b : Nat} {As st0 : List Value} {wc : va_W} {post : Option Value → va_W → Prop} (X : VX p s m args meth c cc nL own D dd A)
    (hM : MW l D dd y cd nL' ret fr mc ms lc (.ref b :: As) wc post) {fs : List Value} {ci : Nat} {qc : vw_C} (he : (b, .inr (ci, fs)) ∈ wc) (hc : vwCl[ci]? = some qc) (hC : qc.1 = C)
    (hlink : Cond.methodLink own index x ∈ lw_all) (hinst : Cond.instanceMethod y ∈ lw_all) (hini : Cond.initialized y.cls ∈ lw_all) (hcode : Cond.code y cd nL' ret ∈ lw_all) (hF : (C, x, y) ∈ fwL) (hL : (C, x, y) ∈ ldL) (hd : x.cls ≠ "java/lang/invoke/MethodHandle" ∧ x.cls ≠ "java/lang/invoke/VarHandle" ∧ (parseMethodDescriptor x.desc).map (fun d => d.parameters.length) = some n) (hR : fr + 1 ≤ R.frames ∧ 8 + (nL' + 11) + lc ≤ R.locals)
    (hn : As.length = n) (hst : st0 = As.reverse ++ .ref b :: st) (hW : (st.map fun v => v.category).sum ≤ 8) (d : decode cc pc = .ok (.invokeinterface index count, 5)) (hf : cells + mc ≤ R.cells ∧ slots + ms ≤ R.slots) : RunF5 p l e R s m args below meth c D A nL cells slots mc ms wc pc st0 st post := by
  subst hst; subst hC
  intro H locs ls hP hD hS hls
  obtain ⟨k, hk⟩ := List.getElem?_of_mem he
  have hA1 := v_A1 X hD hS
  obtain ⟨cellB, hcB, hoB, hclB⟩ := va_recv X.hK hP hc hk
  obtain ⟨hfc, kB, hkB, -⟩ := (X.hK.1 ci _ hc).2
  have hFw := X.hG.2.2.2.2.1 _ hF
  have hLd := X.hG.2.2.2.2.2.2.1 _ hL
  have hK : Back l R p e below s args y 5 8 (PreOf R mc ms _) (PostOf _ mc ms _) := back_of (bytes := cd) (maxL := nL') (ret := ret) (hM H.size) MW.blind rfl rfl hR.1 hR.2 (pay_in X.hts (lw_meth hcode)) List.mem_cons_self (fun a' U hW => word_at hW (Or.inl rfl) (X.hts _ hini))
  refine ⟨(Value.ref b :: As).toArray, ?_⟩
  intro T hT X'
  obtain ⟨v, vm₁, ⟨U', l2, c2, s2⟩, hW₁, Y, ⟨g', mk, t, L, e1, e2, hq, h1, hL1, h2, h3⟩, st1⟩ := interfaceBackD X' X.hx (C := qc.1) X.hown (X.hts _ hlink) (va_any rfl hFw.1) (va_any rfl hFw.2.1) (by have := hLd; unfold va_Nw at this; simp only [Cond.before, Cond.holds, Cond.value] at this ⊢; exact this) (X.hts _ hinst) (va_any rfl hFw.2.2.1) (va_any rfl hFw.2.2.2.2) ⟨hd.1, hd.2.1⟩ hK (b := b) (cB := cellB.cls) (kB := kB) hclB (by rw [← Option.some.inj (hfc.symm.trans hclB)]; exact hkB) ⟨cellB, by rw [hT]; exact hcB, rfl, hoB⟩ (g := F0 m pc ls (As.reverse ++ .ref b :: st)) rfl (hls.trans X.hml.symm) (Steps.refl _) (argsL := As) (rest := st) (fun sig h => by have h2 := hd.2.2; rw [h] at h2; exact hn.trans (Option.some.inj h2).symm) rfl (lv_room hW) (by rw [X.hb]; exact d)
    (fun vm₁ hW₁ => ⟨hf.1, hf.2, rfl, pre_to X hP hD hS hA1 (T.setVm vm₁) hT hW₁⟩)
  dsimp only [Pt.U, Pt.locs, Pt.cells, Pt.slots] at Y e1 e2 h1 h2 h3 st1
  subst h1; subst h2; subst h3
  exact ⟨v, (T.setVm vm₁).calling g' mk (Value.ref b :: As).toArray, t, U', L, hT, Y, hL1, e1, e2, hq, fun t2 h => st1.trans h⟩
end DFLT

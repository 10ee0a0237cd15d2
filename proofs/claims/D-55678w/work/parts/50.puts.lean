def pwF0 (x : Nat) (ad : Nat → Nat) (σ : Tw) : List Value := [.ref (ad 0), .int (σ 99 1), .ref (ad 2), .ref (ad 3), .ref (ad 4), .ref (ad 5), .ref (ad 6), .int (σ 99 7)]
def pw (x : Nat) (ad : Nat → Nat) (dd : Nat → ClassId) (σ : Tw) : va_W := [(x, .inr (10, pwF0 x ad σ)), (ad 2, .inl (dd 0, 8, .inl (σ 2))), (ad 3, .inl (dd 0, 8, .inl (σ 3))), (ad 4, .inl (dd 0, 8, .inl (σ 4))), (ad 5, .inl (dd 0, 8, .inl (σ 5))), (ad 6, .inl (dd 0, 8, .inl (σ 6)))]
section VIEW_pw
variable {x : Nat} {ad : Nat → Nat} {dd : Nat → ClassId} {σ : Tw}
theorem pwa_2 : (pw x ad dd σ)[1]? = some (ad 2, .inl (dd 0, 8, .inl (σ 2))) := rfl
theorem pwb_2 (f : Nat → Int32) : (pw x ad dd σ).set 1 (ad 2, .inl (dd 0, 8, .inl f)) = pw x ad dd (rw2 σ 2 f) := rfl
theorem pwa_3 : (pw x ad dd σ)[2]? = some (ad 3, .inl (dd 0, 8, .inl (σ 3))) := rfl
theorem pwb_3 (f : Nat → Int32) : (pw x ad dd σ).set 2 (ad 3, .inl (dd 0, 8, .inl f)) = pw x ad dd (rw2 σ 3 f) := rfl
theorem pwa_4 : (pw x ad dd σ)[3]? = some (ad 4, .inl (dd 0, 8, .inl (σ 4))) := rfl
theorem pwb_4 (f : Nat → Int32) : (pw x ad dd σ).set 3 (ad 4, .inl (dd 0, 8, .inl f)) = pw x ad dd (rw2 σ 4 f) := rfl
theorem pwa_5 : (pw x ad dd σ)[4]? = some (ad 5, .inl (dd 0, 8, .inl (σ 5))) := rfl
theorem pwb_5 (f : Nat → Int32) : (pw x ad dd σ).set 4 (ad 5, .inl (dd 0, 8, .inl f)) = pw x ad dd (rw2 σ 5 f) := rfl
theorem pwa_6 : (pw x ad dd σ)[5]? = some (ad 6, .inl (dd 0, 8, .inl (σ 6))) := rfl
theorem pwb_6 (f : Nat → Int32) : (pw x ad dd σ).set 5 (ad 6, .inl (dd 0, 8, .inl f)) = pw x ad dd (rw2 σ 6 f) := rfl
theorem pwf_0_1 (v : Int32) : (pw x ad dd σ).set 0 (x, .inr (10, (pwF0 x ad σ).set 1 (.int v))) = pw x ad dd (rw2 σ 99 (upd (σ 99) 1 v)) := rfl
theorem pwf_0_7 (v : Int32) : (pw x ad dd σ).set 0 (x, .inr (10, (pwF0 x ad σ).set 7 (.int v))) = pw x ad dd (rw2 σ 99 (upd (σ 99) 7 v)) := rfl
end VIEW_pw
theorem hdP_size : (xP "size" "()I").cls ≠ "java/lang/invoke/MethodHandle" ∧ (xP "size" "()I").cls ≠ "java/lang/invoke/VarHandle" ∧ (parseMethodDescriptor (xP "size" "()I").desc).map (fun d => d.parameters.length) = some 0 := by decide +kernel
theorem v_psize {p : Program} {l : Launch} {e : Env} {R : Room} {s : State} {m : MethodId} {args : Array Value} {below : List Frame} {meth : Method} {c : Code} {cc : ByteArray} {nL : Nat} {own : String} {D : va_G} {dd : Nat → ClassId} {A : Nat → Prop} {cells slots : Nat} {Q : State → Prop} {ws : va_W} {pc : Nat} {loc : List (Nat × Value)} {st : List Value} {wc : va_W} {index count : Nat} (X : VX p s m args meth c cc nL own D dd A) : ∀ (T : Tr) (a : Nat), PartIs wc T a → (∃ wr, ws.Perm (wc ++ wr)) → Cond.methodLink own index (xP "size" "()I") ∈ lw_all → dep T + 2 ≤ R.frames ∧ 40 + 20 * dep T ≤ R.locals → (st.map fun v => v.category).sum ≤ 8 → decode cc pc = .ok (.invokeinterface index count, 5) → cells ≤ R.cells ∧ slots ≤ R.slots →
    V p l e R s m args below meth c D A nL cells slots Q ws (pc + 5) loc (.int (nI (lsT T) - nI (fsT T) + nI 1) :: st) → V p l e R s m args below meth c D A nL cells slots Q ws pc loc (.ref a :: st)
  | .append x y, a, hp, hs, hlink, hR, hW, d, hf, kk => by
    have hp0 := hp
    obtain ⟨b, c, he, -, -⟩ := hp
    exact v_readG5 X hs (r_FD X (c_psize hp0) he rfl rfl hlink q1401 q118 q1403 (by decide +kernel) (by decide +kernel) hdP_size ⟨by omega, by omega⟩ rfl rfl hW d ⟨Nat.le_trans (Nat.le_of_eq (Nat.add_zero _)) hf.1, Nat.le_trans (Nat.le_of_eq (Nat.add_zero _)) hf.2⟩) (fun r h => by subst h; exact kk)
  | .tag v z, a, hp, hs, hlink, hR, hW, d, hf, kk => by
    have hp0 : PartIs wc (.tag v z) a := hp
    exact v_readG5 X hs (r_FD X (c_psize hp0) hp rfl rfl hlink q1401 q118 q1403 (by decide +kernel) (by decide +kernel) hdP_size ⟨by omega, by omega⟩ rfl rfl hW d ⟨Nat.le_trans (Nat.le_of_eq (Nat.add_zero _)) hf.1, Nat.le_trans (Nat.le_of_eq (Nat.add_zero _)) hf.2⟩) (fun r h => by subst h; exact kk)
  | .nil, _, hp, _, _, _, _, _, _, _ => hp.elim
  | .line, _, hp, _, _, _, _, _, _, _ => hp.elim
  | .align _, _, hp, _, _, _, _, _, _, _ => hp.elim
  | .text _, _, hp, _, _, _, _, _, _, _ => hp.elim
  | .nest _ _, _, hp, _, _, _, _, _, _, _ => hp.elim
  | .group _ _, _, hp, _, _, _, _, _, _, _ => hp.elim

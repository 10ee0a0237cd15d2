/-! a part's methods, called by the interface -/
theorem v_readG5 {p : Program} {l : Launch} {e : Env} {R : Room} {s : State} {m : MethodId} {args : Array Value} {below : List Frame} {meth : Method} {c : Code} {cc : ByteArray} {nL : Nat} {own : String} {D : va_G} {dd : Nat → ClassId} {A : Nat → Prop} {cells slots : Nat} {Q : State → Prop} {ws : va_W} {pc : Nat} {loc : List (Nat × Value)} {st : List Value} {wc : va_W} {st0 : List Value} {P : Int32 → Prop} (X : VX p s m args meth c cc nL own D dd A) (hs : ∃ wr, ws.Perm (wc ++ wr)) (hr : RunF5 p l e R s m args below meth c D A nL cells slots 0 0 wc pc st0 st (RI P wc))
    (kk : ∀ r : Int32, P r → V p l e R s m args below meth c D A nL cells slots Q ws (pc + 5) loc (.int r :: st)) : V p l e R s m args below meth c D A nL cells slots Q ws pc loc st0 := by
  obtain ⟨wr, hp⟩ := hs
  refine v_frame5 X hp hr (fun v w1 h => ?_)
  obtain ⟨⟨r, rfl, h1⟩, rfl⟩ := h
  exact v_perm hp.symm (kk r h1)
theorem hdP_first : (xP "first" "()I").cls ≠ "java/lang/invoke/MethodHandle" ∧ (xP "first" "()I").cls ≠ "java/lang/invoke/VarHandle" ∧ (parseMethodDescriptor (xP "first" "()I").desc).map (fun d => d.parameters.length) = some 0 := by decide +kernel
theorem v_pfirst {p : Program} {l : Launch} {e : Env} {R : Room} {s : State} {m : MethodId} {args : Array Value} {below : List Frame} {meth : Method} {c : Code} {cc : ByteArray} {nL : Nat} {own : String} {D : va_G} {dd : Nat → ClassId} {A : Nat → Prop} {cells slots : Nat} {Q : State → Prop} {ws : va_W} {pc : Nat} {loc : List (Nat × Value)} {st : List Value} {wc : va_W} {P : Int32 → Prop} {index count fr lc : Nat} (X : VX p s m args meth c cc nL own D dd A) : ∀ (T : Tr) (a : Nat), PartIs wc T a → PM l D dd yX10_first yX11_first cX10_first cX11_first 1 1 (some .int) fr lc [] wc P T a → (∃ wr, ws.Perm (wc ++ wr)) → Cond.methodLink own index (xP "first" "()I") ∈ lw_all → fr + 1 ≤ R.frames ∧ 20 + lc ≤ R.locals → (st.map fun v => v.category).sum ≤ 8 → decode cc pc = .ok (.invokeinterface index count, 5) → cells ≤ R.cells ∧ slots ≤ R.slots →
    (∀ r : Int32, P r → V p l e R s m args below meth c D A nL cells slots Q ws (pc + 5) loc (.int r :: st)) → V p l e R s m args below meth c D A nL cells slots Q ws pc loc (.ref a :: st)
  | .append x y, a, hp, hM, hs, hlink, hR, hW, d, hf, kk => by
    obtain ⟨b, c, he, -, -⟩ := hp
    exact v_readG5 X hs (r_F X hM he rfl rfl (lw_F hlink q959 q952 q119 q954) (by decide +kernel) hdP_first ⟨hR.1, by omega⟩ rfl rfl hW d ⟨Nat.le_trans (Nat.le_of_eq (Nat.add_zero _)) hf.1, Nat.le_trans (Nat.le_of_eq (Nat.add_zero _)) hf.2⟩) kk
  | .tag v _, a, hp, hM, hs, hlink, hR, hW, d, hf, kk => v_readG5 X hs (r_F X hM hp rfl rfl (lw_F hlink q962 q964 q120 q966) (by decide +kernel) hdP_first ⟨hR.1, by omega⟩ rfl rfl hW d ⟨Nat.le_trans (Nat.le_of_eq (Nat.add_zero _)) hf.1, Nat.le_trans (Nat.le_of_eq (Nat.add_zero _)) hf.2⟩) kk
  | .nil, _, hp, _, _, _, _, _, _, _, _ => hp.elim
  | .line, _, hp, _, _, _, _, _, _, _, _ => hp.elim
  | .align _, _, hp, _, _, _, _, _, _, _, _ => hp.elim
  | .text _, _, hp, _, _, _, _, _, _, _, _ => hp.elim
  | .nest _ _, _, hp, _, _, _, _, _, _, _, _ => hp.elim
  | .group _ _, _, hp, _, _, _, _, _, _, _, _ => hp.elim
theorem c_pfirst {l : Launch} {D : va_G} {dd : Nat → ClassId} {ws : va_W} : ∀ (T : Tr) (a : Nat), PartIs ws T a → PM l D dd yX10_first yX11_first cX10_first cX11_first 1 1 (some .int) (dep T) (20 * dep T) [] ws (fun r => nI (fsT T) = r) T a
  | .append x y, a, hp => by
    obtain ⟨b, c, h1, h2, h3⟩ := hp
    have ih := c_pfirst (l := l) (D := D) (dd := dd) x b h2
    refine MW.intro (by decide) (Nat.le_of_ble_eq_true rfl) (fun p_ e_ s_ m_ as_ bl_ me_ c_ A_ X hr hnm => ?_)
    have X : VX p_ s_ m_ as_ me_ c_ cX10_first 1 RX10 D dd A_ := X
    refine v_eq (loc' := [(0, .ref a)]) rfl rfl rfl ?_
    refine v_aload_n (pc := 0) X dX10_first_0 rfl 0 rfl ?_
    refine v_getM (pc := 1) X in_X10 h1 rfl 0 (by decide) q1321 (fun y h => h) rfl dX10_first_1 ?_
    refine v_pfirst (pc := 4) X x b h2 ih ⟨[], (by rw [List.append_nil])⟩ q956 ⟨by show dep x + 1 ≤ max (dep x) (dep y) + 1; omega, by show 20 + 20 * dep x ≤ 20 * (max (dep x) (dep y) + 1); omega⟩ (by decide) dX10_first_4 ⟨Nat.le_refl _, Nat.le_refl _⟩ (fun r hr1 => ?_)
    exact v_iret (pc := 9) X hr dX10_first_9 ⟨⟨_, rfl, hr1⟩, rfl⟩
  | .tag v _, a, hp => by
    refine MW.intro (by decide) (Nat.le_of_ble_eq_true rfl) (fun p_ e_ s_ m_ as_ bl_ me_ c_ A_ X hr hnm => ?_)
    have X : VX p_ s_ m_ as_ me_ c_ cX11_first 1 RX11 D dd A_ := X
    refine v_eq (loc' := [(0, .ref a)]) rfl rfl rfl ?_
    refine v_aload_n (pc := 0) X dX11_first_0 rfl 0 rfl ?_
    refine v_getM (pc := 1) X in_X11 hp rfl 0 (by decide) q1341 (fun y h => h) rfl dX11_first_1 ?_
    exact v_iret (pc := 4) X hr dX11_first_4 ⟨⟨_, rfl, rfl⟩, rfl⟩
  | .nil, _, hp => hp.elim
  | .line, _, hp => hp.elim
  | .align _, _, hp => hp.elim
  | .text _, _, hp => hp.elim
  | .nest _ _, _, hp => hp.elim
  | .group _ _, _, hp => hp.elim
theorem hdP_last : (xP "last" "()I").cls ≠ "java/lang/invoke/MethodHandle" ∧ (xP "last" "()I").cls ≠ "java/lang/invoke/VarHandle" ∧ (parseMethodDescriptor (xP "last" "()I").desc).map (fun d => d.parameters.length) = some 0 := by decide +kernel
theorem v_plast {p : Program} {l : Launch} {e : Env} {R : Room} {s : State} {m : MethodId} {args : Array Value} {below : List Frame} {meth : Method} {c : Code} {cc : ByteArray} {nL : Nat} {own : String} {D : va_G} {dd : Nat → ClassId} {A : Nat → Prop} {cells slots : Nat} {Q : State → Prop} {ws : va_W} {pc : Nat} {loc : List (Nat × Value)} {st : List Value} {wc : va_W} {P : Int32 → Prop} {index count fr lc : Nat} (X : VX p s m args meth c cc nL own D dd A) : ∀ (T : Tr) (a : Nat), PartIs wc T a → PM l D dd yX10_last yX11_last cX10_last cX11_last 1 1 (some .int) fr lc [] wc P T a → (∃ wr, ws.Perm (wc ++ wr)) → Cond.methodLink own index (xP "last" "()I") ∈ lw_all → fr + 1 ≤ R.frames ∧ 20 + lc ≤ R.locals → (st.map fun v => v.category).sum ≤ 8 → decode cc pc = .ok (.invokeinterface index count, 5) → cells ≤ R.cells ∧ slots ≤ R.slots →
    (∀ r : Int32, P r → V p l e R s m args below meth c D A nL cells slots Q ws (pc + 5) loc (.int r :: st)) → V p l e R s m args below meth c D A nL cells slots Q ws pc loc (.ref a :: st)
  | .append x y, a, hp, hM, hs, hlink, hR, hW, d, hf, kk => by
    obtain ⟨b, c, he, -, -⟩ := hp
    exact v_readG5 X hs (r_F X hM he rfl rfl (lw_F hlink q908 q910 q119 q912) (by decide +kernel) hdP_last ⟨hR.1, by omega⟩ rfl rfl hW d ⟨Nat.le_trans (Nat.le_of_eq (Nat.add_zero _)) hf.1, Nat.le_trans (Nat.le_of_eq (Nat.add_zero _)) hf.2⟩) kk
  | .tag v _, a, hp, hM, hs, hlink, hR, hW, d, hf, kk => v_readG5 X hs (r_F X hM hp rfl rfl (lw_F hlink q916 q918 q120 q920) (by decide +kernel) hdP_last ⟨hR.1, by omega⟩ rfl rfl hW d ⟨Nat.le_trans (Nat.le_of_eq (Nat.add_zero _)) hf.1, Nat.le_trans (Nat.le_of_eq (Nat.add_zero _)) hf.2⟩) kk
  | .nil, _, hp, _, _, _, _, _, _, _, _ => hp.elim
  | .line, _, hp, _, _, _, _, _, _, _, _ => hp.elim
  | .align _, _, hp, _, _, _, _, _, _, _, _ => hp.elim
  | .text _, _, hp, _, _, _, _, _, _, _, _ => hp.elim
  | .nest _ _, _, hp, _, _, _, _, _, _, _, _ => hp.elim
  | .group _ _, _, hp, _, _, _, _, _, _, _, _ => hp.elim
theorem c_plast {l : Launch} {D : va_G} {dd : Nat → ClassId} {ws : va_W} : ∀ (T : Tr) (a : Nat), PartIs ws T a → PM l D dd yX10_last yX11_last cX10_last cX11_last 1 1 (some .int) (dep T) (20 * dep T) [] ws (fun r => nI (lsT T) = r) T a
  | .append x y, a, hp => by
    obtain ⟨b, c, h1, h2, h3⟩ := hp
    have ih := c_plast (l := l) (D := D) (dd := dd) y c h3
    refine MW.intro (by decide) (Nat.le_of_ble_eq_true rfl) (fun p_ e_ s_ m_ as_ bl_ me_ c_ A_ X hr hnm => ?_)
    have X : VX p_ s_ m_ as_ me_ c_ cX10_last 1 RX10 D dd A_ := X
    refine v_eq (loc' := [(0, .ref a)]) rfl rfl rfl ?_
    refine v_aload_n (pc := 0) X dX10_last_0 rfl 0 rfl ?_
    refine v_getM (pc := 1) X in_X10 h1 rfl 1 (by decide) q1323 (fun y h => h) rfl dX10_last_1 ?_
    refine v_plast (pc := 4) X y c h3 ih ⟨[], (by rw [List.append_nil])⟩ q914 ⟨by show dep y + 1 ≤ max (dep x) (dep y) + 1; omega, by show 20 + 20 * dep y ≤ 20 * (max (dep x) (dep y) + 1); omega⟩ (by decide) dX10_last_4 ⟨Nat.le_refl _, Nat.le_refl _⟩ (fun r hr1 => ?_)
    exact v_iret (pc := 9) X hr dX10_last_9 ⟨⟨_, rfl, hr1⟩, rfl⟩
  | .tag v _, a, hp => by
    refine MW.intro (by decide) (Nat.le_of_ble_eq_true rfl) (fun p_ e_ s_ m_ as_ bl_ me_ c_ A_ X hr hnm => ?_)
    have X : VX p_ s_ m_ as_ me_ c_ cX11_last 1 RX11 D dd A_ := X
    refine v_eq (loc' := [(0, .ref a)]) rfl rfl rfl ?_
    refine v_aload_n (pc := 0) X dX11_last_0 rfl 0 rfl ?_
    refine v_getM (pc := 1) X in_X11 hp rfl 0 (by decide) q1341 (fun y h => h) rfl dX11_last_1 ?_
    exact v_iret (pc := 4) X hr dX11_last_4 ⟨⟨_, rfl, rfl⟩, rfl⟩
  | .nil, _, hp => hp.elim
  | .line, _, hp => hp.elim
  | .align _, _, hp => hp.elim
  | .text _, _, hp => hp.elim
  | .nest _ _, _, hp => hp.elim
  | .group _ _, _, hp => hp.elim

/-! BASE2: worlds as bags of cells; new cells; framed calls -/
theorem P_mem {D : va_G} {cl : List vw_C} {ws : va_W} {H : Heap} : va_P D cl ws H ↔ ∀ q ∈ ws, va_at D cl q H := by
  refine ⟨fun h q hq => ?_, fun h k q hk => h q (List.mem_of_getElem? hk)⟩
  obtain ⟨k, hk⟩ := List.getElem?_of_mem hq
  exact h k q hk
theorem D_nd {A : Nat → Prop} {ws : va_W} : va_D A ws ↔ (ws.map Prod.fst).Nodup ∧ ∀ q ∈ ws, A q.1 := by
  constructor
  · intro h
    refine ⟨?_, fun q hq => ?_⟩
    · rw [List.Nodup, List.pairwise_iff_getElem]
      intro i j hi hj hij
      rw [List.length_map] at hi hj
      rw [List.getElem_map, List.getElem_map]
      intro e
      have := h.1 i j _ _ (List.getElem?_eq_getElem hi) (List.getElem?_eq_getElem hj) e
      omega
    · obtain ⟨k, hk⟩ := List.getElem?_of_mem hq
      exact h.2 k q hk
  · intro h
    refine ⟨fun i j p q hi hj e => ?_, fun k q hk => h.2 q (List.mem_of_getElem? hk)⟩
    obtain ⟨hi1, hi2⟩ := List.getElem?_eq_some_iff.mp hi
    obtain ⟨hj1, hj2⟩ := List.getElem?_eq_some_iff.mp hj
    have hp := List.pairwise_iff_getElem.mp h.1
    rcases Nat.lt_trichotomy i j with h1 | h1 | h1
    · exfalso
      have := hp i j (by rw [List.length_map]; exact hi1) (by rw [List.length_map]; exact hj1) h1
      rw [List.getElem_map, List.getElem_map, hi2, hj2] at this
      exact this e
    · exact h1
    · exfalso
      have := hp j i (by rw [List.length_map]; exact hj1) (by rw [List.length_map]; exact hi1) h1
      rw [List.getElem_map, List.getElem_map, hi2, hj2] at this
      exact this e.symm
theorem P_perm {D : va_G} {cl : List vw_C} {ws ws' : va_W} {H : Heap} (h : ws.Perm ws') (hP : va_P D cl ws H) : va_P D cl ws' H := P_mem.mpr fun q hq => P_mem.mp hP q (h.mem_iff.mpr hq)
theorem D_perm {A : Nat → Prop} {ws ws' : va_W} (h : ws.Perm ws') (hD : va_D A ws) : va_D A ws' :=
  D_nd.mpr ⟨((h.map Prod.fst).nodup_iff).mp (D_nd.mp hD).1, fun q hq => (D_nd.mp hD).2 q (h.mem_iff.mpr hq)⟩
theorem P_sub {D : va_G} {cl : List vw_C} {ws ws' : va_W} {H : Heap} (h : ws'.Sublist ws) (hP : va_P D cl ws H) : va_P D cl ws' H := P_mem.mpr fun q hq => P_mem.mp hP q (h.subset hq)
theorem D_sub {A : Nat → Prop} {ws ws' : va_W} (h : ws'.Sublist ws) (hD : va_D A ws) : va_D A ws' :=
  D_nd.mpr ⟨(D_nd.mp hD).1.sublist (h.map Prod.fst), fun q hq => (D_nd.mp hD).2 q (h.subset hq)⟩
theorem w_join {A0 : Nat → Prop} {D : va_G} {cl : List vw_C} {ws wc wr w1 : va_W} {H H1 : Heap} (hp : ws.Perm (wc ++ wr)) (hP : va_P D cl ws H) (hD : va_D A0 ws) (hA : ∀ q, H.size ≤ q → A0 q) (hk : ∀ q : Nat, q < H.size → ¬ va_A wc H.size q → H1[q]? = H[q]?) (hP1 : va_P D cl w1 H1) (hD1 : va_D (va_A wc H.size) w1) : va_P D cl (w1 ++ wr) H1 ∧ va_D A0 (w1 ++ wr) := by
  have hP' := P_mem.mp (P_perm hp hP)
  have hD' := D_nd.mp (D_perm hp hD)
  rw [List.map_append, List.nodup_append] at hD'
  have apart : ∀ q ∈ wr, q.1 < H.size ∧ ¬ va_A wc H.size q.1 := by
    intro q hq
    have hl := (hP' q (List.mem_append_right _ hq)).lt
    refine ⟨hl, fun h => ?_⟩
    rcases h with ⟨k, e, h⟩ | h
    · exact hD'.1.2.2 q.1 (List.mem_map.mpr ⟨_, List.mem_of_getElem? h, rfl⟩) q.1 (List.mem_map.mpr ⟨_, hq, rfl⟩) rfl
    · omega
  refine ⟨P_mem.mpr fun q hq => ?_, D_nd.mpr ⟨?_, fun q hq => ?_⟩⟩
  · rcases List.mem_append.mp hq with h | h
    · exact P_mem.mp hP1 q h
    · obtain ⟨g1, g2⟩ := apart q h
      exact (hP' q (List.mem_append_right _ h)).kept (hk q.1 g1 g2)
  · rw [List.map_append, List.nodup_append]
    refine ⟨(D_nd.mp hD1).1, hD'.1.2.1, fun a ha b hb e => ?_⟩
    obtain ⟨x, hx, rfl⟩ := List.mem_map.mp ha
    obtain ⟨y, hy, rfl⟩ := List.mem_map.mp hb
    exact (apart y hy).2 (by rw [← e]; exact (D_nd.mp hD1).2 x hx)
  · rcases List.mem_append.mp hq with h | h
    · rcases (D_nd.mp hD1).2 q h with ⟨k, e, h2⟩ | h2
      · exact hD'.2 (q.1, e) (List.mem_append_left _ (List.mem_of_getElem? h2))
      · exact hA _ h2
    · exact hD'.2 q (List.mem_append_right _ h)
section BASE2
variable {p : Program} {l : Launch} {e : Env} {R : Room} {s : State} {m : MethodId} {args : Array Value} {below : List Frame} {meth : Method} {c : Code} {cc : ByteArray} {nL : Nat} {own : String} {D : va_G} {dd : Nat → ClassId} {A : Nat → Prop} {cells slots : Nat} {Q : State → Prop} {ws : va_W} {pc : Nat} {loc : List (Nat × Value)} {st : List Value}
theorem v_perm {ws' : va_W} (h : ws.Perm ws') (k : V p l e R s m args below meth c D A nL cells slots Q ws' pc loc st) : V p l e R s m args below meth c D A nL cells slots Q ws pc loc st :=
  fun H locs ls hP hD hS hl => k H locs ls (P_perm h hP) (D_perm h hD) hS hl
theorem v_less {ws' : va_W} (h : ws'.Sublist ws) (k : V p l e R s m args below meth c D A nL cells slots Q ws' pc loc st) : V p l e R s m args below meth c D A nL cells slots Q ws pc loc st :=
  fun H locs ls hP hD hS hl => k H locs ls (P_sub h hP) (D_sub h hD) hS hl
/-! new cells stand at the end of the world -/
theorem v_new {C : String} {T : u_T} {N ci index : Nat} (X : VX p s m args meth c cc nL own D dd A) (hin : ∀ w ∈ u_ws C T N, w ∈ lw_all) (ty0 : Nat → FieldType) (hty : ∀ k, k < N → parseFieldDescriptor (T k).2.2.1 = some (ty0 k)) (hcl : Cond.classLink own index C ∈ lw_all) (hinst : Cond.instantiable C N ∈ lw_all) (hini : Cond.initialized C ∈ lw_all) (hc : vwCl[ci]? = some (C, T, N)) (fs : List Value) (hfs : ∀ j, j < N → defaultValue (ty0 j) = vp_V fs j) (hf : cells + 1 ≤ R.cells ∧ slots + N ≤ R.slots) (d : decode cc pc = .ok (.new index, 3))
    (kk : ∀ q : Nat, V p l e R s m args below meth c D A nL (cells + 1) (slots + N) Q (ws ++ [(q, .inr (ci, fs))]) (pc + 3) loc (.ref q :: st)) : V p l e R s m args below meth c D A nL cells slots Q ws pc loc st :=
  fun H locs ls hP hD hS hl => va_new X.hx X.hb X.hts hin ty0 hty X.hown (X.hts _ hcl) (X.hts _ hinst) (X.hts _ hini) X.hK hP hD hS X.hA hc hfs hf.1 hf.2 d (fun q H1 hP1 hD1 hS1 => kk q H1 locs ls hP1 hD1 hS1 hl)
theorem v_newa {atype : ArrayType} {ty : FieldType} {N : Nat} {n : Int32} (X : VX p s m args meth c cc nL own D dd A) (t0 : Nat) {cB : ClassId} (ht : (tysG dd)[t0]? = some (cB, ty)) (hp : ∀ (U : State) (cA : ClassId), va_RA U cA ty → U.vm.findClass ("[" ++ ty.toString) = some cA) (harr : Cond.arrayClass (newarray.typeOf atype) ∈ lw_all) (hty : newarray.typeOf atype = ty) (a0 : vp_A) (ha : ∀ cA : ClassId, vp_cell cA a0 = arrV cA N (fun _ => defaultValue ty)) (hn : n = nI N) (hN : N < 2 ^ 31) (hb : N * componentBytes ty ≤ 536870912) (hf : cells + 1 ≤ R.cells ∧ slots + N ≤ R.slots) (d : decode cc pc = .ok (.newarray atype, 2))
    (kk : ∀ q : Nat, V p l e R s m args below meth c D A nL (cells + 1) (slots + N) Q (ws ++ [(q, .inl (cB, a0))]) (pc + 2) loc (.ref q :: st)) : V p l e R s m args below meth c D A nL cells slots Q ws pc loc (.int n :: st) := by
  subst hn
  intro H locs ls hP hD hS hl
  refine va_newa X.hx X.hb (X.hts _ harr) hty X.hK hP hD hS X.hA ha (nI_pos hN) (nI_clamp hN) hb hf.1 hf.2 d (fun q cA H1 hK1 hP1 hD1 hS1 => ?_)
  have h1 := hp s cA ((hK1.2 (tysG dd).length (cA, ty) (by rw [List.getElem?_append_right (Nat.le_refl _), Nat.sub_self]; rfl)).2)
  have h2 := hp s cB ((X.hK.2 t0 _ ht).2)
  have e := Option.some.inj (h1.symm.trans h2)
  subst e
  exact kk q H1 locs ls hP1 hD1 hS1 hl
theorem v_newq {C : String} {N : Nat} {n : Int32} {index : Nat} (X : VX p s m args meth c cc nL own D dd A) (t0 : Nat) {cB : ClassId} (ht : (tysG dd)[t0]? = some (cB, .object C)) (hcl : Cond.classLink own index C ∈ lw_all) (hC : C ∈ ["java/lang/Object", "VatBrackets$Plan", "java/lang/String"]) (hn : n = nI N) (hN : N < 2 ^ 31) (hb : N * 4 ≤ 536870912) (hf : cells + 1 ≤ R.cells ∧ slots + N ≤ R.slots) (d : decode cc pc = .ok (.anewarray index, 3))
    (kk : ∀ q : Nat, V p l e R s m args below meth c D A nL (cells + 1) (slots + N) Q (ws ++ [(q, .inl (cB, N, .inr (.inr (.inr (.inr (fun _ => none))))))]) (pc + 3) loc (.ref q :: st)) : V p l e R s m args below meth c D A nL cells slots Q ws pc loc (.int n :: st) := by
  subst hn
  intro H locs ls hP hD hS hl
  refine va_newq X.hx X.hb X.hown (X.hts _ hcl) (X.hG.2.2.2.1 C hC) X.hK hP hD hS X.hA (nI_pos hN) (nI_clamp hN) hb hf.1 hf.2 d (fun q cA H1 hK1 hP1 hD1 hS1 => ?_)
  obtain ⟨_, _, -, -, -, h1⟩ := (hK1.2 (tysG dd).length (cA, .object C) (by rw [List.getElem?_append_right (Nat.le_refl _), Nat.sub_self]; rfl)).2
  obtain ⟨_, _, -, -, -, h2⟩ := (X.hK.2 t0 _ ht).2
  have e := Option.some.inj (h1.symm.trans h2)
  subst e
  exact kk q H1 locs ls hP1 hD1 hS1 hl
/-! calls of a part of the world, by the kind of the call: what runs -/
def RunF (p : Program) (l : Launch) (e : Env) (R : Room) (s : State) (m : MethodId) (args : Array Value) (below : List Frame) (meth : Method) (c : Code) (D : va_G) (A : Nat → Prop) (nL : Nat) (cells slots mc ms : Nat) (wc : va_W) (pc : Nat) (st0 st : List Value) (post : Option Value → va_W → Prop) : Prop :=
  ∀ (H : Heap) (locs : List Loc) (ls : Array Slot), va_P D vwCl wc H → va_D A wc → va_S A s.heap H locs → ls.size = nL → ∃ a : Array Value, va_Run p l e R s m args below meth c H locs cells slots mc ms (F0 m pc ls st0) st (QW D (va_A wc H.size) post a) (va_A wc H.size)
theorem v_frame {wc wr : va_W} {mc ms : Nat} {st0 : List Value} {post : Option Value → va_W → Prop} (X : VX p s m args meth c cc nL own D dd A) (hp : ws.Perm (wc ++ wr)) (hr : RunF p l e R s m args below meth c D A nL cells slots mc ms wc pc st0 st post)
    (kk : ∀ (v : Option Value) (w1 : va_W), post v w1 → V p l e R s m args below meth c D A nL (cells + mc) (slots + ms) Q (w1 ++ wr) (pc + 3) loc (v.toList ++ st)) : V p l e R s m args below meth c D A nL cells slots Q ws pc loc st0 := by
  intro H locs ls hP hD hS hl
  have hPc : va_P D vwCl wc H := P_sub (List.sublist_append_left _ _) (P_perm hp hP)
  have hDc : va_D A wc := D_sub (List.sublist_append_left _ _) (D_perm hp hD)
  have hA1 := v_A1 X hDc hS
  obtain ⟨a, hrun⟩ := hr H locs ls hPc hDc hS hl.1
  refine v_go hrun hS hA1 hA1 (fun v w1 H1 locs1 hpo hP1 hD1 hsz hk hS1 => ?_)
  obtain ⟨hP2, hD2⟩ := w_join hp hP hD (fun q h => X.hA q (Nat.le_trans hS.1 h)) hk hP1 hD1
  exact kk v w1 hpo H1 locs1 ls hP2 hD2 hS1 hl
theorem r_V {C : String} {index : Nat} {y : MethodName} {cd : ByteArray} {nL' : Nat} {ret : Option FieldType} {fr mc ms lc n : Nat} {b : Nat} {As st0 : List Value} {wc : va_W} {post : Option Value → va_W → Prop} (X : VX p s m args meth c cc nL own D dd A)
    (hM : MW l D dd y cd nL' ret fr mc ms lc (.ref b :: As) wc post) {fs : List Value} {ci : Nat} {qc : vw_C} (he : (b, .inr (ci, fs)) ∈ wc) (hc : vwCl[ci]? = some qc) (hC : qc.1 = C)
    (hG : GoodIn lw_all (wsV own index C y (ws_ y cd nL' ret))) (hd : y.cls = C ∧ y.cls ≠ "java/lang/invoke/MethodHandle" ∧ y.cls ≠ "java/lang/invoke/VarHandle" ∧ (parseMethodDescriptor y.desc).map (fun d => d.parameters.length) = some n) (hR : fr + 1 ≤ R.frames ∧ 8 + (nL' + 11) + lc ≤ R.locals)
    (hn : As.length = n) (hst : st0 = As.reverse ++ .ref b :: st) (hW : (st.map fun v => v.category).sum ≤ 8) (d : decode cc pc = .ok (.invokevirtual index, 3)) (hf : cells + mc ≤ R.cells ∧ slots + ms ≤ R.slots) : RunF p l e R s m args below meth c D A nL cells slots mc ms wc pc st0 st post := by
  subst hst; subst hC
  intro H locs ls hP hD hS hls
  obtain ⟨k, hk⟩ := List.getElem?_of_mem he
  have hA1 := v_A1 X hD hS
  exact ⟨_, va_runV (As := As) (rest := st) ⟨X.hx, X.hb, X.hml, X.hown, X.hts⟩ (hM H.size) (cwV n X.hts hG rfl rfl rfl hd hR) ⟨MW.blind, va_recv X.hK hP hc hk, fun U hU hW' => ⟨rfl, by rw [hU], by rw [hU]; exact hP, X.hG.to hW' hU hS (fun q _ h => hA1 q h), hD.weaken (fun _ _ _ _ => trivial)⟩⟩ rfl hn hls rfl (lv_room hW) d hf⟩
theorem r_S {index : Nat} {y : MethodName} {cd : ByteArray} {nL' : Nat} {ret : Option FieldType} {fr mc ms lc n : Nat} {As st0 : List Value} {wc : va_W} {post : Option Value → va_W → Prop} (X : VX p s m args meth c cc nL own D dd A)
    (hM : MW l D dd y cd nL' ret fr mc ms lc As wc post)
    (hG : GoodIn lw_all (va_wsS own index y (ws_ y cd nL' ret))) (hd : y.cls ≠ "java/lang/invoke/MethodHandle" ∧ y.cls ≠ "java/lang/invoke/VarHandle" ∧ (parseMethodDescriptor y.desc).map (fun d => d.parameters.length) = some n) (hR : fr + 1 ≤ R.frames ∧ 8 + (nL' + 11) + lc ≤ R.locals)
    (hn : As.length = n) (hst : st0 = As.reverse ++ st) (hW : (st.map fun v => v.category).sum ≤ 8) (d : decode cc pc = .ok (.invokestatic index, 3)) (hf : cells + mc ≤ R.cells ∧ slots + ms ≤ R.slots) : RunF p l e R s m args below meth c D A nL cells slots mc ms wc pc st0 st post := by
  subst hst
  intro H locs ls hP hD hS hls
  have hA1 := v_A1 X hD hS
  exact ⟨_, va_runS (As := As) (rest := st) ⟨X.hx, X.hb, X.hml, X.hown, X.hts⟩ (hM H.size) (va_cwS n X.hts hG rfl rfl rfl hd hR) ⟨MW.blind, fun U hU hW' => ⟨rfl, by rw [hU], by rw [hU]; exact hP, X.hG.to hW' hU hS (fun q _ h => hA1 q h), hD.weaken (fun _ _ _ _ => trivial)⟩⟩ rfl hn hls rfl (lv_room hW) d hf⟩
end BASE2

/-! BASE9: contracts that ask more of the start; the making of own exceptions -/
def MWE (l : Launch) (D : va_G) (dd : Nat → ClassId) (y : MethodName) (cd : ByteArray) (nL : Nat) (ret : Option FieldType) (fr mc ms lc : Nat) (av : List Value) (w0 : va_W) (E : State → Prop) (post : Option Value → va_W → Prop) : Prop :=
  ∀ sz : Nat, Met l y (ws_ y cd nL ret) ({ frames := fr, cells := mc, slots := ms, locals := lc }) (va_Pc av (fun U => U.heap.size = sz ∧ va_P D vwCl w0 U.heap ∧ Gk D dd (va_A w0 sz) U ∧ va_D (fun _ => True) w0 ∧ E U)) (QW D (va_A w0 sz) post) mc ms (va_A w0 sz)
theorem MWE.blind {D : va_G} {dd : Nat → ClassId} {av : List Value} {w0 : va_W} {sz : Nat} {A : Nat → Prop} {E : State → Prop} (hE : ∀ (U : State) (g : JFrame) (mk : MethodId) (a : Array Value), E U → E (U.calling g mk a)) : FrameBlind (va_Pc av (fun U => U.heap.size = sz ∧ va_P D vwCl w0 U.heap ∧ Gk D dd A U ∧ va_D (fun _ => True) w0 ∧ E U)) := by
  intro a U g mk q
  obtain ⟨q0, q1, qP, qK, qD, qE⟩ := q
  exact ⟨q0, q1, qP, qK.blind g mk a, qD, hE U g mk a qE⟩
theorem MWE.intro {D : va_G} {dd : Nat → ClassId} {l : Launch} {y : MethodName} {cd : ByteArray} {nL' : Nat} {ret : Option FieldType} {fr mc ms lc : Nat} {av : List Value} {w0 : va_W} {E : State → Prop} {post : Option Value → va_W → Prop} (hy : plainName y.cls = true) (hn : (lg_sl av).length ≤ nL')
    (body : ∀ (p : Program) (e : Env) (s : State) (m : MethodId) (args : Array Value) (below : List Frame) (meth : Method) (c : Code) (A : Nat → Prop) (ls : Array Slot), VX p s m args meth c cd nL' y.cls D dd A → meth.sig.returnType = ret → meth.name = y.name → E s → va_P D vwCl w0 s.heap → va_D A w0 → A = va_A w0 s.heap.size → lv_has ls nL' (lv_args 0 av) →
      W p l e ({ frames := fr, cells := mc, slots := ms, locals := lc } : Room) s m args below meth c s.heap [] 0 0 (MQ below (QW D A post) args s mc ms A) (F0 m 0 ls [])) : MWE l D dd y cd nL' ret fr mc ms lc av w0 E post := by
  intro sz
  refine Met.ofW (cc := cd) (maxL := nL') (ret := ret) hy rfl ?_
  intro p e s m args below meth c s₁ B hml hv
  obtain ⟨rfl, hsz, hP, hG, hD0, hE⟩ := hv
  subst hsz
  have hts := atoms_spec (ws := ws_ y cd nL' ret) B.pre
  have hts : ∀ w ∈ lw_all, w.before _ s = true := fun w h => hts w (List.mem_cons_of_mem _ h)
  have hown : s.vm.findClass y.cls = some m.cls := findClass_of_methodNamed B.named
  have X : VX p s m av.toArray meth c cd nL' y.cls D dd (va_A w0 s.heap.size) := ⟨B.exec, B.bytes, hml, hown, hts, hG, fun q h => Or.inr h, B.notSynchronized⟩
  have hl := lv_entry av (n := nL') hn
  rw [lg_entry_eq]
  exact body p e s m _ below meth c _ _ X B.returns (name_of_methodNamed B.named B.method).1 hE hP hD0.self rfl hl
section BASE9
variable {p : Program} {l : Launch} {e : Env} {R : Room} {s : State} {m : MethodId} {args : Array Value} {below : List Frame} {meth : Method} {c : Code} {cc : ByteArray} {nL : Nat} {own : String} {D : va_G} {dd : Nat → ClassId} {A : Nat → Prop} {cells slots : Nat} {Q : State → Prop} {ws : va_W} {pc : Nat} {loc : List (Nat × Value)} {st : List Value}
theorem v_newE {C : String} {T : u_T} {N ci ik ic n pi nL' fr lc : Nat} {y : MethodName} {cd : ByteArray} {fs0 As : List Value} {post : List Value → Prop} (X : VX p s m args meth c cc nL own D dd A) (hin : ∀ w ∈ u_ws C T N, w ∈ lw_all) (ty0 : Nat → FieldType) (hty : ∀ k, k < N → parseFieldDescriptor (T k).2.2.1 = some (ty0 k)) (hcl : Cond.classLink own ik C ∈ lw_all) (hinst : Cond.instantiable C N ∈ lw_all) (hini : Cond.initialized C ∈ lw_all) (hc : vwCl[ci]? = some (C, T, N)) (hfs : ∀ j, j < N → defaultValue (ty0 j) = vp_V fs0 j)
    (d0 : decode cc pc = .ok (.new ik, 3)) (d3 : decode cc (pc + 3) = .ok (.dup, 1))
    (hload : ∀ (ls : Array Slot) (H1 : Heap) (locs : List Loc) (q : Nat), lv_has ls nL loc → va_P D vwCl ws H1 → W p l e R s m args below meth c H1 locs (cells + 1) (slots + N) Q (F0 m pi ls (As.reverse ++ .ref q :: .ref q :: st)) → W p l e R s m args below meth c H1 locs (cells + 1) (slots + N) Q (F0 m (pc + 4) ls (.ref q :: .ref q :: st)))
    (hM : ∀ q, MWE l D dd y cd nL' none fr 0 0 lc (.ref q :: As) [(q, .inr (ci, fs0))] (Frs D ci q) (fun v w => v = none ∧ ∃ fs, w = [(q, .inr (ci, fs))] ∧ post fs))
    (hcode : Cond.code y cd nL' none ∈ lw_all) (hini2 : Cond.initialized y.cls ∈ lw_all) (hl2 : Cond.methodLink own ic y ∈ lw_all) (hin2 : Cond.instanceMethod y ∈ lw_all)
    (hd : y.name = "<init>" ∧ y.cls ≠ "java/lang/invoke/MethodHandle" ∧ y.cls ≠ "java/lang/invoke/VarHandle" ∧ (parseMethodDescriptor y.desc).map (fun d => d.parameters.length) = some n) (hR : fr + 1 ≤ R.frames ∧ 8 + (nL' + 11) + lc ≤ R.locals)
    (hn : As.length = n) (hW : ((Value.ref 0 :: st).map fun v => v.category).sum ≤ 8) (d : decode cc pi = .ok (.invokespecial ic, 3)) (hf : cells + 1 ≤ R.cells ∧ slots + N ≤ R.slots)
    (kk : ∀ (q : Nat) (fs : List Value), post fs → V p l e R s m args below meth c D A nL (cells + 1) (slots + N) Q ((q, .inr (ci, fs)) :: ws) (pi + 3) loc (.ref q :: st)) : V p l e R s m args below meth c D A nL cells slots Q ws pc loc st := by
  intro H locs ls hP hD hS hl
  have hKn := X.hK.1 ci _ hc
  refine W.newcK X.hx X.hb X.hown (X.hts _ hcl) (X.hts _ hinst) (X.hts _ hini) rfl d0 hf.1 hf.2 hKn.2.1 rfl (fun H1 kC hkC e1 z1 o1 => ?_)
  have hk : ∀ (k : Nat) (x : Nat × va_E), ws[k]? = some x → H1[x.1]? = H[x.1]? := fun k x hx => o1 x.1 ((hP k x hx).lt)
  have hPw : va_P D vwCl ws H1 := hP.kept hk
  have hP2 : va_P D vwCl (ws ++ [(H.size, .inr (ci, fs0))]) H1 := hPw.app (fun k x hx => by
    have hz : k < 1 := (List.getElem?_eq_some_iff.mp hx).1
    rw [show k = 0 by omega] at hx
    cases hx
    exact ⟨_, hc, (u_born ty0 X.hts hin hKn hkC e1 hty).to hfs⟩)
  have hD2 : va_D A (ws ++ [(H.size, .inr (ci, fs0))]) := hD.push hP rfl (X.hA _ hS.1)
  have hS2 : va_S A s.heap H1 locs := ⟨Nat.le_trans hS.1 (by omega), fun x h1 h2 => (o1 x (Nat.lt_of_lt_of_le h1 hS.1)).trans (hS.2.1 x h1 h2), hS.2.2⟩
  refine lv_dup X.hx X.hb d3 rfl ?_
  refine hload ls H1 locs H.size hl hPw ?_
  have hPc : va_P D vwCl [(H.size, .inr (ci, fs0))] H1 := P_sub (List.sublist_append_right _ _) hP2
  have hDc : va_D A [(H.size, .inr (ci, fs0))] := D_sub (List.sublist_append_right _ _) hD2
  have hA1 := v_A1 X hDc hS2
  refine v_go (va_runI (As := As) (rest := .ref H.size :: st) ⟨X.hx, X.hb, X.hml, X.hown, X.hts⟩ (hM H.size H1.size) (cwI n X.hts (lw_meth hcode) rfl rfl rfl (X.hts _ hini2) (X.hts _ hl2) (X.hts _ hin2) hd.1 hd.2 hR) ⟨MWE.blind (fun U g mk a h => h), fun U hU hW' => ?_⟩ rfl hn hl.1 rfl (lv_room hW) d ⟨hf.1, hf.2⟩) hS2 hA1 hA1 (fun v w1 H3 locs3 hpo hP3 hD3 hsz hkk hS3 => ?_)
  · obtain ⟨a1, a2, a3, a4⟩ := pre_to X hPc hDc hS2 hA1 U hU hW'
    obtain ⟨k', hk', he⟩ := hW'.alike.2.2 _ _ hkC
    exact ⟨rfl, a1, a2, a3, a4, k', hk', by rw [hU, e1, he]; rfl⟩
  · obtain ⟨rfl, fs, rfl, hpost⟩ := hpo
    obtain ⟨hP4, hD4⟩ := w_join List.perm_append_comm hP2 hD2 (fun q h => X.hA q (Nat.le_trans hS2.1 h)) hkk hP3 hD3
    exact kk H.size fs hpost H3 locs3 ls hP4 hD4 hS3 hl
end BASE9
/-- a refusal's object: why, and the detail -/
def RfIs (fs : List Value) (r d : Int32) : Prop := ∃ a0 a1 a2 a3 a4 a5 : Value, fs = [a0, a1, a2, a3, a4, a5, .int r, .int d]
def FaIs (fs : List Value) (k : Int32) : Prop := ∃ a0 a1 a2 a3 a4 a5 : Value, fs = [a0, a1, a2, a3, a4, a5, .int k]
theorem hdX7_init : yX7_init.name = "<init>" ∧ yX7_init.cls ≠ "java/lang/invoke/MethodHandle" ∧ yX7_init.cls ≠ "java/lang/invoke/VarHandle" ∧ (parseMethodDescriptor yX7_init.desc).map (fun d => d.parameters.length) = some 2 := by decide +kernel
theorem hdX8_init : yX8_init.name = "<init>" ∧ yX8_init.cls ≠ "java/lang/invoke/MethodHandle" ∧ yX8_init.cls ≠ "java/lang/invoke/VarHandle" ∧ (parseMethodDescriptor yX8_init.desc).map (fun d => d.parameters.length) = some 1 := by decide +kernel
theorem wd_thr : ∀ x ∈ Bundle.throwableAtoms, WdN x := (wd_cons (wd_a q102 rfl) (wd_cons (wd_a q367 rfl) (wd_cons (wd_a q376 rfl) (wd_cons (wd_a q387 rfl) (wd_cons (wd_a q390 rfl) (wd_cons (wd_a q392 rfl) (wd_cons (wd_a q368 rfl) (wd_cons (wd_a q369 rfl) (wd_cons (wd_a q137 rfl) (wd_cons (wd_a q138 rfl) (wd_cons (wd_a q370 rfl) (wd_cons (wd_a q375 rfl) (wd_cons (wd_a q388 rfl) (wd_cons (wd_a q408 rfl) (wd_cons (wd_a q357 rfl) (wd_cons (wd_a q409 rfl) (wd_cons (wd_a q359 rfl) (wd_cons (wd_a q410 rfl) (wd_cons (wd_a q361 rfl) (wd_cons (wd_a q371 rfl) (wd_cons (wd_x (by decide +kernel)) (wd_cons (wd_a q373 rfl) (wd_cons (wd_x (by decide +kernel)) (wd_cons (wd_a q363 rfl) wd_nil))))))))))))))))))))))))
theorem sx_X7 : ∀ w ∈ sx_L RX7 1 "java/lang/Exception" "VatBrackets$Refused" [], Wd w := (List.forall_mem_append.mpr ⟨wd_f (wd_app (wd_app wd_thr (wd_cons (wd_a q1012 rfl) (wd_cons (wd_a q1013 rfl) (wd_cons (wd_a q1014 rfl) (wd_cons (wd_a q368 rfl) (wd_cons (wd_t q352 rfl rfl) wd_nil)))))) (wd_cons (wd_a q1037 rfl) wd_nil)), wd_n (wd_cons (wd_a q1028 rfl) (wd_cons (wd_a q379 rfl) (wd_cons (wd_a q1029 rfl) (wd_cons (wd_a q1030 rfl) (wd_cons (wd_a q1031 rfl) (wd_cons (wd_a q366 rfl) (wd_cons (wd_a q365 rfl) (wd_cons (wd_a q1033 rfl) wd_nil)))))))) (by decide +kernel)⟩)
theorem sx_X8 : ∀ w ∈ sx_L RX8 1 "java/lang/RuntimeException" "VatBrackets$Fault" ["java/lang/Exception"], Wd w := (List.forall_mem_append.mpr ⟨wd_f (wd_app (wd_app wd_thr (wd_cons (wd_a q1009 rfl) (wd_cons (wd_a q1010 rfl) (wd_cons (wd_a q1011 rfl) (wd_cons (wd_a q1012 rfl) (wd_cons (wd_t q350 rfl rfl) (wd_cons (wd_a q1012 rfl) (wd_cons (wd_a q1013 rfl) (wd_cons (wd_a q1014 rfl) (wd_cons (wd_a q368 rfl) (wd_cons (wd_t q352 rfl rfl) wd_nil))))))))))) (wd_cons (wd_a q1305 rfl) wd_nil)), wd_n (wd_cons (wd_a q1296 rfl) (wd_cons (wd_a q378 rfl) (wd_cons (wd_a q1297 rfl) (wd_cons (wd_a q1298 rfl) (wd_cons (wd_a q1299 rfl) (wd_cons (wd_a q366 rfl) (wd_cons (wd_a q365 rfl) (wd_cons (wd_a q1301 rfl) wd_nil)))))))) (by decide +kernel)⟩)
theorem c_X7_init {l : Launch} {D : va_G} {dd : Nat → ClassId} {q : Nat} {r d : Int32} (hst : l.stackTraces = false) : MWE l D dd yX7_init cX7_init 3 none 6 0 0 90 [.ref q, .int r, .int d] [(q, .inr (6, [.null, .null, .null, .null, .null, .int 0, .int 0, .int 0]))] (Frs D 6 q) (fun v w => v = none ∧ ∃ fs, w = [(q, .inr (6, fs))] ∧ RfIs fs r d) := by
  refine MWE.intro (by decide) (Nat.le_of_ble_eq_true rfl) (fun p_ e_ s_ m_ as_ bl_ me_ c_ A_ ls X hr hnm hF hP hD hAe hl => ?_)
  have X : VX p_ s_ m_ as_ me_ c_ cX7_init 3 RX7 D dd A_ := X
  refine lv_aload_n X.hx X.hb dX7_init_0 rfl (lv_at hl 0 rfl) ?_
  refine w_super (names := []) X hst (by decide +kernel) (by simp) sx_X7 rfl rfl hF (hD.2 0 _ rfl) hl.1 dX7_init_1 ⟨by decide, by decide⟩ (by decide) hP (fun H1 locs1 g hP1 hS1 => ?_)
  have k : V p_ l e_ ({ frames := 6, cells := 0, slots := 0, locals := 90 } : Room) s_ m_ as_ bl_ me_ c_ D A_ 3 0 0 (MQ bl_ (QW D A_ (fun v w => v = none ∧ ∃ fs, w = [(q, .inr (6, fs))] ∧ RfIs fs r d)) as_ s_ 0 0 A_) [(q, .inr (6, [g 0, g 1, g 2, g 3, g 4, g 5, g 6, g 7]))] 4 [(0, .ref q), (1, .int r), (2, .int d)] [] := by
    refine v_aload_n (pc := 4) X dX7_init_4 rfl 0 rfl ?_
    refine v_iload_n (pc := 5) X dX7_init_5 rfl 1 rfl ?_
    refine v_putF (pc := 6) X in_X7 tyX7 tyX7_ok nmX7 0 rfl rfl 6 (by decide) q1038 (fun y h => h) rfl hnm rfl rfl rfl (Nat.le_of_ble_eq_true rfl) dX7_init_6 (ws' := [(q, .inr (6, [g 0, g 1, g 2, g 3, g 4, g 5, .int r, g 7]))]) rfl ?_
    refine v_aload_n (pc := 9) X dX7_init_9 rfl 0 rfl ?_
    refine v_iload_n (pc := 10) X dX7_init_10 rfl 2 rfl ?_
    refine v_putF (pc := 11) X in_X7 tyX7 tyX7_ok nmX7 0 rfl rfl 7 (by decide) q1040 (fun y h => h) rfl hnm rfl rfl rfl (Nat.le_of_ble_eq_true rfl) dX7_init_11 (ws' := [(q, .inr (6, [g 0, g 1, g 2, g 3, g 4, g 5, .int r, .int d]))]) rfl ?_
    exact v_vret (pc := 14) X hr dX7_init_14 ⟨rfl, _, rfl, _, _, _, _, _, _, rfl⟩
  exact k H1 locs1 ls hP1 (D_nd.mpr ⟨by simp, fun z hz => by rw [List.mem_singleton.mp hz]; show A_ q; exact hD.2 0 _ rfl⟩) hS1 hl
theorem c_X8_init {l : Launch} {D : va_G} {dd : Nat → ClassId} {q : Nat} {k0 : Int32} (hst : l.stackTraces = false) : MWE l D dd yX8_init cX8_init 2 none 6 0 0 100 [.ref q, .int k0] [(q, .inr (7, [.null, .null, .null, .null, .null, .int 0, .int 0]))] (Frs D 7 q) (fun v w => v = none ∧ ∃ fs, w = [(q, .inr (7, fs))] ∧ FaIs fs k0) := by
  refine MWE.intro (by decide) (Nat.le_of_ble_eq_true rfl) (fun p_ e_ s_ m_ as_ bl_ me_ c_ A_ ls X hr hnm hF hP hD hAe hl => ?_)
  have X : VX p_ s_ m_ as_ me_ c_ cX8_init 2 RX8 D dd A_ := X
  refine lv_aload_n X.hx X.hb dX8_init_0 rfl (lv_at hl 0 rfl) ?_
  refine w_super (names := ["java/lang/Exception"]) X hst (by decide +kernel) (by decide +kernel) sx_X8 rfl rfl hF (hD.2 0 _ rfl) hl.1 dX8_init_1 ⟨by decide, by decide⟩ (by decide) hP (fun H1 locs1 g hP1 hS1 => ?_)
  have k : V p_ l e_ ({ frames := 6, cells := 0, slots := 0, locals := 100 } : Room) s_ m_ as_ bl_ me_ c_ D A_ 2 0 0 (MQ bl_ (QW D A_ (fun v w => v = none ∧ ∃ fs, w = [(q, .inr (7, fs))] ∧ FaIs fs k0)) as_ s_ 0 0 A_) [(q, .inr (7, [g 0, g 1, g 2, g 3, g 4, g 5, g 6]))] 4 [(0, .ref q), (1, .int k0)] [] := by
    refine v_aload_n (pc := 4) X dX8_init_4 rfl 0 rfl ?_
    refine v_iload_n (pc := 5) X dX8_init_5 rfl 1 rfl ?_
    refine v_putF (pc := 6) X in_X8 tyX8 tyX8_ok nmX8 0 rfl rfl 6 (by decide) q1306 (fun y h => h) rfl hnm rfl rfl rfl (Nat.le_of_ble_eq_true rfl) dX8_init_6 (ws' := [(q, .inr (7, [g 0, g 1, g 2, g 3, g 4, g 5, .int k0]))]) rfl ?_
    exact v_vret (pc := 9) X hr dX8_init_9 ⟨rfl, _, rfl, _, _, _, _, _, _, rfl⟩
  exact k H1 locs1 ls hP1 (D_nd.mpr ⟨by simp, fun z hz => by rw [List.mem_singleton.mp hz]; show A_ q; exact hD.2 0 _ rfl⟩) hS1 hl

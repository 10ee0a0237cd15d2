/-! BASE3: the other kinds of calls; what is thrown -/
/-- the words of the tables that don't ride in the lists -/
theorem VX.nw {p : Program} {s : State} {m : MethodId} {args : Array Value} {meth : Method} {c : Code} {cc : ByteArray} {nL : Nat} {own : String} {D : va_G} {dd : Nat → ClassId} {A : Nat → Prop} (X : VX p s m args meth c cc nL own D dd A) {w : Cond} (h : w ∈ lw_tbl) (hn : isNw w = true) : va_Nw w s := X.hG.2.1 w (List.mem_filter.mpr ⟨h, hn⟩)
section BASE3
variable {p : Program} {l : Launch} {e : Env} {R : Room} {s : State} {m : MethodId} {args : Array Value} {below : List Frame} {meth : Method} {c : Code} {cc : ByteArray} {nL : Nat} {own : String} {D : va_G} {dd : Nat → ClassId} {A : Nat → Prop} {cells slots : Nat} {Q : State → Prop} {ws : va_W} {pc : Nat} {loc : List (Nat × Value)} {st : List Value}
theorem pre_to {A1 : Nat → Prop} {wc : va_W} {H : Heap} {locs : List Loc} (X : VX p s m args meth c cc nL own D dd A) (hP : va_P D vwCl wc H) (hD : va_D A wc) (hS : va_S A s.heap H locs) (hA1 : ∀ q, A1 q → A q) : ∀ U : State, U.heap = H → s.WarmedH U.vm → U.heap.size = H.size ∧ va_P D vwCl wc U.heap ∧ Gk D dd A1 U ∧ va_D (fun _ => True) wc :=
  fun U hU hW' => ⟨by rw [hU], by rw [hU]; exact hP, X.hG.to hW' hU hS (fun q _ h => hA1 q h), hD.weaken (fun _ _ _ _ => trivial)⟩
theorem r_I {index : Nat} {y : MethodName} {cd : ByteArray} {nL' : Nat} {fr mc ms lc n : Nat} {b : Nat} {As st0 : List Value} {wc : va_W} {post : Option Value → va_W → Prop} (X : VX p s m args meth c cc nL own D dd A)
    (hM : MW l D dd y cd nL' none fr mc ms lc (.ref b :: As) wc post) (hcode : Cond.code y cd nL' none ∈ lw_all) (hini : Cond.initialized y.cls ∈ lw_all) (hl : Cond.methodLink own index y ∈ lw_all) (hin : Cond.instanceMethod y ∈ lw_all)
    (hd : y.name = "<init>" ∧ y.cls ≠ "java/lang/invoke/MethodHandle" ∧ y.cls ≠ "java/lang/invoke/VarHandle" ∧ (parseMethodDescriptor y.desc).map (fun d => d.parameters.length) = some n) (hR : fr + 1 ≤ R.frames ∧ 8 + (nL' + 11) + lc ≤ R.locals)
    (hn : As.length = n) (hst : st0 = As.reverse ++ .ref b :: st) (hW : (st.map fun v => v.category).sum ≤ 8) (d : decode cc pc = .ok (.invokespecial index, 3)) (hf : cells + mc ≤ R.cells ∧ slots + ms ≤ R.slots) : RunF p l e R s m args below meth c D A nL cells slots mc ms wc pc st0 st post := by
  subst hst
  intro H locs ls hP hD hS hls
  have hA1 := v_A1 X hD hS
  exact ⟨_, va_runI (As := As) (rest := st) ⟨X.hx, X.hb, X.hml, X.hown, X.hts⟩ (hM H.size) (cwI n X.hts (lw_meth hcode) rfl rfl rfl (X.hts _ hini) (X.hts _ hl) (X.hts _ hin) hd.1 hd.2 hR) ⟨MW.blind, fun U hU hW' => ⟨rfl, pre_to X hP hD hS hA1 U hU hW'⟩⟩ rfl hn hls rfl (lv_room hW) d hf⟩
theorem r_IN {index : Nat} {host : String} {y : MethodName} {cd : ByteArray} {nL' : Nat} {fr mc ms lc n : Nat} {b : Nat} {As st0 : List Value} {wc : va_W} {post : Option Value → va_W → Prop} (X : VX p s m args meth c cc nL own D dd A)
    (hM : MW l D dd y cd nL' none fr mc ms lc (.ref b :: As) wc post) (hcode : Cond.code y cd nL' none ∈ lw_all) (hini : Cond.initialized y.cls ∈ lw_all) (hl : Cond.methodLinkNest own index y host ∈ lw_tbl) (hin : Cond.instanceMethod y ∈ lw_all)
    (hd : y.name = "<init>" ∧ y.cls ≠ "java/lang/invoke/MethodHandle" ∧ y.cls ≠ "java/lang/invoke/VarHandle" ∧ (parseMethodDescriptor y.desc).map (fun d => d.parameters.length) = some n) (hR : fr + 1 ≤ R.frames ∧ 8 + (nL' + 11) + lc ≤ R.locals)
    (hn : As.length = n) (hst : st0 = As.reverse ++ .ref b :: st) (hW : (st.map fun v => v.category).sum ≤ 8) (d : decode cc pc = .ok (.invokespecial index, 3)) (hf : cells + mc ≤ R.cells ∧ slots + ms ≤ R.slots) : RunF p l e R s m args below meth c D A nL cells slots mc ms wc pc st0 st post := by
  subst hst
  intro H locs ls hP hD hS hls
  have hA1 := v_A1 X hD hS
  exact ⟨_, va_runIN (As := As) (rest := st) ⟨X.hx, X.hb, X.hml, X.hown, X.hts⟩ (hM H.size) ⟨va_cnB n X.hts (lw_meth hcode) rfl rfl rfl (X.nw hl rfl) (X.hts _ hini) hd.2 hR, hd.1, X.hts _ hin⟩ ⟨MW.blind, fun U hU hW' => ⟨rfl, pre_to X hP hD hS hA1 U hU hW'⟩⟩ rfl hn hls rfl (lv_room hW) d hf⟩
theorem r_SN {index : Nat} {host : String} {y : MethodName} {cd : ByteArray} {nL' : Nat} {ret : Option FieldType} {fr mc ms lc n : Nat} {As st0 : List Value} {wc : va_W} {post : Option Value → va_W → Prop} (X : VX p s m args meth c cc nL own D dd A)
    (hM : MW l D dd y cd nL' ret fr mc ms lc As wc post) (hcode : Cond.code y cd nL' ret ∈ lw_all) (hini : Cond.initialized y.cls ∈ lw_all) (hl : Cond.methodLinkNest own index y host ∈ lw_tbl) (hs : Cond.static y ∈ lw_all)
    (hd : y.cls ≠ "java/lang/invoke/MethodHandle" ∧ y.cls ≠ "java/lang/invoke/VarHandle" ∧ (parseMethodDescriptor y.desc).map (fun d => d.parameters.length) = some n) (hR : fr + 1 ≤ R.frames ∧ 8 + (nL' + 11) + lc ≤ R.locals)
    (hn : As.length = n) (hst : st0 = As.reverse ++ st) (hW : (st.map fun v => v.category).sum ≤ 8) (d : decode cc pc = .ok (.invokestatic index, 3)) (hf : cells + mc ≤ R.cells ∧ slots + ms ≤ R.slots) : RunF p l e R s m args below meth c D A nL cells slots mc ms wc pc st0 st post := by
  subst hst
  intro H locs ls hP hD hS hls
  have hA1 := v_A1 X hD hS
  exact ⟨_, va_runSN (As := As) (rest := st) ⟨X.hx, X.hb, X.hml, X.hown, X.hts⟩ (hM H.size) ⟨va_cnB n X.hts (lw_meth hcode) rfl rfl rfl (X.nw hl rfl) (X.hts _ hini) hd hR, X.hts _ hs, trivial⟩ ⟨MW.blind, fun U hU hW' => ⟨rfl, pre_to X hP hD hS hA1 U hU hW'⟩⟩ rfl hn hls rfl (lv_room hW) d hf⟩
/-- a method of the class above, by super -/
theorem r_SU {index : Nat} {y : MethodName} {cd : ByteArray} {nL' : Nat} {ret : Option FieldType} {fr mc ms lc n : Nat} {b : Nat} {As st0 : List Value} {wc : va_W} {post : Option Value → va_W → Prop} (X : VX p s m args meth c cc nL own D dd A)
    (hM : MW l D dd y cd nL' ret fr mc ms lc (.ref b :: As) wc post) {fs : List Value} {ci : Nat} {qc : vw_C} (he : (b, .inr (ci, fs)) ∈ wc) (hc : vwCl[ci]? = some qc)
    (hG : GoodIn lw_all (va_wsSU own index y (ws_ y cd nL' ret))) (hd : y.name ≠ "<init>" ∧ (parseMethodDescriptor y.desc).map (fun d => d.parameters.length) = some n) (hR : fr + 1 ≤ R.frames ∧ 8 + (nL' + 11) + lc ≤ R.locals)
    (hn : As.length = n) (hst : st0 = As.reverse ++ .ref b :: st) (hW : (st.map fun v => v.category).sum ≤ 8) (d : decode cc pc = .ok (.invokespecial index, 3)) (hf : cells + mc ≤ R.cells ∧ slots + ms ≤ R.slots) : RunF p l e R s m args below meth c D A nL cells slots mc ms wc pc st0 st post := by
  subst hst
  intro H locs ls hP hD hS hls
  obtain ⟨k, hk⟩ := List.getElem?_of_mem he
  have hA1 := v_A1 X hD hS
  exact ⟨_, va_runSU (As := As) (rest := st) (X.hK.1 ci _ hc).2 ⟨X.hx, X.hb, X.hml, X.hown, X.hts⟩ (hM H.size) (va_cwSU n X.hts hG rfl rfl rfl hd hR) ⟨MW.blind, va_recv X.hK hP hc hk, fun U hU hW' => ⟨rfl, pre_to X hP hD hS hA1 U hU hW'⟩⟩ rfl hn hls rfl (lv_room hW) d hf⟩
/-! by an interface -/
def RunF5 (p : Program) (l : Launch) (e : Env) (R : Room) (s : State) (m : MethodId) (args : Array Value) (below : List Frame) (meth : Method) (c : Code) (D : va_G) (A : Nat → Prop) (nL : Nat) (cells slots mc ms : Nat) (wc : va_W) (pc : Nat) (st0 st : List Value) (post : Option Value → va_W → Prop) : Prop :=
  ∀ (H : Heap) (locs : List Loc) (ls : Array Slot), va_P D vwCl wc H → va_D A wc → va_S A s.heap H locs → ls.size = nL → ∃ a : Array Value, va_Run5 p l e R s m args below meth c H locs cells slots mc ms (F0 m pc ls st0) st (QW D (va_A wc H.size) post a) (va_A wc H.size)
theorem v_go5 {H : Heap} {locs : List Loc} {ls : Array Slot} {A1 : Nat → Prop} {mc ms : Nat} {st0 rest : List Value} {a : Array Value} {post : Option Value → va_W → Prop} {free : Addr → Prop} (hr : va_Run5 p l e R s m args below meth c H locs cells slots mc ms (F0 m pc ls st0) rest (QW D A1 post a) free) (hS : va_S A s.heap H locs) (hA : ∀ q, A1 q → A q) (hf : ∀ q, free q → A q)
    (kk : ∀ (v : Option Value) (w1 : va_W) (H1 : Heap) (locs1 : List Loc), post v w1 → va_P D vwCl w1 H1 → va_D A1 w1 → H.size ≤ H1.size → (∀ q : Nat, q < H.size → ¬ A1 q → H1[q]? = H[q]?) → va_S A s.heap H1 locs1 → W p l e R s m args below meth c H1 locs1 (cells + mc) (slots + ms) Q (F0 m (pc + 5) ls (v.toList ++ rest))) : W p l e R s m args below meth c H locs cells slots Q (F0 m pc ls st0) := by
  intro T hT X
  obtain ⟨v, st₀, t, T', L, h0, X', hL, e1, e2, ⟨⟨r, w1, hv, hp, hP1, hD1⟩, hz, hk⟩, st⟩ := hr T hT X
  cases hv
  rw [h0] at hz hk
  obtain ⟨t2, a1, b1⟩ := kk v w1 T'.heap (locs ++ L) hp (by rw [e1]; exact hP1) hD1 (by rw [e1]; exact hz) (fun q h1 h2 => by rw [e1]; exact hk q h1 h2)
    ⟨Nat.le_trans hS.1 (by rw [e1]; exact hz), fun q h1 h2 => by rw [e1, hk q (Nat.lt_of_lt_of_le h1 hS.1) (fun z => h2 (hA q z))]; exact hS.2.1 q h1 h2, fun q hq => by
      rcases List.mem_append.mp hq with h | h
      · exact hS.2.2 q h
      · exact hf _ (hL q h)⟩ T' rfl X'
  exact ⟨t2, st t2 a1, b1⟩
theorem v_frame5 {wc wr : va_W} {mc ms : Nat} {st0 : List Value} {post : Option Value → va_W → Prop} (X : VX p s m args meth c cc nL own D dd A) (hp : ws.Perm (wc ++ wr)) (hr : RunF5 p l e R s m args below meth c D A nL cells slots mc ms wc pc st0 st post)
    (kk : ∀ (v : Option Value) (w1 : va_W), post v w1 → V p l e R s m args below meth c D A nL (cells + mc) (slots + ms) Q (w1 ++ wr) (pc + 5) loc (v.toList ++ st)) : V p l e R s m args below meth c D A nL cells slots Q ws pc loc st0 := by
  intro H locs ls hP hD hS hl
  have hPc : va_P D vwCl wc H := P_sub (List.sublist_append_left _ _) (P_perm hp hP)
  have hDc : va_D A wc := D_sub (List.sublist_append_left _ _) (D_perm hp hD)
  have hA1 := v_A1 X hDc hS
  obtain ⟨a, hrun⟩ := hr H locs ls hPc hDc hS hl.1
  refine v_go5 hrun hS hA1 hA1 (fun v w1 H1 locs1 hpo hP1 hD1 hsz hk hS1 => ?_)
  obtain ⟨hP2, hD2⟩ := w_join hp hP hD (fun q h => X.hA q (Nat.le_trans hS.1 h)) hk hP1 hD1
  exact kk v w1 hpo H1 locs1 ls hP2 hD2 hS1 hl
theorem r_F {C : String} {index count : Nat} {x y : MethodName} {cd : ByteArray} {nL' : Nat} {ret : Option FieldType} {fr mc ms lc n : Nat} {b : Nat} {As st0 : List Value} {wc : va_W} {post : Option Value → va_W → Prop} (X : VX p s m args meth c cc nL own D dd A)
    (hM : MW l D dd y cd nL' ret fr mc ms lc (.ref b :: As) wc post) {fs : List Value} {ci : Nat} {qc : vw_C} (he : (b, .inr (ci, fs)) ∈ wc) (hc : vwCl[ci]? = some qc) (hC : qc.1 = C)
    (hG : GoodIn lw_all (va_wsF own index C x y (ws_ y cd nL' ret))) (hF : (C, x, y) ∈ fwL) (hd : x.cls ≠ "java/lang/invoke/MethodHandle" ∧ x.cls ≠ "java/lang/invoke/VarHandle" ∧ (parseMethodDescriptor x.desc).map (fun d => d.parameters.length) = some n) (hR : fr + 1 ≤ R.frames ∧ 8 + (nL' + 11) + lc ≤ R.locals)
    (hn : As.length = n) (hst : st0 = As.reverse ++ .ref b :: st) (hW : (st.map fun v => v.category).sum ≤ 8) (d : decode cc pc = .ok (.invokeinterface index count, 5)) (hf : cells + mc ≤ R.cells ∧ slots + ms ≤ R.slots) : RunF5 p l e R s m args below meth c D A nL cells slots mc ms wc pc st0 st post := by
  subst hst; subst hC
  intro H locs ls hP hD hS hls
  obtain ⟨k, hk⟩ := List.getElem?_of_mem he
  have hA1 := v_A1 X hD hS
  exact ⟨_, va_runF (As := As) (rest := st) (X.hK.1 ci _ hc).2 ⟨X.hx, X.hb, X.hml, X.hown, X.hts⟩ (hM H.size) (va_cwF n X.hts hG rfl rfl rfl (X.hG.2.2.2.2.1 _ hF) hd hR) ⟨MW.blind, va_recv X.hK hP hc hk, fun U hU hW' => ⟨rfl, pre_to X hP hD hS hA1 U hU hW'⟩⟩ rfl hn hls rfl (lv_room hW) d hf⟩
end BASE3
/-! what is thrown -/
/-- the world at a throw, by the thrown object's address and class -/
def XQ (D : va_G) (A : Nat → Prop) (xpost : Nat → String → va_W → Prop) : Nat → String → State → State → Prop := fun q E st t => (∃ w : va_W, xpost q E w ∧ va_P D vwCl w t.heap ∧ va_D A w) ∧ va_F A st t
/-- a contract of a method that may throw; words: its own list of words -/
def XW (l : Launch) (D : va_G) (dd : Nat → ClassId) (y : MethodName) (words : List Cond) (fr mc ms lc : Nat) (av : List Value) (w0 : va_W) (post : Option Value → va_W → Prop) (xpost : Nat → String → va_W → Prop) : Prop :=
  ∀ sz : Nat, vx_Met l y words ({ frames := fr, cells := mc, slots := ms, locals := lc }) (va_Pc av (fun U => U.heap.size = sz ∧ va_P D vwCl w0 U.heap ∧ Gk D dd (va_A w0 sz) U ∧ va_D (fun _ => True) w0)) (QW D (va_A w0 sz) post) (XQ D (va_A w0 sz) xpost) mc ms (va_A w0 sz)
/-- the thrown object stands over the frame -/
def VT (p : Program) (l : Launch) (e : Env) (R : Room) (s : State) (m : MethodId) (args : Array Value) (below : List Frame) (meth : Method) (c : Code) (D : va_G) (A : Nat → Prop) (nL : Nat) (cells slots : Nat) (Q : State → Prop) (ws : va_W) (pc : Nat) (loc : List (Nat × Value)) (E : String) (q : Nat) : Prop :=
  ∀ (H : Heap) (locs : List Loc) (ls : Array Slot) (st : List Value), va_P D vwCl ws H → va_D A ws → va_S A s.heap H locs → lv_has ls nL loc → (∃ ce : Cell, H[q]? = some ce ∧ ce.vm = .none ∧ s.vm.findClass E = some ce.cls) → vx_W p l e R s m args below meth c H locs cells slots Q (F0 m pc ls st) q
section BASE4
variable {p : Program} {l : Launch} {e : Env} {R : Room} {s : State} {m : MethodId} {args : Array Value} {below : List Frame} {meth : Method} {c : Code} {cc : ByteArray} {nL : Nat} {own : String} {D : va_G} {dd : Nat → ClassId} {A : Nat → Prop} {cells slots : Nat} {Q : State → Prop} {ws : va_W} {pc : Nat} {loc : List (Nat × Value)} {st : List Value}
theorem XW.intro {y : MethodName} {cd : ByteArray} {nL' : Nat} {ret : Option FieldType} {fr mc ms lc : Nat} {av : List Value} {w0 : va_W} {post : Option Value → va_W → Prop} {xpost : Nat → String → va_W → Prop} (hy : plainName y.cls = true) (hn : (lg_sl av).length ≤ nL')
    (body : ∀ (p : Program) (e : Env) (s : State) (m : MethodId) (args : Array Value) (below : List Frame) (meth : Method) (c : Code) (A : Nat → Prop), VX p s m args meth c cd nL' y.cls D dd A → meth.sig.returnType = ret → (∀ x ∈ c.exceptionTable.toList, False) →
      V p l e ({ frames := fr, cells := mc, slots := ms, locals := lc } : Room) s m args below meth c D A nL' 0 0 (vx_MQ below (QW D A post) (XQ D A xpost) args s mc ms A) w0 0 (lv_args 0 av) []) : XW l D dd y (ws_ y cd nL' ret) fr mc ms lc av w0 post xpost := by
  intro sz
  refine vx_ofW (cc := cd) (maxL := nL') (ret := ret) hy rfl ?_
  intro p e s m args below meth c s₁ B hml ht hv
  obtain ⟨rfl, hsz, hP, hG, hD0⟩ := hv
  subst hsz
  have hts := atoms_spec (ws := ws_ y cd nL' ret) B.pre
  have hts : ∀ w ∈ lw_all, w.before _ s = true := fun w h => hts w (List.mem_cons_of_mem _ h)
  have hown : s.vm.findClass y.cls = some m.cls := findClass_of_methodNamed B.named
  have X : VX p s m av.toArray meth c cd nL' y.cls D dd (va_A w0 s.heap.size) := ⟨B.exec, B.bytes, hml, hown, hts, hG, fun q h => Or.inr h, B.notSynchronized⟩
  have hl := lv_entry av (n := nL') hn
  rw [lg_entry_eq]
  exact body p e s m _ below meth c _ X B.returns ht s.heap [] _ hP hD0.self va_S.rf hl
theorem XW.introH {y : MethodName} {cd : ByteArray} {nL' : Nat} {ret : Option FieldType} {hh : List (Nat × Nat × Nat × Nat)} {fr mc ms lc : Nat} {av : List Value} {w0 : va_W} {post : Option Value → va_W → Prop} {xpost : Nat → String → va_W → Prop} (hy : plainName y.cls = true) (hn : (lg_sl av).length ≤ nL')
    (body : ∀ (p : Program) (e : Env) (s : State) (m : MethodId) (args : Array Value) (below : List Frame) (meth : Method) (c : Code) (A : Nat → Prop), VX p s m args meth c cd nL' y.cls D dd A → meth.sig.returnType = ret → c.exceptionTable.toList = tableOf hh →
      V p l e ({ frames := fr, cells := mc, slots := ms, locals := lc } : Room) s m args below meth c D A nL' 0 0 (vx_MQ below (QW D A post) (XQ D A xpost) args s mc ms A) w0 0 (lv_args 0 av) []) : XW l D dd y (wsW_ y cd nL' ret hh) fr mc ms lc av w0 post xpost := by
  intro sz
  refine vx_ofWH (cc := cd) (maxL := nL') (ret := ret) (hh := hh) hy rfl ?_
  intro p e s m args below meth c s₁ B hml hv
  obtain ⟨rfl, hsz, hP, hG, hD0⟩ := hv
  subst hsz
  have hts0 := atoms_spec (ws := wsW_ y cd nL' ret hh) B.pre
  have hts : ∀ w ∈ lw_all, w.before _ s = true := fun w h => hts0 w (List.mem_cons_of_mem _ h)
  have ht := vx_table (x := y) B (hts0 _ List.mem_cons_self)
  have hown : s.vm.findClass y.cls = some m.cls := findClass_of_methodNamed B.named
  have X : VX p s m av.toArray meth c cd nL' y.cls D dd (va_A w0 s.heap.size) := ⟨B.exec, B.bytes, hml, hown, hts, hG, fun q h => Or.inr h, B.notSynchronized⟩
  have hl := lv_entry av (n := nL') hn
  rw [lg_entry_eq]
  exact body p e s m _ below meth c _ X B.returns ht s.heap [] _ hP hD0.self va_S.rf hl
/-- a method that may throw, and returns here -/
theorem v_xr {Qc : Array Value → State → Outcome → State → Prop} {XC : Nat → String → State → State → Prop} {mc ms : Nat} (k : V p l e R s m args below meth c D A nL cells slots (MQ below Qc args s mc ms A) ws pc loc st) : V p l e R s m args below meth c D A nL cells slots (vx_MQ below Qc XC args s mc ms A) ws pc loc st :=
  fun H locs ls hP hD hS hl => vx_ret (k H locs ls hP hD hS hl)
/-- it goes on to the caller -/
theorem vt_out {post : Option Value → va_W → Prop} {xpost : Nat → String → va_W → Prop} {mc ms : Nat} {E : String} {q : Nat} (X : VX p s m args meth c cc nL own D dd A) (hx : ∀ z ∈ c.exceptionTable.toList, covers z pc = false) (hc : cells ≤ mc) (hs : slots ≤ ms) (h : xpost q E ws) : VT p l e R s m args below meth c D A nL cells slots (vx_MQ below (QW D A post) (XQ D A xpost) args s mc ms A) ws pc loc E q := by
  intro H locs ls st hP hD hS hl hce
  obtain ⟨ce, h1, h2, h3⟩ := hce
  exact vx_out hx X.hlk h1 h2 h3 (fun t ht _ => ⟨⟨ws, h, by rw [ht]; exact hP, hD⟩, hS.F ht⟩) hS.2.2 hc hs
theorem vt_outP {post : Option Value → va_W → Prop} {xpost : Nat → String → va_W → Prop} {mc ms : Nat} {E : String} {q : Nat} (X : VX p s m args meth c cc nL own D dd A) (hx : ∀ z ∈ c.exceptionTable.toList, covers z pc = false ∨ (z.catchType ≠ 0 ∧ ∃ nm : String, (Cond.classLink own z.catchType nm).before args s = true ∧ va_Nc E nm s)) (hc : cells ≤ mc) (hs : slots ≤ ms) (h : xpost q E ws) : VT p l e R s m args below meth c D A nL cells slots (vx_MQ below (QW D A post) (XQ D A xpost) args s mc ms A) ws pc loc E q := by
  intro H locs ls st hP hD hS hl hce
  obtain ⟨ce, h1, h2, h3⟩ := hce
  exact vx_outP X.hown X.hlk hx h1 h2 h3 (fun t ht _ => ⟨⟨ws, h, by rw [ht]; exact hP, hD⟩, hS.F ht⟩) hS.2.2 hc hs
/-- it's caught here -/
theorem vt_catch {name E : String} {q : Nat} (X : VX p s m args meth c cc nL own D dd A) (pre : List ExceptionTableEntry) (x : ExceptionTableEntry) (suf : List ExceptionTableEntry) (hsplit : c.exceptionTable.toList = pre ++ x :: suf)
    (hpass : ∀ z ∈ pre, covers z pc = false ∨ (z.catchType ≠ 0 ∧ ∃ nm : String, (Cond.classLink own z.catchType nm).before args s = true ∧ va_Nc E nm s)) (hx : covers x pc = true) (h0 : x.catchType ≠ 0)
    (hlink : Cond.classLink own x.catchType name ∈ lw_all) (hcast : Cond.castable E name ∈ lw_tbl)
    (kk : V p l e R s m args below meth c D A nL cells slots Q ws x.handlerPc loc [.ref q]) : VT p l e R s m args below meth c D A nL cells slots Q ws pc loc E q := by
  intro H locs ls st hP hD hS hl hce
  obtain ⟨ce, h1, h2, h3⟩ := hce
  exact vx_catch X.hown pre x suf hsplit hpass hx h0 (X.hts _ hlink) (va_Nw.use rfl (X.nw hcast rfl)) h1 h2 h3 (kk H locs ls hP hD hS hl)
/-- athrow of an object of the world -/
theorem v_athrow {E : String} {q : Nat} {ci : Nat} {fs : List Value} {qc : vw_C} (X : VX p s m args meth c cc nL own D dd A) (he : (q, .inr (ci, fs)) ∈ ws) (hc : vwCl[ci]? = some qc) (hE : qc.1 = E) (d : decode cc pc = .ok (.athrow, 1)) (k : VT p l e R s m args below meth c D A nL cells slots Q ws pc loc E q) : V p l e R s m args below meth c D A nL cells slots Q ws pc loc (.ref q :: st) := by
  subst hE
  intro H locs ls hP hD hS hl
  refine vx_athrow X.hx X.hb d (k H locs ls st hP hD hS hl ?_)
  obtain ⟨r, h1, cell, q1, q2, q3, q4⟩ := P_mem.mp hP _ he
  have hr : r = qc := Option.some.inj (h1.symm.trans hc)
  subst hr
  exact ⟨cell, q1, q3, by rw [q2]; exact (X.hK.1 ci _ hc).2.1⟩
def XRunF (p : Program) (l : Launch) (e : Env) (R : Room) (s : State) (m : MethodId) (args : Array Value) (below : List Frame) (meth : Method) (c : Code) (D : va_G) (A : Nat → Prop) (nL : Nat) (cells slots mc ms : Nat) (wc : va_W) (pc : Nat) (st0 st : List Value) (post : Option Value → va_W → Prop) (xpost : Nat → String → va_W → Prop) : Prop :=
  ∀ (H : Heap) (locs : List Loc) (ls : Array Slot), va_P D vwCl wc H → va_D A wc → va_S A s.heap H locs → ls.size = nL → ∃ a : Array Value, vx_Run p l e R s m args below meth c H locs cells slots mc ms (F0 m pc ls st0) st (QW D (va_A wc H.size) post a) (XQ D (va_A wc H.size) xpost) (va_A wc H.size)
theorem v_frameX {wc wr : va_W} {mc ms : Nat} {st0 : List Value} {post : Option Value → va_W → Prop} {xpost : Nat → String → va_W → Prop} (X : VX p s m args meth c cc nL own D dd A) (hp : ws.Perm (wc ++ wr)) (hr : XRunF p l e R s m args below meth c D A nL cells slots mc ms wc pc st0 st post xpost)
    (kx : ∀ (q : Nat) (E : String) (w1 : va_W), xpost q E w1 → VT p l e R s m args below meth c D A nL (cells + mc) (slots + ms) Q (w1 ++ wr) pc loc E q)
    (kk : ∀ (v : Option Value) (w1 : va_W), post v w1 → V p l e R s m args below meth c D A nL (cells + mc) (slots + ms) Q (w1 ++ wr) (pc + 3) loc (v.toList ++ st)) : V p l e R s m args below meth c D A nL cells slots Q ws pc loc st0 := by
  intro H locs ls hP hD hS hl
  have hPc : va_P D vwCl wc H := P_sub (List.sublist_append_left _ _) (P_perm hp hP)
  have hDc : va_D A wc := D_sub (List.sublist_append_left _ _) (D_perm hp hD)
  have hA1 := v_A1 X hDc hS
  have hup : ∀ q, H.size ≤ q → A q := fun q h => X.hA q (Nat.le_trans hS.1 h)
  obtain ⟨a, hrun⟩ := hr H locs ls hPc hDc hS hl.1
  have hSn : ∀ (T' : State) (L : List Loc), H.size ≤ T'.heap.size → (∀ q : Nat, q < H.size → ¬ va_A wc H.size q → T'.heap[q]? = H[q]?) → (∀ z ∈ L, va_A wc H.size z.base) → va_S A s.heap T'.heap (locs ++ L) := fun T' L hz hk hL =>
    ⟨Nat.le_trans hS.1 hz, fun q h1 h2 => (hk q (Nat.lt_of_lt_of_le h1 hS.1) (fun z => h2 (hA1 q z))).trans (hS.2.1 q h1 h2), fun q hq => by
      rcases List.mem_append.mp hq with h | h
      · exact hS.2.2 q h
      · exact hA1 _ (hL q h)⟩
  intro T hT X'
  rcases hrun T hT X' with ⟨v, st₀, t, T', L, h0, Y, hL, e1, e2, ⟨⟨r, w1, hv, hpo, hP1, hD1⟩, hz, hk⟩, hst⟩ | ⟨q, st₀, t, T', L, E, ce, h0, Y, hL, e1, e2, ⟨⟨w1, hpo, hP1, hD1⟩, hz, hk⟩, hce, hcv, hcl, hst⟩
  · cases hv
    rw [h0, ← e1] at hz hk
    rw [← e1] at hP1
    obtain ⟨hP2, hD2⟩ := w_join hp hP hD hup hk hP1 hD1
    obtain ⟨t2, a1, b1⟩ := kk v w1 hpo T'.heap (locs ++ L) ls hP2 hD2 (hSn T' L hz hk hL) hl T' rfl Y
    exact ⟨t2, hst t2 a1, b1⟩
  · rw [h0, ← e1] at hz hk
    rw [← e1] at hP1 hce
    obtain ⟨hP2, hD2⟩ := w_join hp hP hD hup hk hP1 hD1
    obtain ⟨t2, a1, b1⟩ := kx q E w1 hpo T'.heap (locs ++ L) ls st hP2 hD2 (hSn T' L hz hk hL) hl ⟨ce, hce, hcv, hcl⟩ T' rfl Y
    exact ⟨t2, hst.trans a1, b1⟩
theorem MW.blindX {av : List Value} {w0 : va_W} {sz : Nat} {A : Nat → Prop} : FrameBlind (va_Pc av (fun U => U.heap.size = sz ∧ va_P D vwCl w0 U.heap ∧ Gk D dd A U ∧ va_D (fun _ => True) w0)) := MW.blind
theorem x_V {C : String} {index : Nat} {y : MethodName} {cd : ByteArray} {nL' : Nat} {ret : Option FieldType} {fr mc ms lc n : Nat} {b : Nat} {As st0 : List Value} {wc : va_W} {post : Option Value → va_W → Prop} {xpost : Nat → String → va_W → Prop} (X : VX p s m args meth c cc nL own D dd A)
    (hM : XW l D dd y (ws_ y cd nL' ret) fr mc ms lc (.ref b :: As) wc post xpost) {fs : List Value} {ci : Nat} {qc : vw_C} (he : (b, .inr (ci, fs)) ∈ wc) (hc : vwCl[ci]? = some qc) (hC : qc.1 = C)
    (hG : GoodIn lw_all (wsV own index C y (ws_ y cd nL' ret))) (hd : y.cls = C ∧ y.cls ≠ "java/lang/invoke/MethodHandle" ∧ y.cls ≠ "java/lang/invoke/VarHandle" ∧ (parseMethodDescriptor y.desc).map (fun d => d.parameters.length) = some n) (hR : fr + 1 ≤ R.frames ∧ 8 + (nL' + 11) + lc ≤ R.locals)
    (hn : As.length = n) (hst : st0 = As.reverse ++ .ref b :: st) (hW : (st.map fun v => v.category).sum ≤ 8) (d : decode cc pc = .ok (.invokevirtual index, 3)) (hf : cells + mc ≤ R.cells ∧ slots + ms ≤ R.slots) : XRunF p l e R s m args below meth c D A nL cells slots mc ms wc pc st0 st post xpost := by
  subst hst; subst hC
  intro H locs ls hP hD hS hls
  obtain ⟨k, hk⟩ := List.getElem?_of_mem he
  have hA1 := v_A1 X hD hS
  exact ⟨_, vx_runV (As := As) (rest := st) ⟨X.hx, X.hb, X.hml, X.hown, X.hts⟩ (hM H.size) (cwV n X.hts hG rfl rfl rfl hd hR) ⟨MW.blind, va_recv X.hK hP hc hk, fun U hU hW' => ⟨rfl, pre_to X hP hD hS hA1 U hU hW'⟩⟩ rfl hn hls rfl (lv_room hW) d hf⟩
theorem x_S {index : Nat} {y : MethodName} {cd : ByteArray} {nL' : Nat} {ret : Option FieldType} {fr mc ms lc n : Nat} {As st0 : List Value} {wc : va_W} {post : Option Value → va_W → Prop} {xpost : Nat → String → va_W → Prop} (X : VX p s m args meth c cc nL own D dd A)
    (hM : XW l D dd y (ws_ y cd nL' ret) fr mc ms lc As wc post xpost)
    (hG : GoodIn lw_all (va_wsS own index y (ws_ y cd nL' ret))) (hd : y.cls ≠ "java/lang/invoke/MethodHandle" ∧ y.cls ≠ "java/lang/invoke/VarHandle" ∧ (parseMethodDescriptor y.desc).map (fun d => d.parameters.length) = some n) (hR : fr + 1 ≤ R.frames ∧ 8 + (nL' + 11) + lc ≤ R.locals)
    (hn : As.length = n) (hst : st0 = As.reverse ++ st) (hW : (st.map fun v => v.category).sum ≤ 8) (d : decode cc pc = .ok (.invokestatic index, 3)) (hf : cells + mc ≤ R.cells ∧ slots + ms ≤ R.slots) : XRunF p l e R s m args below meth c D A nL cells slots mc ms wc pc st0 st post xpost := by
  subst hst
  intro H locs ls hP hD hS hls
  have hA1 := v_A1 X hD hS
  exact ⟨_, vx_runS (As := As) (rest := st) ⟨X.hx, X.hb, X.hml, X.hown, X.hts⟩ (hM H.size) (va_cwS n X.hts hG rfl rfl rfl hd hR) ⟨MW.blind, fun U hU hW' => ⟨rfl, pre_to X hP hD hS hA1 U hU hW'⟩⟩ rfl hn hls rfl (lv_room hW) d hf⟩
theorem x_SN {index : Nat} {host : String} {y : MethodName} {cd : ByteArray} {nL' : Nat} {ret : Option FieldType} {fr mc ms lc n : Nat} {As st0 : List Value} {wc : va_W} {post : Option Value → va_W → Prop} {xpost : Nat → String → va_W → Prop} (X : VX p s m args meth c cc nL own D dd A)
    (hM : XW l D dd y (ws_ y cd nL' ret) fr mc ms lc As wc post xpost) (hcode : Cond.code y cd nL' ret ∈ lw_all) (hini : Cond.initialized y.cls ∈ lw_all) (hl : Cond.methodLinkNest own index y host ∈ lw_tbl) (hs : Cond.static y ∈ lw_all)
    (hd : y.cls ≠ "java/lang/invoke/MethodHandle" ∧ y.cls ≠ "java/lang/invoke/VarHandle" ∧ (parseMethodDescriptor y.desc).map (fun d => d.parameters.length) = some n) (hR : fr + 1 ≤ R.frames ∧ 8 + (nL' + 11) + lc ≤ R.locals)
    (hn : As.length = n) (hst : st0 = As.reverse ++ st) (hW : (st.map fun v => v.category).sum ≤ 8) (d : decode cc pc = .ok (.invokestatic index, 3)) (hf : cells + mc ≤ R.cells ∧ slots + ms ≤ R.slots) : XRunF p l e R s m args below meth c D A nL cells slots mc ms wc pc st0 st post xpost := by
  subst hst
  intro H locs ls hP hD hS hls
  have hA1 := v_A1 X hD hS
  exact ⟨_, vx_runSN (As := As) (rest := st) ⟨X.hx, X.hb, X.hml, X.hown, X.hts⟩ (hM H.size) ⟨va_cnB n X.hts (lw_meth hcode) rfl rfl rfl (X.nw hl rfl) (X.hts _ hini) hd hR, X.hts _ hs, trivial⟩ ⟨MW.blind, fun U hU hW' => ⟨rfl, pre_to X hP hD hS hA1 U hU hW'⟩⟩ rfl hn hls rfl (lv_room hW) d hf⟩
/-- a method with handlers that may throw -/
theorem x_VX {C : String} {index : Nat} {y : MethodName} {cd : ByteArray} {nL' : Nat} {ret : Option FieldType} {hh : List (Nat × Nat × Nat × Nat)} {fr mc ms lc n : Nat} {b : Nat} {As st0 : List Value} {wc : va_W} {post : Option Value → va_W → Prop} {xpost : Nat → String → va_W → Prop} (X : VX p s m args meth c cc nL own D dd A)
    (hM : XW l D dd y (wsW_ y cd nL' ret hh) fr mc ms lc (.ref b :: As) wc post xpost) {fs : List Value} {ci : Nat} {qc : vw_C} (he : (b, .inr (ci, fs)) ∈ wc) (hc : vwCl[ci]? = some qc) (hC : qc.1 = C)
    (hG : GoodIn lw_all (wsV own index C y (wsW_ y cd nL' ret hh))) (hd : y.cls = C ∧ y.cls ≠ "java/lang/invoke/MethodHandle" ∧ y.cls ≠ "java/lang/invoke/VarHandle" ∧ (parseMethodDescriptor y.desc).map (fun d => d.parameters.length) = some n) (hR : fr + 1 ≤ R.frames ∧ 8 + (nL' + 11) + lc ≤ R.locals)
    (hn : As.length = n) (hst : st0 = As.reverse ++ .ref b :: st) (hW : (st.map fun v => v.category).sum ≤ 8) (d : decode cc pc = .ok (.invokevirtual index, 3)) (hf : cells + mc ≤ R.cells ∧ slots + ms ≤ R.slots) : XRunF p l e R s m args below meth c D A nL cells slots mc ms wc pc st0 st post xpost := by
  subst hst; subst hC
  intro H locs ls hP hD hS hls
  obtain ⟨k, hk⟩ := List.getElem?_of_mem he
  have hA1 := v_A1 X hD hS
  exact ⟨_, vx_runVX (As := As) (rest := st) ⟨X.hx, X.hb, X.hml, X.hown, X.hts⟩ (hM H.size) (vx_cwVW n X.hts hG rfl rfl rfl hd hR) ⟨MW.blind, va_recv X.hK hP hc hk, fun U hU hW' => ⟨rfl, pre_to X hP hD hS hA1 U hU hW'⟩⟩ rfl hn hls rfl (lv_room hW) d hf⟩
end BASE4

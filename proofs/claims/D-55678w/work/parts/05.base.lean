/-! BASE: the judgement V (a walk with its heap, frame cells and locals hidden) and its rows, over the kit's rows -/
set_option maxRecDepth 100000
def vwCl : List vw_C := [(RX1, TX1, 15), (RX2, TX2, 6), (RX3, TX3, 10), (RX4, TX4, 3), (RX5, TX5, 8), (RX6, TX6, 34), (RX7, TX7, 8), (RX8, TX8, 7), (RX10, TX10, 2), (RX11, TX11, 1), (RX12, TX12, 8), (RJ1, TJ1, 3), (RJ3, TJ3, 4), (RJ4, TJ4, 4), ("java/lang/UnsupportedOperationException", TJ4, 0)]
def tysG (dd : Nat → ClassId) : List (ClassId × FieldType) := [(dd 0, .int), (dd 1, .char), (dd 2, .byte), (dd 3, .object "java/lang/Object"), (dd 4, .object "VatBrackets$Plan"), (dd 5, .object "java/lang/String"), (dd 6, .long), (dd 7, .double)]
/-- words of the tables that don't ride in the lists of words -/
def isNw : Cond → Bool
  | .fieldLinkNest _ _ _ _ _ _ => true
  | .methodLinkNest _ _ _ _ => true
  | .declares _ => true
  | .castable _ _ => true
  | .privateMethod _ => true
  | _ => false
def lw_nw : List Cond := lw_tbl.filter isNw
def Gn (U : State) : Prop := ∀ w ∈ lw_nw, va_Nw w U
theorem pm_moved {y : MethodName} {u U : State} (hvm : u.vm.Alike U.vm) (h : va_Nw (.privateMethod y) u) : va_Nw (.privateMethod y) U := by
  have h' : (Cond.privateMethod y).before #[] (u.setVm U.vm) = true := by rw [Cond.privateMethod_setVm hvm]; exact h
  unfold va_Nw
  simp only [Cond.before, Cond.holds, Cond.value] at h' ⊢
  exact h'
theorem Gn.moved {s U : State} (hW : s.WarmedH U.vm) (h : Gn s) : Gn U := by
  intro w hw
  have h1 := h w hw
  have h2 : isNw w = true := (List.mem_filter.mp hw).2
  cases w <;> first | exact va_Nw.warmF hW h1 | exact va_Nw.warmM hW h1 | exact va_Nw.warmD hW h1 | exact va_Nw.warmC hW h1 | exact pm_moved hW.alike h1 | exact absurd h2 (by decide) | (simp [isNw] at h2)
theorem Gn.same {s U : State} (hv : s.vm = U.vm) (h : Gn s) : Gn U := by
  intro w hw
  have h1 := h w hw
  have h2 : isNw w = true := (List.mem_filter.mp hw).2
  cases w <;> first | exact va_Nw.same rfl hv h1 | (simp [isNw] at h2)
/-- statics of whole numbers, as given -/
def zS : List (String × String × String × Value) := [("java/lang/String", "COMPACT_STRINGS", "Z", .int 1), ("java/lang/StringUTF16", "$assertionsDisabled", "Z", .int 1), ("java/lang/StringUTF16", "HI_BYTE_SHIFT", "I", .int 0), ("java/lang/StringUTF16", "LO_BYTE_SHIFT", "I", .int 8), ("jdk/internal/misc/Unsafe", "ARRAY_BYTE_BASE_OFFSET", "I", .int 16), ("jdk/internal/misc/UnsafeConstants", "BIG_ENDIAN", "Z", .int 0), ("jdk/internal/util/ArraysSupport", "BIG_ENDIAN", "Z", .int 0), ("jdk/internal/util/ArraysSupport", "LOG2_ARRAY_BYTE_INDEX_SCALE", "I", .int 0), ("jdk/internal/util/ArraysSupport", "LOG2_ARRAY_INT_INDEX_SCALE", "I", .int 2), ("jdk/internal/util/ArraysSupport", "LOG2_ARRAY_LONG_INDEX_SCALE", "I", .int 3), ("jdk/internal/util/ArraysSupport", "LOG2_BYTE_BIT_SIZE", "I", .int 3)]
/-- the two rows of digits -/
def zD : List (String × (Nat → Value)) := [("DigitOnes", fun k => .int (nI (48 + k % 10))), ("DigitTens", fun k => .int (nI (48 + k / 10)))]
/-- constants of the heap, none of them within A -/
def Gc (A : Nat → Prop) (U : State) (H : Heap) : Prop := (∀ z ∈ zS, va_Z z.1 z.2.1 z.2.2.1 z.2.2.2 A U H) ∧ vx_Zq Bundle.tN "UNASSIGNED_STACK" Bundle.steD A U H ∧ vx_Zq Bundle.tN "SUPPRESSED_SENTINEL" Bundle.listD A U H ∧ (∀ z ∈ zD, ∃ t : Nat, va_Z "java/lang/Integer" z.1 "[B" (.ref t) A U H ∧ va_T .byte t 100 z.2 A U H) ∧ vx_Zq "jdk/internal/util/Preconditions" "SIOOBE_FORMATTER" "Ljava/util/function/BiFunction;" A U H
theorem Gc.moved {A : Nat → Prop} {u U : State} {H : Heap} (hvm : u.vm.Alike U.vm) (h : Gc A u H) : Gc A U H :=
  ⟨fun z hz => (h.1 z hz).moved hvm, h.2.1.moved hvm, h.2.2.1.moved hvm, fun z hz => by obtain ⟨t, a, b⟩ := h.2.2.2.1 z hz; exact ⟨t, a.moved hvm, b.moved hvm⟩, h.2.2.2.2.moved hvm⟩
theorem Gc.kept {A : Nat → Prop} {U : State} {H H1 : Heap} (h : Gc A U H) (hq : ∀ a : Nat, a < H.size → ¬ A a → H1[a]? = H[a]?) : Gc A U H1 :=
  ⟨fun z hz => (h.1 z hz).kept hq, h.2.1.kept hq, h.2.2.1.kept hq, fun z hz => by obtain ⟨t, a, b⟩ := h.2.2.2.1 z hz; exact ⟨t, a.kept hq, b.kept hq⟩, h.2.2.2.2.kept hq⟩
theorem va_ZlT {C n d : String} {v : Value} {A : Nat → Prop} {U : State} {H : Heap} (h : va_Z C n d v A U H) {B : Nat → Prop} (hAB : ∀ q, q < H.size → B q → A q) : va_Z C n d v B U H := by
  obtain ⟨cf, kf, fi, f, a, cell, h1, h2, h3, h4, h5, h6, h7, h8⟩ := h
  exact ⟨cf, kf, fi, f, a, cell, h1, h2, h3, h4, h5, h6, h7, fun z => h8 (hAB a (Array.getElem?_eq_some_iff.mp h5).1 z)⟩
theorem va_TlT {ty : FieldType} {t N : Nat} {f : Nat → Value} {A : Nat → Prop} {U : State} {H : Heap} (h : va_T ty t N f A U H) {B : Nat → Prop} (hAB : ∀ q, q < H.size → B q → A q) : va_T ty t N f B U H := by
  obtain ⟨cell, h1, h2, h3, h4, h5, h6, h7⟩ := h
  exact ⟨cell, h1, h2, h3, h4, h5, h6, fun z => h7 (hAB t (Array.getElem?_eq_some_iff.mp h1).1 z)⟩
theorem vx_ZlT {C n d : String} {A : Nat → Prop} {U : State} {H : Heap} (h : vx_Zq C n d A U H) {B : Nat → Prop} (hAB : ∀ q, q < H.size → B q → A q) : vx_Zq C n d B U H := by
  refine ⟨?_, ?_⟩
  · rcases h.1 with h | ⟨t, h⟩
    · exact Or.inl (va_ZlT h hAB)
    · exact Or.inr ⟨t, va_ZlT h hAB⟩
  · obtain ⟨c, k, i, f, a, cell, h1, h2, h3, h4, h5, h6, h7, h8, h9, h10⟩ := h.2
    exact ⟨c, k, i, f, a, cell, h1, h2, h3, h4, h5, h6, h7, h8, h9, fun z => h10 (hAB _ (Array.getElem?_eq_some_iff.mp h5).1 z)⟩
theorem Gc.narrow {A B : Nat → Prop} {U : State} {H : Heap} (h : Gc A U H) (hAB : ∀ q, q < H.size → B q → A q) : Gc B U H :=
  ⟨fun z hz => va_ZlT (h.1 z hz) hAB, vx_ZlT h.2.1 hAB, vx_ZlT h.2.2.1 hAB, fun z hz => by obtain ⟨t, a, b⟩ := h.2.2.2.1 z hz; exact ⟨t, va_ZlT a hAB, va_TlT b hAB⟩, vx_ZlT h.2.2.2.2 hAB⟩
/-- which method of which class stands behind an interface's -/
def xP (n d : String) : MethodName := ⟨"VatBrackets$Part", n, d⟩
def fwL : List (String × MethodName × MethodName) := [(RX11, xP "first" "()I", yX11_first), (RX11, xP "last" "()I", yX11_last), (RX11, xP "cost" "([I)I", yX11_cost), (RX11, xP "writes" "(Ljava/lang/StringBuilder;)V", yX11_writes), (RX11, xP "size" "()I", yX9_size), (RX11, xP "isRow" "()Z", yX9_isRow), (RX10, xP "first" "()I", yX10_first), (RX10, xP "last" "()I", yX10_last), (RX10, xP "cost" "([I)I", yX10_cost), (RX10, xP "writes" "(Ljava/lang/StringBuilder;)V", yX10_writes), (RX10, xP "size" "()I", yX9_size), (RX10, xP "isRow" "()Z", yX10_isRow)]
theorem fwL_mh : ∀ z ∈ fwL, z.2.1.cls ≠ "java/lang/invoke/MethodHandle" ∧ z.2.1.cls ≠ "java/lang/invoke/VarHandle" := by decide +kernel
/-- which default method stands behind an interface's -/
def ldL : List (String × MethodName × MethodName) := [(RX11, xP "size" "()I", yX9_size), (RX11, xP "isRow" "()Z", yX9_isRow), (RX10, xP "size" "()I", yX9_size)]
theorem ld_moved {C : String} {x y : MethodName} {u U : State} (hvm : u.vm.Alike U.vm) (h : va_Nw (.landsInDefault C x y) u) : va_Nw (.landsInDefault C x y) U := by
  have h' : (Cond.landsInDefault C x y).before #[] (u.setVm U.vm) = true := by
    rw [Cond.landsInDefault_setVm (args := #[]) hvm (State.methodFound?_setVm hvm _ _ _)]; exact h
  unfold va_Nw
  simp only [Cond.before, Cond.holds, Cond.value] at h' ⊢
  exact h'
/-- the texts of the reader's switches, and where they stand -/
def zT : List (Nat × String × Nat) := [(61, "side", 100), (67, "set", 101), (69, "take", 102), (71, "cooper", 103), (73, "plan", 104)]
/-- a lambda's site, as the VM has linked it: what it makes are objects of the class cK -/
def LamT (x : MethodName) (pc index : Nat) (σ : Lambda.Shape) (cK : ClassId) (U : State) : Prop := ∃ (m : MethodId) (k : Class) (cf : ClassFile) (i0 p0 : Nat), U.methodNamed? x = some m ∧ U.vm.classes[m.cls]? = some k ∧ k.cf = some cf ∧ Lambda.shapeOf? cf index = some σ ∧ (k.callSites.find? fun y => y.1 == m.idx && y.2.1 == pc) = some (i0, p0, .makes cK) ∧ Lambda.isMade { classPath := fun _ => none } U.vm m.cls σ cK = true ∧ U.lambdaCallable σ cK = true
theorem LamT.moved {x : MethodName} {pc index : Nat} {σ : Lambda.Shape} {cK : ClassId} {s U : State} (hW : s.WarmedH U.vm) (h : LamT x pc index σ cK s) : LamT x pc index σ cK U := by
  obtain ⟨m, k, cf, i0, p0, hm, hk, hcf, hsh, hfind, hmade, hcall⟩ := h
  obtain ⟨k', hk', he⟩ := hW.alike.2.2 _ _ hk
  refine ⟨m, k', cf, i0, p0, ?_, hk', by rw [he]; exact hcf, hsh, by rw [he]; exact hfind, Lambda.isMade_warmer hW hmade, ?_⟩
  · have := State.methodNamed?_setVm (s := s) hW.alike x
    rw [hm] at this
    exact this
  · have hA := hW.alike
    simp only [State.lambdaCallable, hA.findClass, hA.assignable, hA.superclasses, hA.declaredIn] at hcall ⊢
    exact hcall
def lamAt (w : Cond) (cK : ClassId) (U : State) : Prop := match w with
  | .lambdaSite x pc index σ => LamT x pc index σ cK U
  | _ => True
theorem lamAt.moved {w : Cond} {cK : ClassId} {s U : State} (hW : s.WarmedH U.vm) (h : lamAt w cK s) : lamAt w cK U := by
  unfold lamAt at h ⊢
  split
  · exact LamT.moved hW h
  · trivial
def lamL : List (Cond × Nat) := [(siteWord_1_1, 110), (siteWord_1_2, 111), (siteWord_1_3, 112), (siteWord_1_4, 113), (siteWord_1_5, 114), (siteWord_1_6, 115), (siteWord_1_7, 116), (siteWord_1_8, 117)]
/-- thrown classes, none of them another's kind -/
def ncE : List String := ["VatBrackets$Refused", "VatBrackets$Fault", "java/lang/IllegalArgumentException", "java/lang/UnsupportedOperationException", "java/lang/IndexOutOfBoundsException", "java/util/NoSuchElementException", "java/lang/IllegalStateException", "java/lang/ArithmeticException"]
/-- what the tables say beside the lists of words -/
def Gt (dd : Nat → ClassId) (U : State) : Prop := (∀ C ∈ ["java/lang/Object", "VatBrackets$Plan", "java/lang/String"], va_AO C U) ∧ (∀ z ∈ fwL, va_Fw z.1 z.2.1 z.2.2 U) ∧ (∀ z ∈ zT, vk_R RX5 z.1 z.2.1 (dd z.2.2) U) ∧ (∀ z ∈ ldL, va_Nw (.landsInDefault z.1 z.2.1 z.2.2) U) ∧ (∀ z ∈ lamL, lamAt z.1 (dd z.2) U) ∧ ∀ a ∈ ncE, ∀ b ∈ ncE, a ≠ b → va_Nc a b U
theorem Gt.moved {dd : Nat → ClassId} {s U : State} (hW : s.WarmedH U.vm) (h : Gt dd s) : Gt dd U :=
  ⟨fun C hC => (h.1 C hC).moved hW.alike, fun z hz => (h.2.1 z hz).moved (fwL_mh z hz) hW.alike, fun z hz => (h.2.2.1 z hz).warm hW, fun z hz => ld_moved hW.alike (h.2.2.2.1 z hz), fun z hz => (h.2.2.2.2.1 z hz).moved hW, fun a ha b hb hn => (h.2.2.2.2.2 a ha b hb hn).moved hW.alike⟩
theorem Gt.same {dd : Nat → ClassId} {s U : State} (hv : s.vm = U.vm) (h : Gt dd s) : Gt dd U :=
  ⟨fun C hC => (h.1 C hC).moved (by rw [hv]; exact Vm.Alike.refl _), fun z hz => (h.2.1 z hz).moved (fwL_mh z hz) (by rw [hv]; exact Vm.Alike.refl _), fun z hz => (h.2.2.1 z hz).same hv.symm, fun z hz => ld_moved (by rw [hv]; exact Vm.Alike.refl _) (h.2.2.2.1 z hz), fun z hz => (h.2.2.2.2.1 z hz).moved (by rw [← hv]; exact State.WarmedH.refl s), fun a ha b hb hn => (h.2.2.2.2.2 a ha b hb hn).moved (by rw [hv]; exact Vm.Alike.refl _)⟩
def Gk (D : va_G) (dd : Nat → ClassId) (A : Nat → Prop) (U : State) : Prop := va_K D vwCl (tysG dd) U ∧ Gn U ∧ Gc A U U.heap ∧ Gt dd U
theorem Gk.blind {D : va_G} {dd : Nat → ClassId} {A : Nat → Prop} {U : State} (h : Gk D dd A U) (g : JFrame) (mk : MethodId) (a : Array Value) : Gk D dd A (U.calling g mk a) :=
  ⟨va_K.moved (u := U) (U := U.calling g mk a) (Vm.Alike.refl U.vm) h.1, Gn.same (s := U) rfl h.2.1, Gc.moved (u := U) (U := U.calling g mk a) (Vm.Alike.refl U.vm) h.2.2.1, Gt.same (s := U) rfl h.2.2.2⟩
theorem Gk.to {D : va_G} {dd : Nat → ClassId} {A A1 : Nat → Prop} {s U : State} {H : Heap} {locs : List Loc} (h : Gk D dd A s) (hW : s.WarmedH U.vm) (hU : U.heap = H) (hS : va_S A s.heap H locs) (hA : ∀ q, q < s.heap.size → A1 q → A q) : Gk D dd A1 U :=
  ⟨va_K.moved hW.alike h.1, h.2.1.moved hW, by
    rw [hU]
    refine ((((h.2.2.1.narrow (B := fun q => A q ∨ A1 q) (fun q hq z => z.elim id (hA q hq))).kept (H1 := H) (fun a h1 h2 => hS.2.1 a h1 (fun z => h2 (Or.inl z)))).narrow (B := A1) (fun q _ z => Or.inr z)).moved hW.alike), h.2.2.2.moved hW⟩
def VX (p : Program) (s : State) (m : MethodId) (args : Array Value) (meth : Method) (c : Code) (cc : ByteArray) (nL : Nat) (own : String) (D : va_G) (dd : Nat → ClassId) (A : Nat → Prop) : Prop :=
  p.tables.exec = Jvm.exec ∧ c.code = cc ∧ c.maxLocals = nL ∧ s.vm.findClass own = some m.cls ∧ (∀ w ∈ lw_all, w.before args s = true) ∧ Gk D dd A s ∧ (∀ q, s.heap.size ≤ q → A q) ∧ meth.locks = false
def V (p : Program) (l : Launch) (e : Env) (R : Room) (s : State) (m : MethodId) (args : Array Value) (below : List Frame) (meth : Method) (c : Code) (D : va_G) (A : Nat → Prop) (nL : Nat) (cells slots : Nat) (Q : State → Prop) (ws : va_W) (pc : Nat) (loc : List (Nat × Value)) (st : List Value) : Prop :=
  ∀ (H : Heap) (locs : List Loc) (ls : Array Slot), va_P D vwCl ws H → va_D A ws → va_S A s.heap H locs → lv_has ls nL loc → W p l e R s m args below meth c H locs cells slots Q (F0 m pc ls st)
section BASE
variable {p : Program} {l : Launch} {e : Env} {R : Room} {s : State} {m : MethodId} {args : Array Value} {below : List Frame} {meth : Method} {c : Code} {cc : ByteArray} {nL : Nat} {own : String} {D : va_G} {dd : Nat → ClassId} {A : Nat → Prop} {cells slots : Nat} {Q : State → Prop} {ws : va_W} {pc : Nat} {loc : List (Nat × Value)} {st : List Value}
theorem VX.hx (X : VX p s m args meth c cc nL own D dd A) : p.tables.exec = Jvm.exec := X.1
theorem VX.hb (X : VX p s m args meth c cc nL own D dd A) : c.code = cc := X.2.1
theorem VX.hml (X : VX p s m args meth c cc nL own D dd A) : c.maxLocals = nL := X.2.2.1
theorem VX.hown (X : VX p s m args meth c cc nL own D dd A) : s.vm.findClass own = some m.cls := X.2.2.2.1
theorem VX.hts (X : VX p s m args meth c cc nL own D dd A) : ∀ w ∈ lw_all, w.before args s = true := X.2.2.2.2.1
theorem VX.hG (X : VX p s m args meth c cc nL own D dd A) : Gk D dd A s := X.2.2.2.2.2.1
theorem VX.hK (X : VX p s m args meth c cc nL own D dd A) : va_K D vwCl (tysG dd) s := X.hG.1
theorem VX.hA (X : VX p s m args meth c cc nL own D dd A) : ∀ q, s.heap.size ≤ q → A q := X.2.2.2.2.2.2.1
theorem VX.hlk (X : VX p s m args meth c cc nL own D dd A) : meth.locks = false := X.2.2.2.2.2.2.2
theorem v_eq {ws' : va_W} {loc' : List (Nat × Value)} {st' : List Value} (h1 : ws = ws') (h2 : loc = loc') (h3 : st = st') (k : V p l e R s m args below meth c D A nL cells slots Q ws' pc loc' st') : V p l e R s m args below meth c D A nL cells slots Q ws pc loc st := by
  subst h1; subst h2; subst h3; exact k
theorem v_st {st' : List Value} (h3 : st = st') (k : V p l e R s m args below meth c D A nL cells slots Q ws pc loc st') : V p l e R s m args below meth c D A nL cells slots Q ws pc loc st := by
  subst h3; exact k
theorem v_top {x y : Int32} (h : x = y) (k : V p l e R s m args below meth c D A nL cells slots Q ws pc loc (.int y :: st)) : V p l e R s m args below meth c D A nL cells slots Q ws pc loc (.int x :: st) := by
  subst h; exact k
theorem v_top2 {z : Value} {x y : Int32} (h : x = y) (k : V p l e R s m args below meth c D A nL cells slots Q ws pc loc (z :: .int y :: st)) : V p l e R s m args below meth c D A nL cells slots Q ws pc loc (z :: .int x :: st) := by
  subst h; exact k
theorem v_sub {loc' : List (Nat × Value)} (ks : List Nat) (h : lv_pick loc ks = loc') (k : V p l e R s m args below meth c D A nL cells slots Q ws pc loc' st) : V p l e R s m args below meth c D A nL cells slots Q ws pc loc st :=
  fun H locs ls hP hD hS hl => k H locs ls hP hD hS (lv_sub hl ks h)
theorem v_widen {k n : Nat} (h1 : cells ≤ k) (h2 : slots ≤ n) (kk : V p l e R s m args below meth c D A nL k n Q ws pc loc st) : V p l e R s m args below meth c D A nL cells slots Q ws pc loc st :=
  fun H locs ls hP hD hS hl => W.widen h1 h2 (kk H locs ls hP hD hS hl)
theorem v_iconst {n : Int} {v : Int32} (X : VX p s m args meth c cc nL own D dd A) (d : decode cc pc = .ok (.iconst n, 1)) (hv : Int32.ofInt n = v) (k : V p l e R s m args below meth c D A nL cells slots Q ws (pc + 1) loc (.int v :: st)) : V p l e R s m args below meth c D A nL cells slots Q ws pc loc st :=
  fun H locs ls hP hD hS hl => lv_iconst X.hx X.hb d hv (k H locs ls hP hD hS hl)
theorem v_bipush {n : Int} {v : Int32} (X : VX p s m args meth c cc nL own D dd A) (d : decode cc pc = .ok (.bipush n, 2)) (hv : (Int8.ofInt n).toInt32 = v) (k : V p l e R s m args below meth c D A nL cells slots Q ws (pc + 2) loc (.int v :: st)) : V p l e R s m args below meth c D A nL cells slots Q ws pc loc st :=
  fun H locs ls hP hD hS hl => lv_bipush X.hx X.hb d hv (k H locs ls hP hD hS hl)
theorem v_sipush {n : Int} {v : Int32} (X : VX p s m args meth c cc nL own D dd A) (d : decode cc pc = .ok (.sipush n, 3)) (hv : (Int16.ofInt n).toInt32 = v) (k : V p l e R s m args below meth c D A nL cells slots Q ws (pc + 3) loc (.int v :: st)) : V p l e R s m args below meth c D A nL cells slots Q ws pc loc st :=
  fun H locs ls hP hD hS hl => lv_sipush X.hx X.hb d hv (k H locs ls hP hD hS hl)
theorem v_ldc {index : Nat} {v : Int32} (X : VX p s m args meth c cc nL own D dd A) (hq : Jvm.Cond.constant own index v ∈ lw_all) (d : decode cc pc = .ok (.ldc index, 2)) (k : V p l e R s m args below meth c D A nL cells slots Q ws (pc + 2) loc (.int v :: st)) : V p l e R s m args below meth c D A nL cells slots Q ws pc loc st :=
  fun H locs ls hP hD hS hl => lv_ldc X.hx X.hb X.hown (X.hts _ hq) d (k H locs ls hP hD hS hl)
theorem v_iload_n {f : Fin 4} {i : Nat} {x : Int32} (X : VX p s m args meth c cc nL own D dd A) (d : decode cc pc = .ok (.iload_n f, 1)) (hi : (f : Nat) = i) (q : Nat) (hq : loc[q]? = some (i, .int x)) (k : V p l e R s m args below meth c D A nL cells slots Q ws (pc + 1) loc (.int x :: st)) : V p l e R s m args below meth c D A nL cells slots Q ws pc loc st :=
  fun H locs ls hP hD hS hl => lv_iload_n X.hx X.hb d hi (lv_at hl q hq) (k H locs ls hP hD hS hl)
theorem v_iload {i : Nat} {x : Int32} (X : VX p s m args meth c cc nL own D dd A) (d : decode cc pc = .ok (.iload i, 2)) (q : Nat) (hq : loc[q]? = some (i, .int x)) (k : V p l e R s m args below meth c D A nL cells slots Q ws (pc + 2) loc (.int x :: st)) : V p l e R s m args below meth c D A nL cells slots Q ws pc loc st :=
  fun H locs ls hP hD hS hl => lv_iload X.hx X.hb d (lv_at hl q hq) (k H locs ls hP hD hS hl)
theorem v_aload_n {f : Fin 4} {i : Nat} {x : Nat} (X : VX p s m args meth c cc nL own D dd A) (d : decode cc pc = .ok (.aload_n f, 1)) (hi : (f : Nat) = i) (q : Nat) (hq : loc[q]? = some (i, .ref x)) (k : V p l e R s m args below meth c D A nL cells slots Q ws (pc + 1) loc (.ref x :: st)) : V p l e R s m args below meth c D A nL cells slots Q ws pc loc st :=
  fun H locs ls hP hD hS hl => lv_aload_n X.hx X.hb d hi (lv_at hl q hq) (k H locs ls hP hD hS hl)
theorem v_aload {i : Nat} {x : Nat} (X : VX p s m args meth c cc nL own D dd A) (d : decode cc pc = .ok (.aload i, 2)) (q : Nat) (hq : loc[q]? = some (i, .ref x)) (k : V p l e R s m args below meth c D A nL cells slots Q ws (pc + 2) loc (.ref x :: st)) : V p l e R s m args below meth c D A nL cells slots Q ws pc loc st :=
  fun H locs ls hP hD hS hl => lv_aload X.hx X.hb d (lv_at hl q hq) (k H locs ls hP hD hS hl)
theorem v_istore_n {f : Fin 4} {i : Nat} {x : Int32} {loc' : List (Nat × Value)} (X : VX p s m args meth c cc nL own D dd A) (d : decode cc pc = .ok (.istore_n f, 1)) (hi : (f : Nat) = i) (hn : i < nL) (h : (i, Value.int x) :: loc.filter (fun q => !(q.1 == i) && !(q.1 + 1 == i && q.2.category == 2)) = loc') (k : V p l e R s m args below meth c D A nL cells slots Q ws (pc + 1) loc' st) : V p l e R s m args below meth c D A nL cells slots Q ws pc loc (.int x :: st) :=
  fun H locs ls hP hD hS hl => lv_istore_n X.hx X.hb d hi hl hn h (fun ls' hl' => k H locs ls' hP hD hS hl')
theorem v_istore {i : Nat} {x : Int32} {loc' : List (Nat × Value)} (X : VX p s m args meth c cc nL own D dd A) (d : decode cc pc = .ok (.istore i, 2)) (hn : i < nL) (h : (i, Value.int x) :: loc.filter (fun q => !(q.1 == i) && !(q.1 + 1 == i && q.2.category == 2)) = loc') (k : V p l e R s m args below meth c D A nL cells slots Q ws (pc + 2) loc' st) : V p l e R s m args below meth c D A nL cells slots Q ws pc loc (.int x :: st) :=
  fun H locs ls hP hD hS hl => lv_istore X.hx X.hb d hl hn h (fun ls' hl' => k H locs ls' hP hD hS hl')
theorem v_astore_n {f : Fin 4} {i : Nat} {x : Nat} {loc' : List (Nat × Value)} (X : VX p s m args meth c cc nL own D dd A) (d : decode cc pc = .ok (.astore_n f, 1)) (hi : (f : Nat) = i) (hn : i < nL) (h : (i, Value.ref x) :: loc.filter (fun q => !(q.1 == i) && !(q.1 + 1 == i && q.2.category == 2)) = loc') (k : V p l e R s m args below meth c D A nL cells slots Q ws (pc + 1) loc' st) : V p l e R s m args below meth c D A nL cells slots Q ws pc loc (.ref x :: st) :=
  fun H locs ls hP hD hS hl => lv_astore_n X.hx X.hb d hi hl hn h (fun ls' hl' => k H locs ls' hP hD hS hl')
theorem v_astore {i : Nat} {x : Nat} {loc' : List (Nat × Value)} (X : VX p s m args meth c cc nL own D dd A) (d : decode cc pc = .ok (.astore i, 2)) (hn : i < nL) (h : (i, Value.ref x) :: loc.filter (fun q => !(q.1 == i) && !(q.1 + 1 == i && q.2.category == 2)) = loc') (k : V p l e R s m args below meth c D A nL cells slots Q ws (pc + 2) loc' st) : V p l e R s m args below meth c D A nL cells slots Q ws pc loc (.ref x :: st) :=
  fun H locs ls hP hD hS hl => lv_astore X.hx X.hb d hl hn h (fun ls' hl' => k H locs ls' hP hD hS hl')
theorem v_iinc {i : Nat} {n : Int} {x v : Int32} {loc' : List (Nat × Value)} (X : VX p s m args meth c cc nL own D dd A) (d : decode cc pc = .ok (.iinc i n, 3)) (q : Nat) (hq : loc[q]? = some (i, .int x)) (hv : x + Int32.ofInt n = v) (hn : i < nL) (h : (i, Value.int v) :: loc.filter (fun q => !(q.1 == i) && !(q.1 + 1 == i && q.2.category == 2)) = loc') (k : V p l e R s m args below meth c D A nL cells slots Q ws (pc + 3) loc' st) : V p l e R s m args below meth c D A nL cells slots Q ws pc loc st :=
  fun H locs ls hP hD hS hl => lv_iinc X.hx X.hb d hl hq hv hn h (fun ls' hl' => k H locs ls' hP hD hS hl')
theorem v_iadd {x y : Int32} (X : VX p s m args meth c cc nL own D dd A) (d : decode cc pc = .ok (.iadd, 1)) (k : V p l e R s m args below meth c D A nL cells slots Q ws (pc + 1) loc (.int (x + y) :: st)) : V p l e R s m args below meth c D A nL cells slots Q ws pc loc (.int y :: .int x :: st) :=
  fun H locs ls hP hD hS hl => lv_iadd X.hx X.hb d (k H locs ls hP hD hS hl)
theorem v_isub {x y : Int32} (X : VX p s m args meth c cc nL own D dd A) (d : decode cc pc = .ok (.isub, 1)) (k : V p l e R s m args below meth c D A nL cells slots Q ws (pc + 1) loc (.int (x - y) :: st)) : V p l e R s m args below meth c D A nL cells slots Q ws pc loc (.int y :: .int x :: st) :=
  fun H locs ls hP hD hS hl => lv_isub X.hx X.hb d (k H locs ls hP hD hS hl)
theorem v_imul {x y : Int32} (X : VX p s m args meth c cc nL own D dd A) (d : decode cc pc = .ok (.imul, 1)) (k : V p l e R s m args below meth c D A nL cells slots Q ws (pc + 1) loc (.int (x * y) :: st)) : V p l e R s m args below meth c D A nL cells slots Q ws pc loc (.int y :: .int x :: st) :=
  fun H locs ls hP hD hS hl => lv_imul X.hx X.hb d (k H locs ls hP hD hS hl)
theorem v_iand {x y : Int32} (X : VX p s m args meth c cc nL own D dd A) (d : decode cc pc = .ok (.iand, 1)) (k : V p l e R s m args below meth c D A nL cells slots Q ws (pc + 1) loc (.int (x &&& y) :: st)) : V p l e R s m args below meth c D A nL cells slots Q ws pc loc (.int y :: .int x :: st) :=
  fun H locs ls hP hD hS hl => lv_iand X.hx X.hb d (k H locs ls hP hD hS hl)
theorem v_idiv {x y : Int32} (X : VX p s m args meth c cc nL own D dd A) (d : decode cc pc = .ok (.idiv, 1)) (hne : ¬ y = 0) (k : V p l e R s m args below meth c D A nL cells slots Q ws (pc + 1) loc (.int (x / y) :: st)) : V p l e R s m args below meth c D A nL cells slots Q ws pc loc (.int y :: .int x :: st) :=
  fun H locs ls hP hD hS hl => lv_idiv X.hx X.hb d hne (k H locs ls hP hD hS hl)
theorem v_irem {x y : Int32} (X : VX p s m args meth c cc nL own D dd A) (d : decode cc pc = .ok (.irem, 1)) (hne : ¬ y = 0) (k : V p l e R s m args below meth c D A nL cells slots Q ws (pc + 1) loc (.int (x - x / y * y) :: st)) : V p l e R s m args below meth c D A nL cells slots Q ws pc loc (.int y :: .int x :: st) :=
  fun H locs ls hP hD hS hl => lv_irem X.hx X.hb d hne (k H locs ls hP hD hS hl)
theorem v_i2c {x v : Int32} (X : VX p s m args meth c cc nL own D dd A) (d : decode cc pc = .ok (.i2c, 1)) (hv : (x.toUInt32 % 65536).toInt32 = v) (k : V p l e R s m args below meth c D A nL cells slots Q ws (pc + 1) loc (.int v :: st)) : V p l e R s m args below meth c D A nL cells slots Q ws pc loc (.int x :: st) :=
  fun H locs ls hP hD hS hl => lv_i2c X.hx X.hb d hv (k H locs ls hP hD hS hl)
/-! arithmetic of numbers known as naturals -/
theorem v_iaddN {a b : Nat} (X : VX p s m args meth c cc nL own D dd A) (d : decode cc pc = .ok (.iadd, 1)) (k : V p l e R s m args below meth c D A nL cells slots Q ws (pc + 1) loc (.int (nI (a + b)) :: st)) : V p l e R s m args below meth c D A nL cells slots Q ws pc loc (.int (nI b) :: .int (nI a) :: st) :=
  v_iadd X d (v_top (nI_add a b) k)
theorem v_isubN {a b : Nat} (X : VX p s m args meth c cc nL own D dd A) (h : b ≤ a) (d : decode cc pc = .ok (.isub, 1)) (k : V p l e R s m args below meth c D A nL cells slots Q ws (pc + 1) loc (.int (nI (a - b)) :: st)) : V p l e R s m args below meth c D A nL cells slots Q ws pc loc (.int (nI b) :: .int (nI a) :: st) :=
  v_isub X d (v_top (pk_sub h) k)
theorem v_imulN {a b : Nat} (X : VX p s m args meth c cc nL own D dd A) (d : decode cc pc = .ok (.imul, 1)) (k : V p l e R s m args below meth c D A nL cells slots Q ws (pc + 1) loc (.int (nI (a * b)) :: st)) : V p l e R s m args below meth c D A nL cells slots Q ws pc loc (.int (nI b) :: .int (nI a) :: st) :=
  v_imul X d (v_top (pk_mul a b) k)
theorem v_idivN {a b : Nat} (X : VX p s m args meth c cc nL own D dd A) (ha : a < 2 ^ 31) (h0 : 0 < b) (hb : b < 2 ^ 31) (d : decode cc pc = .ok (.idiv, 1)) (k : V p l e R s m args below meth c D A nL cells slots Q ws (pc + 1) loc (.int (nI (a / b)) :: st)) : V p l e R s m args below meth c D A nL cells slots Q ws pc loc (.int (nI b) :: .int (nI a) :: st) :=
  v_idiv X d (nI_ne0 h0 hb) (v_top (pk_div ha h0 hb) k)
theorem v_iremN {a b : Nat} (X : VX p s m args meth c cc nL own D dd A) (ha : a < 2 ^ 31) (h0 : 0 < b) (hb : b < 2 ^ 31) (d : decode cc pc = .ok (.irem, 1)) (k : V p l e R s m args below meth c D A nL cells slots Q ws (pc + 1) loc (.int (nI (a % b)) :: st)) : V p l e R s m args below meth c D A nL cells slots Q ws pc loc (.int (nI b) :: .int (nI a) :: st) :=
  v_irem X d (nI_ne0 h0 hb) (v_top (pk_rem ha h0 hb) k)
theorem v_dup {va : Value} (X : VX p s m args meth c cc nL own D dd A) (d : decode cc pc = .ok (.dup, 1)) (hva : va.category = 1) (k : V p l e R s m args below meth c D A nL cells slots Q ws (pc + 1) loc (va :: va :: st)) : V p l e R s m args below meth c D A nL cells slots Q ws pc loc (va :: st) :=
  fun H locs ls hP hD hS hl => lv_dup X.hx X.hb d hva (k H locs ls hP hD hS hl)
theorem v_pop {va : Value} (X : VX p s m args meth c cc nL own D dd A) (d : decode cc pc = .ok (.pop, 1)) (hva : va.category = 1) (k : V p l e R s m args below meth c D A nL cells slots Q ws (pc + 1) loc st) : V p l e R s m args below meth c D A nL cells slots Q ws pc loc (va :: st) :=
  fun H locs ls hP hD hS hl => lv_pop X.hx X.hb d hva (k H locs ls hP hD hS hl)
theorem v_goto {off : Int} (X : VX p s m args meth c cc nL own D dd A) (tgt : Nat) (d : decode cc pc = .ok (.goto off, 3)) (ht : (pc : Int) + off = (tgt : Int)) (k : V p l e R s m args below meth c D A nL cells slots Q ws tgt loc st) : V p l e R s m args below meth c D A nL cells slots Q ws pc loc st :=
  fun H locs ls hP hD hS hl => lv_goto X.hx X.hb d ht (k H locs ls hP hD hS hl)
theorem v_if_eq {x : Int32} {off : Int} (X : VX p s m args meth c cc nL own D dd A) (tgt : Nat) (d : decode cc pc = .ok (.ifCond .eq off, 3)) (ht : (pc : Int) + off = (tgt : Int)) (kt : x = 0 → V p l e R s m args below meth c D A nL cells slots Q ws tgt loc st) (kf : ¬ x = 0 → V p l e R s m args below meth c D A nL cells slots Q ws (pc + 3) loc st) : V p l e R s m args below meth c D A nL cells slots Q ws pc loc (.int x :: st) :=
  fun H locs ls hP hD hS hl => lv_if_eq X.hx X.hb d ht (fun h => kt h H locs ls hP hD hS hl) (fun h => kf h H locs ls hP hD hS hl)
theorem v_if_ne {x : Int32} {off : Int} (X : VX p s m args meth c cc nL own D dd A) (tgt : Nat) (d : decode cc pc = .ok (.ifCond .ne off, 3)) (ht : (pc : Int) + off = (tgt : Int)) (kt : ¬ x = 0 → V p l e R s m args below meth c D A nL cells slots Q ws tgt loc st) (kf : x = 0 → V p l e R s m args below meth c D A nL cells slots Q ws (pc + 3) loc st) : V p l e R s m args below meth c D A nL cells slots Q ws pc loc (.int x :: st) :=
  fun H locs ls hP hD hS hl => lv_if_ne X.hx X.hb d ht (fun h => kt h H locs ls hP hD hS hl) (fun h => kf h H locs ls hP hD hS hl)
theorem v_if_lt {x : Int32} {off : Int} (X : VX p s m args meth c cc nL own D dd A) (tgt : Nat) (d : decode cc pc = .ok (.ifCond .lt off, 3)) (ht : (pc : Int) + off = (tgt : Int)) (kt : x < 0 → V p l e R s m args below meth c D A nL cells slots Q ws tgt loc st) (kf : ¬ x < 0 → V p l e R s m args below meth c D A nL cells slots Q ws (pc + 3) loc st) : V p l e R s m args below meth c D A nL cells slots Q ws pc loc (.int x :: st) :=
  fun H locs ls hP hD hS hl => lv_if_lt X.hx X.hb d ht (fun h => kt h H locs ls hP hD hS hl) (fun h => kf h H locs ls hP hD hS hl)
theorem v_if_ge {x : Int32} {off : Int} (X : VX p s m args meth c cc nL own D dd A) (tgt : Nat) (d : decode cc pc = .ok (.ifCond .ge off, 3)) (ht : (pc : Int) + off = (tgt : Int)) (kt : 0 ≤ x → V p l e R s m args below meth c D A nL cells slots Q ws tgt loc st) (kf : ¬ 0 ≤ x → V p l e R s m args below meth c D A nL cells slots Q ws (pc + 3) loc st) : V p l e R s m args below meth c D A nL cells slots Q ws pc loc (.int x :: st) :=
  fun H locs ls hP hD hS hl => lv_if_ge X.hx X.hb d ht (fun h => kt h H locs ls hP hD hS hl) (fun h => kf h H locs ls hP hD hS hl)
theorem v_if_gt {x : Int32} {off : Int} (X : VX p s m args meth c cc nL own D dd A) (tgt : Nat) (d : decode cc pc = .ok (.ifCond .gt off, 3)) (ht : (pc : Int) + off = (tgt : Int)) (kt : 0 < x → V p l e R s m args below meth c D A nL cells slots Q ws tgt loc st) (kf : ¬ 0 < x → V p l e R s m args below meth c D A nL cells slots Q ws (pc + 3) loc st) : V p l e R s m args below meth c D A nL cells slots Q ws pc loc (.int x :: st) :=
  fun H locs ls hP hD hS hl => lv_if_gt X.hx X.hb d ht (fun h => kt h H locs ls hP hD hS hl) (fun h => kf h H locs ls hP hD hS hl)
theorem v_if_le {x : Int32} {off : Int} (X : VX p s m args meth c cc nL own D dd A) (tgt : Nat) (d : decode cc pc = .ok (.ifCond .le off, 3)) (ht : (pc : Int) + off = (tgt : Int)) (kt : x ≤ 0 → V p l e R s m args below meth c D A nL cells slots Q ws tgt loc st) (kf : ¬ x ≤ 0 → V p l e R s m args below meth c D A nL cells slots Q ws (pc + 3) loc st) : V p l e R s m args below meth c D A nL cells slots Q ws pc loc (.int x :: st) :=
  fun H locs ls hP hD hS hl => lv_if_le X.hx X.hb d ht (fun h => kt h H locs ls hP hD hS hl) (fun h => kf h H locs ls hP hD hS hl)
theorem v_ic_eq {x y : Int32} {off : Int} (X : VX p s m args meth c cc nL own D dd A) (tgt : Nat) (d : decode cc pc = .ok (.if_icmp .eq off, 3)) (ht : (pc : Int) + off = (tgt : Int)) (kt : x = y → V p l e R s m args below meth c D A nL cells slots Q ws tgt loc st) (kf : ¬ x = y → V p l e R s m args below meth c D A nL cells slots Q ws (pc + 3) loc st) : V p l e R s m args below meth c D A nL cells slots Q ws pc loc (.int y :: .int x :: st) :=
  fun H locs ls hP hD hS hl => lv_icmp_eq X.hx X.hb d ht (fun h => kt h H locs ls hP hD hS hl) (fun h => kf h H locs ls hP hD hS hl)
theorem v_ic_ne {x y : Int32} {off : Int} (X : VX p s m args meth c cc nL own D dd A) (tgt : Nat) (d : decode cc pc = .ok (.if_icmp .ne off, 3)) (ht : (pc : Int) + off = (tgt : Int)) (kt : ¬ x = y → V p l e R s m args below meth c D A nL cells slots Q ws tgt loc st) (kf : x = y → V p l e R s m args below meth c D A nL cells slots Q ws (pc + 3) loc st) : V p l e R s m args below meth c D A nL cells slots Q ws pc loc (.int y :: .int x :: st) :=
  fun H locs ls hP hD hS hl => lv_icmp_ne X.hx X.hb d ht (fun h => kt h H locs ls hP hD hS hl) (fun h => kf h H locs ls hP hD hS hl)
theorem v_ic_lt {x y : Int32} {off : Int} (X : VX p s m args meth c cc nL own D dd A) (tgt : Nat) (d : decode cc pc = .ok (.if_icmp .lt off, 3)) (ht : (pc : Int) + off = (tgt : Int)) (kt : x < y → V p l e R s m args below meth c D A nL cells slots Q ws tgt loc st) (kf : ¬ x < y → V p l e R s m args below meth c D A nL cells slots Q ws (pc + 3) loc st) : V p l e R s m args below meth c D A nL cells slots Q ws pc loc (.int y :: .int x :: st) :=
  fun H locs ls hP hD hS hl => lv_icmp_lt X.hx X.hb d ht (fun h => kt h H locs ls hP hD hS hl) (fun h => kf h H locs ls hP hD hS hl)
theorem v_ic_ge {x y : Int32} {off : Int} (X : VX p s m args meth c cc nL own D dd A) (tgt : Nat) (d : decode cc pc = .ok (.if_icmp .ge off, 3)) (ht : (pc : Int) + off = (tgt : Int)) (kt : y ≤ x → V p l e R s m args below meth c D A nL cells slots Q ws tgt loc st) (kf : ¬ y ≤ x → V p l e R s m args below meth c D A nL cells slots Q ws (pc + 3) loc st) : V p l e R s m args below meth c D A nL cells slots Q ws pc loc (.int y :: .int x :: st) :=
  fun H locs ls hP hD hS hl => lv_icmp_ge X.hx X.hb d ht (fun h => kt h H locs ls hP hD hS hl) (fun h => kf h H locs ls hP hD hS hl)
theorem v_ic_gt {x y : Int32} {off : Int} (X : VX p s m args meth c cc nL own D dd A) (tgt : Nat) (d : decode cc pc = .ok (.if_icmp .gt off, 3)) (ht : (pc : Int) + off = (tgt : Int)) (kt : y < x → V p l e R s m args below meth c D A nL cells slots Q ws tgt loc st) (kf : ¬ y < x → V p l e R s m args below meth c D A nL cells slots Q ws (pc + 3) loc st) : V p l e R s m args below meth c D A nL cells slots Q ws pc loc (.int y :: .int x :: st) :=
  fun H locs ls hP hD hS hl => lv_icmp_gt X.hx X.hb d ht (fun h => kt h H locs ls hP hD hS hl) (fun h => kf h H locs ls hP hD hS hl)
theorem v_ic_le {x y : Int32} {off : Int} (X : VX p s m args meth c cc nL own D dd A) (tgt : Nat) (d : decode cc pc = .ok (.if_icmp .le off, 3)) (ht : (pc : Int) + off = (tgt : Int)) (kt : x ≤ y → V p l e R s m args below meth c D A nL cells slots Q ws tgt loc st) (kf : ¬ x ≤ y → V p l e R s m args below meth c D A nL cells slots Q ws (pc + 3) loc st) : V p l e R s m args below meth c D A nL cells slots Q ws pc loc (.int y :: .int x :: st) :=
  fun H locs ls hP hD hS hl => lv_icmp_le X.hx X.hb d ht (fun h => kt h H locs ls hP hD hS hl) (fun h => kf h H locs ls hP hD hS hl)
theorem v_ic_eqN {a b : Nat} {off : Int} (X : VX p s m args meth c cc nL own D dd A) (ha : a < 2 ^ 31) (hb : b < 2 ^ 31) (tgt : Nat) (d : decode cc pc = .ok (.if_icmp .eq off, 3)) (ht : (pc : Int) + off = (tgt : Int)) (kt : a = b → V p l e R s m args below meth c D A nL cells slots Q ws tgt loc st) (kf : ¬ a = b → V p l e R s m args below meth c D A nL cells slots Q ws (pc + 3) loc st) : V p l e R s m args below meth c D A nL cells slots Q ws pc loc (.int (nI b) :: .int (nI a) :: st) :=
  v_ic_eq X tgt d ht (fun h => kt ((nI_eq ha hb).mp h)) (fun h => kf (fun z => h ((nI_eq ha hb).mpr z)))
theorem v_ic_neN {a b : Nat} {off : Int} (X : VX p s m args meth c cc nL own D dd A) (ha : a < 2 ^ 31) (hb : b < 2 ^ 31) (tgt : Nat) (d : decode cc pc = .ok (.if_icmp .ne off, 3)) (ht : (pc : Int) + off = (tgt : Int)) (kt : ¬ a = b → V p l e R s m args below meth c D A nL cells slots Q ws tgt loc st) (kf : a = b → V p l e R s m args below meth c D A nL cells slots Q ws (pc + 3) loc st) : V p l e R s m args below meth c D A nL cells slots Q ws pc loc (.int (nI b) :: .int (nI a) :: st) :=
  v_ic_ne X tgt d ht (fun h => kt (fun z => h ((nI_eq ha hb).mpr z))) (fun h => kf ((nI_eq ha hb).mp h))
theorem v_ic_ltN {a b : Nat} {off : Int} (X : VX p s m args meth c cc nL own D dd A) (ha : a < 2 ^ 31) (hb : b < 2 ^ 31) (tgt : Nat) (d : decode cc pc = .ok (.if_icmp .lt off, 3)) (ht : (pc : Int) + off = (tgt : Int)) (kt : a < b → V p l e R s m args below meth c D A nL cells slots Q ws tgt loc st) (kf : b ≤ a → V p l e R s m args below meth c D A nL cells slots Q ws (pc + 3) loc st) : V p l e R s m args below meth c D A nL cells slots Q ws pc loc (.int (nI b) :: .int (nI a) :: st) :=
  v_ic_lt X tgt d ht (fun h => kt ((nI_ltI ha hb).mp h)) (fun h => kf (by have := mt (nI_ltI ha hb).mpr h; omega))
theorem v_ic_geN {a b : Nat} {off : Int} (X : VX p s m args meth c cc nL own D dd A) (ha : a < 2 ^ 31) (hb : b < 2 ^ 31) (tgt : Nat) (d : decode cc pc = .ok (.if_icmp .ge off, 3)) (ht : (pc : Int) + off = (tgt : Int)) (kt : b ≤ a → V p l e R s m args below meth c D A nL cells slots Q ws tgt loc st) (kf : a < b → V p l e R s m args below meth c D A nL cells slots Q ws (pc + 3) loc st) : V p l e R s m args below meth c D A nL cells slots Q ws pc loc (.int (nI b) :: .int (nI a) :: st) :=
  v_ic_ge X tgt d ht (fun h => kt ((nI_leI hb ha).mp h)) (fun h => kf (by have := mt (nI_leI hb ha).mpr h; omega))
theorem v_ic_gtN {a b : Nat} {off : Int} (X : VX p s m args meth c cc nL own D dd A) (ha : a < 2 ^ 31) (hb : b < 2 ^ 31) (tgt : Nat) (d : decode cc pc = .ok (.if_icmp .gt off, 3)) (ht : (pc : Int) + off = (tgt : Int)) (kt : b < a → V p l e R s m args below meth c D A nL cells slots Q ws tgt loc st) (kf : a ≤ b → V p l e R s m args below meth c D A nL cells slots Q ws (pc + 3) loc st) : V p l e R s m args below meth c D A nL cells slots Q ws pc loc (.int (nI b) :: .int (nI a) :: st) :=
  v_ic_gt X tgt d ht (fun h => kt ((nI_ltI hb ha).mp h)) (fun h => kf (by have := mt (nI_ltI hb ha).mpr h; omega))
theorem v_ic_leN {a b : Nat} {off : Int} (X : VX p s m args meth c cc nL own D dd A) (ha : a < 2 ^ 31) (hb : b < 2 ^ 31) (tgt : Nat) (d : decode cc pc = .ok (.if_icmp .le off, 3)) (ht : (pc : Int) + off = (tgt : Int)) (kt : a ≤ b → V p l e R s m args below meth c D A nL cells slots Q ws tgt loc st) (kf : b < a → V p l e R s m args below meth c D A nL cells slots Q ws (pc + 3) loc st) : V p l e R s m args below meth c D A nL cells slots Q ws pc loc (.int (nI b) :: .int (nI a) :: st) :=
  v_ic_le X tgt d ht (fun h => kt ((nI_leI ha hb).mp h)) (fun h => kf (by have := mt (nI_leI ha hb).mpr h; omega))
theorem v_if_eqN {a : Nat} {off : Int} (X : VX p s m args meth c cc nL own D dd A) (ha : a < 2 ^ 31) (tgt : Nat) (d : decode cc pc = .ok (.ifCond .eq off, 3)) (ht : (pc : Int) + off = (tgt : Int)) (kt : a = 0 → V p l e R s m args below meth c D A nL cells slots Q ws tgt loc st) (kf : ¬ a = 0 → V p l e R s m args below meth c D A nL cells slots Q ws (pc + 3) loc st) : V p l e R s m args below meth c D A nL cells slots Q ws pc loc (.int (nI a) :: st) :=
  v_if_eq X tgt d ht (fun h => kt (by have := (nI_eq ha (b := 0) (by decide)).mp (h.trans nI_0.symm); exact this)) (fun h => kf (fun z => h (by rw [z]; exact nI_0)))
theorem v_if_neN {a : Nat} {off : Int} (X : VX p s m args meth c cc nL own D dd A) (ha : a < 2 ^ 31) (tgt : Nat) (d : decode cc pc = .ok (.ifCond .ne off, 3)) (ht : (pc : Int) + off = (tgt : Int)) (kt : ¬ a = 0 → V p l e R s m args below meth c D A nL cells slots Q ws tgt loc st) (kf : a = 0 → V p l e R s m args below meth c D A nL cells slots Q ws (pc + 3) loc st) : V p l e R s m args below meth c D A nL cells slots Q ws pc loc (.int (nI a) :: st) :=
  v_if_ne X tgt d ht (fun h => kt (fun z => h (by rw [z]; exact nI_0))) (fun h => kf (by have := (nI_eq ha (b := 0) (by decide)).mp (h.trans nI_0.symm); exact this))
theorem v_if_leN {a : Nat} {off : Int} (X : VX p s m args meth c cc nL own D dd A) (ha : a < 2 ^ 31) (tgt : Nat) (d : decode cc pc = .ok (.ifCond .le off, 3)) (ht : (pc : Int) + off = (tgt : Int)) (kt : a = 0 → V p l e R s m args below meth c D A nL cells slots Q ws tgt loc st) (kf : ¬ a = 0 → V p l e R s m args below meth c D A nL cells slots Q ws (pc + 3) loc st) : V p l e R s m args below meth c D A nL cells slots Q ws pc loc (.int (nI a) :: st) :=
  v_if_le X tgt d ht (fun h => kt (by have := (nI_leI ha (b := 0) (by decide)).mp (by rw [nI_0]; exact h); omega)) (fun h => kf (fun z => h (by rw [z, nI_0]; decide)))
theorem v_if_gtN {a : Nat} {off : Int} (X : VX p s m args meth c cc nL own D dd A) (ha : a < 2 ^ 31) (tgt : Nat) (d : decode cc pc = .ok (.ifCond .gt off, 3)) (ht : (pc : Int) + off = (tgt : Int)) (kt : ¬ a = 0 → V p l e R s m args below meth c D A nL cells slots Q ws tgt loc st) (kf : a = 0 → V p l e R s m args below meth c D A nL cells slots Q ws (pc + 3) loc st) : V p l e R s m args below meth c D A nL cells slots Q ws pc loc (.int (nI a) :: st) :=
  v_if_gt X tgt d ht (fun h => kt (by have := (nI_ltI (a := 0) (by decide) ha).mp (by rw [nI_0]; exact h); omega)) (fun h => kf (by have := mt (nI_ltI (a := 0) (by decide) ha).mpr (by rw [nI_0]; exact h); omega))
/-- a truth value as an int -/
def bI (b : Prop) [Decidable b] : Int32 := if b then 1 else 0
theorem bI_t {b : Prop} [Decidable b] (h : b) : bI b = 1 := if_pos h
theorem bI_f {b : Prop} [Decidable b] (h : ¬ b) : bI b = 0 := if_neg h
theorem bI_0 {b : Prop} [Decidable b] (h : bI b = 0) : ¬ b := fun z => by rw [bI_t z] at h; exact absurd h (by decide)
theorem bI_1 {b : Prop} [Decidable b] (h : ¬ bI b = 0) : b := Classical.byContradiction fun z => h (bI_f z)
theorem bI_c {a b : Prop} [Decidable a] [Decidable b] (h : a ↔ b) : bI a = bI b := by by_cases z : a <;> simp [bI, z, ← h]
theorem v_if_eqB {b : Prop} [Decidable b] {off : Int} (X : VX p s m args meth c cc nL own D dd A) (tgt : Nat) (d : decode cc pc = .ok (.ifCond .eq off, 3)) (ht : (pc : Int) + off = (tgt : Int)) (kt : ¬ b → V p l e R s m args below meth c D A nL cells slots Q ws tgt loc st) (kf : b → V p l e R s m args below meth c D A nL cells slots Q ws (pc + 3) loc st) : V p l e R s m args below meth c D A nL cells slots Q ws pc loc (.int (bI b) :: st) :=
  v_if_eq X tgt d ht (fun h => kt (bI_0 h)) (fun h => kf (bI_1 h))
theorem v_if_neB {b : Prop} [Decidable b] {off : Int} (X : VX p s m args meth c cc nL own D dd A) (tgt : Nat) (d : decode cc pc = .ok (.ifCond .ne off, 3)) (ht : (pc : Int) + off = (tgt : Int)) (kt : b → V p l e R s m args below meth c D A nL cells slots Q ws tgt loc st) (kf : ¬ b → V p l e R s m args below meth c D A nL cells slots Q ws (pc + 3) loc st) : V p l e R s m args below meth c D A nL cells slots Q ws pc loc (.int (bI b) :: st) :=
  v_if_ne X tgt d ht (fun h => kt (bI_1 h)) (fun h => kf (bI_0 h))
theorem v_dup2 {va vb : Value} (X : VX p s m args meth c cc nL own D dd A) (d : decode cc pc = .ok (.dup2, 1)) (hva : va.category = 1) (hvb : vb.category = 1) (k : V p l e R s m args below meth c D A nL cells slots Q ws (pc + 1) loc (va :: vb :: va :: vb :: st)) : V p l e R s m args below meth c D A nL cells slots Q ws pc loc (va :: vb :: st) :=
  fun H locs ls hP hD hS hl => lv_dup2_11 X.hx X.hb d hva hvb (k H locs ls hP hD hS hl)
/-! objects and arrays, by their places in the world -/
theorem v_get {ref C : String} {T : u_T} {N ci index : Nat} {a : Nat} {fs : List Value} {v : Value} (X : VX p s m args meth c cc nL own D dd A) (hin : ∀ w ∈ u_ws C T N, w ∈ lw_all) (q0 : Nat) (he : ws[q0]? = some (a, .inr (ci, fs))) (hc : vwCl[ci]? = some (C, T, N)) (k : Nat) (hk : k < N) (hlink : Cond.fieldLink own index ref (T k).2.1 (T k).2.2.1 ∈ lw_all) (hsame : ∀ x, s.fieldFound? (T k).1 (T k).2.1 (T k).2.2.1 = some x → s.fieldFound? ref (T k).2.1 (T k).2.2.1 = some x) (hv : fs[k]? = some v) (d : decode cc pc = .ok (.getfield index, 3)) (kk : V p l e R s m args below meth c D A nL cells slots Q ws (pc + 3) loc (v :: st)) : V p l e R s m args below meth c D A nL cells slots Q ws pc loc (.ref a :: st) :=
  fun H locs ls hP hD hS hl => va_get X.hx X.hb X.hts hin X.hown X.hK hP q0 he hc k hk (X.hts _ hlink) hsame hv d (kk H locs ls hP hD hS hl)
theorem v_put {ref C : String} {T : u_T} {N ci index : Nat} {a : Nat} {fs : List Value} {v : Value} {ws' : va_W} (X : VX p s m args meth c cc nL own D dd A) (hin : ∀ w ∈ u_ws C T N, w ∈ lw_all) (ty0 : Nat → FieldType) (hty : ∀ k, k < N → parseFieldDescriptor (T k).2.2.1 = some (ty0 k)) (hnm : ∀ a, a < N → ∀ b, b < N → a ≠ b → (T a).2.1 ≠ (T b).2.1) (q0 : Nat) (he : ws[q0]? = some (a, .inr (ci, fs))) (hc : vwCl[ci]? = some (C, T, N)) (k : Nat) (hk : k < N) (hlink : Cond.fieldLink own index ref (T k).2.1 (T k).2.2.1 ∈ lw_all) (hsame : ∀ x, s.fieldFound? (T k).1 (T k).2.1 (T k).2.2.1 = some x → s.fieldFound? ref (T k).2.1 (T k).2.2.1 = some x) (hfin : (T k).2.2.2 = false) (hn : narrow (ty0 k) v = v) (hfit : fits (ty0 k) v = true) (hl : k < fs.length) (d : decode cc pc = .ok (.putfield index, 3)) (hw : ws.set q0 (a, .inr (ci, fs.set k v)) = ws') (kk : V p l e R s m args below meth c D A nL cells slots Q ws' (pc + 3) loc st) : V p l e R s m args below meth c D A nL cells slots Q ws pc loc (v :: .ref a :: st) := by
  subst hw
  exact fun H locs ls hP hD hS hl2 => va_put X.hx X.hb X.hts hin ty0 hty hnm X.hown X.hK hP hD hS q0 he hc k hk (X.hts _ hlink) hsame hfin (hty k hk) hn hfit hl d (fun H1 locs1 hP hD hS => kk H1 locs1 ls hP hD hS hl2)
theorem v_putF {ref C : String} {T : u_T} {N ci index : Nat} {a : Nat} {fs : List Value} {v : Value} {ws' : va_W} (X : VX p s m args meth c cc nL own D dd A) (hin : ∀ w ∈ u_ws C T N, w ∈ lw_all) (ty0 : Nat → FieldType) (hty : ∀ k, k < N → parseFieldDescriptor (T k).2.2.1 = some (ty0 k)) (hnm : ∀ a, a < N → ∀ b, b < N → a ≠ b → (T a).2.1 ≠ (T b).2.1) (q0 : Nat) (he : ws[q0]? = some (a, .inr (ci, fs))) (hc : vwCl[ci]? = some (C, T, N)) (k : Nat) (hk : k < N) (hlink : Cond.fieldLink own index ref (T k).2.1 (T k).2.2.1 ∈ lw_all) (hsame : ∀ x, s.fieldFound? (T k).1 (T k).2.1 (T k).2.2.1 = some x → s.fieldFound? ref (T k).2.1 (T k).2.2.1 = some x) (hfin : (T k).2.2.2 = true) (hin2 : meth.name = "<init>") (hdecl : (T k).1 = own) (hn : narrow (ty0 k) v = v) (hfit : fits (ty0 k) v = true) (hl : k < fs.length) (d : decode cc pc = .ok (.putfield index, 3)) (hw : ws.set q0 (a, .inr (ci, fs.set k v)) = ws') (kk : V p l e R s m args below meth c D A nL cells slots Q ws' (pc + 3) loc st) : V p l e R s m args below meth c D A nL cells slots Q ws pc loc (v :: .ref a :: st) := by
  subst hw
  exact fun H locs ls hP hD hS hl2 => va_putF X.hx X.hb X.hts hin ty0 hty hnm X.hown X.hK hP hD hS q0 he hc k hk (X.hts _ hlink) hsame hfin hin2 hdecl (hty k hk) hn hfit hl d (fun H1 locs1 hP hD hS => kk H1 locs1 ls hP hD hS hl2)
theorem v_iald {a n j : Nat} {f : Nat → Int32} {i : Int32} (X : VX p s m args meth c cc nL own D dd A) (q0 : Nat) (ha : ws[q0]? = some (a, .inl (dd 0, n, .inl f))) (hi : i = nI j) (hj : j < n) (hn : n < 2 ^ 31) (d : decode cc pc = .ok (.iaload, 1)) (kk : V p l e R s m args below meth c D A nL cells slots Q ws (pc + 1) loc (.int (f j) :: st)) : V p l e R s m args below meth c D A nL cells slots Q ws pc loc (.int i :: .ref a :: st) := by
  subst hi
  intro H locs ls hP hD hS hl
  refine va_iald X.hx X.hb X.hK hP q0 0 ha rfl (vp_in_nI hj hn) d ?_
  rw [nI_clamp (Nat.lt_trans hj hn)]
  exact kk H locs ls hP hD hS hl
theorem v_cald {a n j : Nat} {f : Nat → Int32} {i : Int32} (X : VX p s m args meth c cc nL own D dd A) (q0 : Nat) (ha : ws[q0]? = some (a, .inl (dd 1, n, .inl f))) (hi : i = nI j) (hj : j < n) (hn : n < 2 ^ 31) (d : decode cc pc = .ok (.caload, 1)) (kk : V p l e R s m args below meth c D A nL cells slots Q ws (pc + 1) loc (.int (f j) :: st)) : V p l e R s m args below meth c D A nL cells slots Q ws pc loc (.int i :: .ref a :: st) := by
  subst hi
  intro H locs ls hP hD hS hl
  refine va_cald X.hx X.hb X.hK hP q0 1 ha rfl (vp_in_nI hj hn) d ?_
  rw [nI_clamp (Nat.lt_trans hj hn)]
  exact kk H locs ls hP hD hS hl
theorem v_iast {a n j : Nat} {f : Nat → Int32} {i x : Int32} {ws' : va_W} (X : VX p s m args meth c cc nL own D dd A) (q0 : Nat) (ha : ws[q0]? = some (a, .inl (dd 0, n, .inl f))) (hi : i = nI j) (hj : j < n) (hn : n < 2 ^ 31) (d : decode cc pc = .ok (.iastore, 1)) (hw : ws.set q0 (a, .inl (dd 0, n, .inl (upd f j x))) = ws') (kk : V p l e R s m args below meth c D A nL cells slots Q ws' (pc + 1) loc st) : V p l e R s m args below meth c D A nL cells slots Q ws pc loc (.int x :: .int i :: .ref a :: st) := by
  subst hi; subst hw
  intro H locs ls hP hD hS hl
  refine va_iast X.hx X.hb X.hK hP hD hS q0 0 ha rfl (vp_in_nI hj hn) d (fun H1 locs1 => ?_)
  rw [nI_clamp (Nat.lt_trans hj hn)]
  exact fun hP hD hS => kk H1 locs1 ls hP hD hS hl
theorem v_cast {a n j : Nat} {f : Nat → Int32} {i x : Int32} {ws' : va_W} (X : VX p s m args meth c cc nL own D dd A) (q0 : Nat) (ha : ws[q0]? = some (a, .inl (dd 1, n, .inl f))) (hi : i = nI j) (hj : j < n) (hn : n < 2 ^ 31) (d : decode cc pc = .ok (.castore, 1)) (hw : ws.set q0 (a, .inl (dd 1, n, .inl (upd f j (vp_nar .char x)))) = ws') (kk : V p l e R s m args below meth c D A nL cells slots Q ws' (pc + 1) loc st) : V p l e R s m args below meth c D A nL cells slots Q ws pc loc (.int x :: .int i :: .ref a :: st) := by
  subst hi; subst hw
  intro H locs ls hP hD hS hl
  refine va_cast X.hx X.hb X.hK hP hD hS q0 1 ha rfl (vp_in_nI hj hn) d (fun H1 locs1 => ?_)
  rw [nI_clamp (Nat.lt_trans hj hn)]
  exact fun hP hD hS => kk H1 locs1 ls hP hD hS hl
theorem v_alen {a : Nat} {cA : ClassId} {x : vp_A} {ty : FieldType} (X : VX p s m args meth c cc nL own D dd A) (q0 t0 : Nat) (ha : ws[q0]? = some (a, .inl (cA, x))) (ht : (tysG dd)[t0]? = some (cA, ty)) (d : decode cc pc = .ok (.arraylength, 1)) (kk : V p l e R s m args below meth c D A nL cells slots Q ws (pc + 1) loc (.int (nI x.1) :: st)) : V p l e R s m args below meth c D A nL cells slots Q ws pc loc (.ref a :: st) :=
  fun H locs ls hP hD hS hl => va_alen X.hx X.hb X.hK hP q0 t0 ha ht (v := nI x.1) rfl d (kk H locs ls hP hD hS hl)
/-! ends, and contracts -/
def QW (D : va_G) (A : Nat → Prop) (post : Option Value → va_W → Prop) : Array Value → State → Outcome → State → Prop := fun _ st oc t => (∃ (v : Option Value) (w : va_W), oc = .returned v ∧ post v w ∧ va_P D vwCl w t.heap ∧ va_D A w) ∧ va_F A st t
theorem v_iret {post : Option Value → va_W → Prop} {v : Int32} (X : VX p s m args meth c cc nL own D dd A) (hr : meth.sig.returnType = some .int) (d : decode cc pc = .ok (.ireturn, 1)) (h : post (some (.int v)) ws) : V p l e R s m args below meth c D A nL cells slots (MQ below (QW D A post) args s cells slots A) ws pc loc [.int v] :=
  fun H locs ls hP hD hS hl => W.iret X.hx X.hb hr (fun t ht hW => ⟨⟨_, ws, rfl, h, by rw [ht]; exact hP, hD⟩, hS.F ht⟩) hS.2.2 d X.hlk
theorem v_zret {post : Option Value → va_W → Prop} {ty : FieldType} {v : Int32} (X : VX p s m args meth c cc nL own D dd A) (hr : meth.sig.returnType = some ty) (hn : narrow ty (.int v) = .int v) (d : decode cc pc = .ok (.ireturn, 1)) (h : post (some (.int v)) ws) : V p l e R s m args below meth c D A nL cells slots (MQ below (QW D A post) args s cells slots A) ws pc loc [.int v] :=
  fun H locs ls hP hD hS hl => W.zret X.hx X.hb hr hn (fun t ht hW => ⟨⟨_, ws, rfl, h, by rw [ht]; exact hP, hD⟩, hS.F ht⟩) hS.2.2 d X.hlk
theorem v_vret {post : Option Value → va_W → Prop} (X : VX p s m args meth c cc nL own D dd A) (hr : meth.sig.returnType = none) (d : decode cc pc = .ok (.return_, 1)) (h : post none ws) : V p l e R s m args below meth c D A nL cells slots (MQ below (QW D A post) args s cells slots A) ws pc loc [] :=
  fun H locs ls hP hD hS hl => W.vret X.hx X.hb hr (fun t ht hW => ⟨⟨_, ws, rfl, h, by rw [ht]; exact hP, hD⟩, hS.F ht⟩) hS.2.2 d X.hlk
theorem v_fret {post : Option Value → va_W → Prop} {v : UInt32} (X : VX p s m args meth c cc nL own D dd A) (hr : meth.sig.returnType = some .float) (d : decode cc pc = .ok (.freturn, 1)) (h : post (some (.float v)) ws) : V p l e R s m args below meth c D A nL cells slots (MQ below (QW D A post) args s cells slots A) ws pc loc [.float v] :=
  fun H locs ls hP hD hS hl => W.fret X.hx X.hb hr (fun t ht hW => ⟨⟨_, ws, rfl, h, by rw [ht]; exact hP, hD⟩, hS.F ht⟩) hS.2.2 d X.hlk
theorem v_dret {post : Option Value → va_W → Prop} {v : UInt64} (X : VX p s m args meth c cc nL own D dd A) (hr : meth.sig.returnType = some .double) (d : decode cc pc = .ok (.dreturn, 1)) (h : post (some (.double v)) ws) : V p l e R s m args below meth c D A nL cells slots (MQ below (QW D A post) args s cells slots A) ws pc loc [.double v] :=
  fun H locs ls hP hD hS hl => W.dret X.hx X.hb hr (fun t ht hW => ⟨⟨_, ws, rfl, h, by rw [ht]; exact hP, hD⟩, hS.F ht⟩) hS.2.2 d X.hlk
/-- a contract: from any heap that holds the world w0, the method returns, with post of its answer and of the world then -/
def MW (l : Launch) (D : va_G) (dd : Nat → ClassId) (y : MethodName) (cd : ByteArray) (nL : Nat) (ret : Option FieldType) (fr mc ms lc : Nat) (av : List Value) (w0 : va_W) (post : Option Value → va_W → Prop) : Prop :=
  ∀ sz : Nat, Met l y (ws_ y cd nL ret) ({ frames := fr, cells := mc, slots := ms, locals := lc }) (va_Pc av (fun U => U.heap.size = sz ∧ va_P D vwCl w0 U.heap ∧ Gk D dd (va_A w0 sz) U ∧ va_D (fun _ => True) w0)) (QW D (va_A w0 sz) post) mc ms (va_A w0 sz)
theorem MW.blind {D : va_G} {dd : Nat → ClassId} {av : List Value} {w0 : va_W} {sz : Nat} {A : Nat → Prop} : FrameBlind (va_Pc av (fun U => U.heap.size = sz ∧ va_P D vwCl w0 U.heap ∧ Gk D dd A U ∧ va_D (fun _ => True) w0)) := by
  intro a U g mk q
  obtain ⟨q0, q1, qP, qK, qD⟩ := q
  exact ⟨q0, q1, qP, qK.blind g mk a, qD⟩
theorem MW.intro {l : Launch} {y : MethodName} {cd : ByteArray} {nL' : Nat} {ret : Option FieldType} {fr mc ms lc : Nat} {av : List Value} {w0 : va_W} {post : Option Value → va_W → Prop} (hy : plainName y.cls = true) (hn : (lg_sl av).length ≤ nL')
    (body : ∀ (p : Program) (e : Env) (s : State) (m : MethodId) (args : Array Value) (below : List Frame) (meth : Method) (c : Code) (A : Nat → Prop), VX p s m args meth c cd nL' y.cls D dd A → meth.sig.returnType = ret → meth.name = y.name →
      V p l e ({ frames := fr, cells := mc, slots := ms, locals := lc } : Room) s m args below meth c D A nL' 0 0 (MQ below (QW D A post) args s mc ms A) w0 0 (lv_args 0 av) []) : MW l D dd y cd nL' ret fr mc ms lc av w0 post := by
  intro sz
  refine Met.ofW (cc := cd) (maxL := nL') (ret := ret) hy rfl ?_
  intro p e s m args below meth c s₁ B hml hv
  obtain ⟨rfl, hsz, hP, hG, hD0⟩ := hv
  subst hsz
  have hts := atoms_spec (ws := ws_ y cd nL' ret) B.pre
  have hts : ∀ w ∈ lw_all, w.before _ s = true := fun w h => hts w (List.mem_cons_of_mem _ h)
  have hown : s.vm.findClass y.cls = some m.cls := findClass_of_methodNamed B.named
  have X : VX p s m av.toArray meth c cd nL' y.cls D dd (va_A w0 s.heap.size) := ⟨B.exec, B.bytes, hml, hown, hts, hG, fun q h => Or.inr h, B.notSynchronized⟩
  have hl := lv_entry av (n := nL') hn
  rw [lg_entry_eq]
  exact body p e s m _ below meth c _ X B.returns (name_of_methodNamed B.named B.method).1 s.heap [] _ hP hD0.self va_S.rf hl
theorem v_go {H : Heap} {locs : List Loc} {ls : Array Slot} {A1 : Nat → Prop} {mc ms : Nat} {st0 rest : List Value} {a : Array Value} {post : Option Value → va_W → Prop} {free : Addr → Prop} (hr : va_Run p l e R s m args below meth c H locs cells slots mc ms (F0 m pc ls st0) rest (QW D A1 post a) free) (hS : va_S A s.heap H locs) (hA : ∀ q, A1 q → A q) (hf : ∀ q, free q → A q)
    (kk : ∀ (v : Option Value) (w1 : va_W) (H1 : Heap) (locs1 : List Loc), post v w1 → va_P D vwCl w1 H1 → va_D A1 w1 → H.size ≤ H1.size → (∀ q : Nat, q < H.size → ¬ A1 q → H1[q]? = H[q]?) → va_S A s.heap H1 locs1 → W p l e R s m args below meth c H1 locs1 (cells + mc) (slots + ms) Q (F0 m (pc + 3) ls (v.toList ++ rest))) : W p l e R s m args below meth c H locs cells slots Q (F0 m pc ls st0) := by
  intro T hT X
  obtain ⟨v, st₀, t, T', L, h0, X', hL, e1, e2, ⟨⟨r, w1, hv, hp, hP1, hD1⟩, hz, hk⟩, st⟩ := hr T hT X
  cases hv
  rw [h0] at hz hk
  obtain ⟨t2, a1, b1⟩ := kk v w1 T'.heap (locs ++ L) hp (by rw [e1]; exact hP1) hD1 (by rw [e1]; exact hz) (fun q h1 h2 => by rw [e1]; exact hk q h1 h2)
    ⟨Nat.le_trans hS.1 (by rw [e1]; exact hz), fun q h1 h2 => by rw [e1, hk q (Nat.lt_of_lt_of_le h1 hS.1) (fun z => h2 (hA q z))]; exact hS.2.1 q h1 h2, fun q hq => by
      rcases List.mem_append.mp hq with h | h
      · exact hS.2.2 q h
      · exact hf _ (hL q h)⟩ T' rfl X'
  exact ⟨t2, st t2 a1, b1⟩
theorem v_A1 {H : Heap} {locs : List Loc} (X : VX p s m args meth c cc nL own D dd A) (hD : va_D A ws) (hS : va_S A s.heap H locs) : ∀ q, va_A ws H.size q → A q := by
  intro q h
  rcases h with ⟨k, e, h⟩ | h
  · exact hD.2 k (q, e) h
  · exact X.hA q (Nat.le_trans hS.1 h)
/-- a call through an object, with the whole world -/
theorem v_callV {C : String} {index : Nat} {y : MethodName} {cd : ByteArray} {nL' : Nat} {ret : Option FieldType} {fr mc ms lc n : Nat} {b : Nat} {As st0 : List Value} {post : Option Value → va_W → Prop} (X : VX p s m args meth c cc nL own D dd A) 
    (hM : MW l D dd y cd nL' ret fr mc ms lc (.ref b :: As) ws post) (q0 : Nat) {fs : List Value} {ci : Nat} {qc : vw_C} (he : ws[q0]? = some (b, .inr (ci, fs))) (hc : vwCl[ci]? = some qc) (hC : qc.1 = C)
    (hG : GoodIn lw_all (wsV own index C y (ws_ y cd nL' ret))) (hd : y.cls = C ∧ y.cls ≠ "java/lang/invoke/MethodHandle" ∧ y.cls ≠ "java/lang/invoke/VarHandle" ∧ (parseMethodDescriptor y.desc).map (fun d => d.parameters.length) = some n) (hR : fr + 1 ≤ R.frames ∧ 8 + (nL' + 11) + lc ≤ R.locals)
    (hn : As.length = n) (hst : st0 = As.reverse ++ .ref b :: st) (hW : (st.map fun v => v.category).sum ≤ 8) (d : decode cc pc = .ok (.invokevirtual index, 3)) (hf : cells + mc ≤ R.cells ∧ slots + ms ≤ R.slots)
    (kk : ∀ (v : Option Value) (w1 : va_W), post v w1 → V p l e R s m args below meth c D A nL (cells + mc) (slots + ms) Q w1 (pc + 3) loc (v.toList ++ st)) : V p l e R s m args below meth c D A nL cells slots Q ws pc loc st0 := by
  subst hst; subst hC
  intro H locs ls hP hD hS hl
  have hA1 := v_A1 X hD hS
  refine v_go (va_runV (As := As) (rest := st) ⟨X.hx, X.hb, X.hml, X.hown, X.hts⟩ (hM H.size) (cwV n X.hts hG rfl rfl rfl hd hR) ⟨MW.blind, va_recv X.hK hP hc he, fun U hU hW' => ⟨rfl, by rw [hU], by rw [hU]; exact hP, X.hG.to hW' hU hS (fun q _ h => hA1 q h), hD.weaken (fun _ _ _ _ => trivial)⟩⟩ rfl hn hl.1 rfl (lv_room hW) d hf) hS hA1 hA1 (fun v w1 H1 locs1 hp hP1 hD1 _ _ hS1 => ?_)
  exact kk v w1 hp H1 locs1 ls hP1 (hD1.weaken (fun k q _ h => hA1 q.1 h)) hS1 hl
/-- a static call, with the whole world -/
theorem v_callS {index : Nat} {y : MethodName} {cd : ByteArray} {nL' : Nat} {ret : Option FieldType} {fr mc ms lc n : Nat} {As st0 : List Value} {post : Option Value → va_W → Prop} (X : VX p s m args meth c cc nL own D dd A) 
    (hM : MW l D dd y cd nL' ret fr mc ms lc As ws post)
    (hG : GoodIn lw_all (va_wsS own index y (ws_ y cd nL' ret))) (hd : y.cls ≠ "java/lang/invoke/MethodHandle" ∧ y.cls ≠ "java/lang/invoke/VarHandle" ∧ (parseMethodDescriptor y.desc).map (fun d => d.parameters.length) = some n) (hR : fr + 1 ≤ R.frames ∧ 8 + (nL' + 11) + lc ≤ R.locals)
    (hn : As.length = n) (hst : st0 = As.reverse ++ st) (hW : (st.map fun v => v.category).sum ≤ 8) (d : decode cc pc = .ok (.invokestatic index, 3)) (hf : cells + mc ≤ R.cells ∧ slots + ms ≤ R.slots)
    (kk : ∀ (v : Option Value) (w1 : va_W), post v w1 → V p l e R s m args below meth c D A nL (cells + mc) (slots + ms) Q w1 (pc + 3) loc (v.toList ++ st)) : V p l e R s m args below meth c D A nL cells slots Q ws pc loc st0 := by
  subst hst
  intro H locs ls hP hD hS hl
  have hA1 := v_A1 X hD hS
  refine v_go (va_runS (As := As) (rest := st) ⟨X.hx, X.hb, X.hml, X.hown, X.hts⟩ (hM H.size) (va_cwS n X.hts hG rfl rfl rfl hd hR) ⟨MW.blind, fun U hU hW' => ⟨rfl, by rw [hU], by rw [hU]; exact hP, X.hG.to hW' hU hS (fun q _ h => hA1 q h), hD.weaken (fun _ _ _ _ => trivial)⟩⟩ rfl hn hl.1 rfl (lv_room hW) d hf) hS hA1 hA1 (fun v w1 H1 locs1 hp hP1 hD1 _ _ hS1 => ?_)
  exact kk v w1 hp H1 locs1 ls hP1 (hD1.weaken (fun k q _ h => hA1 q.1 h)) hS1 hl
/-- a loop: a state that is handed round, an invariant, a measure that falls -/
theorem v_loop1 {S : Type} (w : S → va_W) (lo : S → List (Nat × Value)) (I : S → Prop) (μ : S → Nat) (hs : ∀ a, I a → (∀ b, I b → μ b < μ a → V p l e R s m args below meth c D A nL cells slots Q (w b) pc (lo b) st) → V p l e R s m args below meth c D A nL cells slots Q (w a) pc (lo a) st) : ∀ a, I a → V p l e R s m args below meth c D A nL cells slots Q (w a) pc (lo a) st := by
  have key : ∀ (n : Nat) (a : S), μ a < n → I a → V p l e R s m args below meth c D A nL cells slots Q (w a) pc (lo a) st := by
    intro n
    induction n with
    | zero => intro a h; omega
    | succ n ih => exact fun a h hI => hs a hI (fun b hb hlt => ih b (by omega) hb)
  exact fun a h => key (μ a + 1) a (Nat.lt_succ_self _) h
theorem v_loop2 {S T : Type} (w : S → T → va_W) (lo : S → T → List (Nat × Value)) (I : S → T → Prop) (μ : S → T → Nat) (hs : ∀ a b, I a b → (∀ a' b', I a' b' → μ a' b' < μ a b → V p l e R s m args below meth c D A nL cells slots Q (w a' b') pc (lo a' b') st) → V p l e R s m args below meth c D A nL cells slots Q (w a b) pc (lo a b) st) : ∀ a b, I a b → V p l e R s m args below meth c D A nL cells slots Q (w a b) pc (lo a b) st :=
  fun a b h => v_loop1 (S := S × T) (fun q => w q.1 q.2) (fun q => lo q.1 q.2) (fun q => I q.1 q.2) (fun q => μ q.1 q.2) (fun q hq ih => hs q.1 q.2 hq (fun a' b' h1 h2 => ih (a', b') h1 h2)) (a, b) h
theorem v_loop3 {S T Z : Type} (w : S → T → Z → va_W) (lo : S → T → Z → List (Nat × Value)) (I : S → T → Z → Prop) (μ : S → T → Z → Nat) (hs : ∀ a b z, I a b z → (∀ a' b' z', I a' b' z' → μ a' b' z' < μ a b z → V p l e R s m args below meth c D A nL cells slots Q (w a' b' z') pc (lo a' b' z') st) → V p l e R s m args below meth c D A nL cells slots Q (w a b z) pc (lo a b z) st) : ∀ a b z, I a b z → V p l e R s m args below meth c D A nL cells slots Q (w a b z) pc (lo a b z) st :=
  fun a b z h => v_loop1 (S := S × T × Z) (fun q => w q.1 q.2.1 q.2.2) (fun q => lo q.1 q.2.1 q.2.2) (fun q => I q.1 q.2.1 q.2.2) (fun q => μ q.1 q.2.1 q.2.2) (fun q hq ih => hs q.1 q.2.1 q.2.2 hq (fun a' b' z' h1 h2 => ih (a', b', z') h1 h2)) (a, b, z) h
theorem v_loop4 {S T Z Y : Type} (w : S → T → Z → Y → va_W) (lo : S → T → Z → Y → List (Nat × Value)) (I : S → T → Z → Y → Prop) (μ : S → T → Z → Y → Nat) (hs : ∀ a b z y, I a b z y → (∀ a' b' z' y', I a' b' z' y' → μ a' b' z' y' < μ a b z y → V p l e R s m args below meth c D A nL cells slots Q (w a' b' z' y') pc (lo a' b' z' y') st) → V p l e R s m args below meth c D A nL cells slots Q (w a b z y) pc (lo a b z y) st) : ∀ a b z y, I a b z y → V p l e R s m args below meth c D A nL cells slots Q (w a b z y) pc (lo a b z y) st :=
  fun a b z y h => v_loop1 (S := S × T × Z × Y) (fun q => w q.1 q.2.1 q.2.2.1 q.2.2.2) (fun q => lo q.1 q.2.1 q.2.2.1 q.2.2.2) (fun q => I q.1 q.2.1 q.2.2.1 q.2.2.2) (fun q => μ q.1 q.2.1 q.2.2.1 q.2.2.2) (fun q hq ih => hs q.1 q.2.1 q.2.2.1 q.2.2.2 hq (fun a' b' z' y' h1 h2 => ih (a', b', z', y') h1 h2)) (a, b, z, y) h
theorem v_join {z : Value} {pj : Nat} {rs : List Value} (h1 : V p l e R s m args below meth c D A nL cells slots Q ws pj loc (z :: rs)) (h2 : V p l e R s m args below meth c D A nL cells slots Q ws pj loc (z :: rs) → V p l e R s m args below meth c D A nL cells slots Q ws pc loc st) : V p l e R s m args below meth c D A nL cells slots Q ws pc loc st := h2 h1
theorem v_nm {x : Int32} (k : ∀ y : Int32, y = x → V p l e R s m args below meth c D A nL cells slots Q ws pc loc (.int y :: st)) : V p l e R s m args below meth c D A nL cells slots Q ws pc loc (.int x :: st) := k x rfl
theorem v_nmN {a : Nat} (k : ∀ b : Nat, b = a → V p l e R s m args below meth c D A nL cells slots Q ws pc loc (.int (nI b) :: st)) : V p l e R s m args below meth c D A nL cells slots Q ws pc loc (.int (nI a) :: st) := k a rfl
theorem nI_dec {a : Nat} (h : 1 ≤ a) : nI a + Int32.ofInt (-1) = nI (a - 1) := by
  obtain ⟨b, rfl⟩ : ∃ b, a = b + 1 := ⟨a - 1, by omega⟩
  exact pk_m1 b
end BASE

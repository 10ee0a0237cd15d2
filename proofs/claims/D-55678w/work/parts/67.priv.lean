section BASE8
variable {p : Program} {l : Launch} {e : Env} {R : Room} {s : State} {m : MethodId} {args : Array Value} {below : List Frame} {meth : Method} {c : Code} {cc : ByteArray} {nL : Nat} {own : String} {D : va_G} {dd : Nat → ClassId} {A : Nat → Prop} {cells slots : Nat} {Q : State → Prop} {ws : va_W} {pc : Nat} {loc : List (Nat × Value)} {st : List Value}
/-- a private method of a class above, on an object of a class below -/
theorem va_callVP {T : State} {locs : List Loc} (X : Stand p l e R s m args below meth c T locs cells slots) (hexec : p.tables.exec = Jvm.exec) {own C : String} {index : Nat} {y : MethodName} {bytes : ByteArray} {maxL : Nat} {ret : Option FieldType}
    (hown : s.vm.findClass own = some m.cls) (hlink : (Cond.methodLink own index y).before args s = true) (hsame : (Cond.sameMethod y.cls y.cls y.name y.desc).before args s = true)
    (hy : y.cls ≠ "java/lang/invoke/MethodHandle" ∧ y.cls ≠ "java/lang/invoke/VarHandle") (hpriv : s.PrivateAt y)
    (hinst : (Cond.instanceMethod y).before args s = true) (hcode : (Cond.code y bytes maxL ret).before args s = true)
    {W : Nat} {Pre : Pt → Array Value → Prop} {Post : Pt → Array Value → Option Value → Pt → Prop} (hK : Back l R p e below s args y 3 W Pre Post)
    {b : Addr} {cellB : Cell} (hcell : T.heap[b]? = some cellB) (hobj : cellB.vm.isStatics = false)
    {g : JFrame} (hg : g.method = m) (hsize : g.locals.size = c.maxLocals) {argsL rest : List Value} (hlen : ∀ sig, parseMethodDescriptor y.desc = some sig → argsL.length = sig.parameters.length)
    (hstack : g.stack = argsL.reverse ++ .ref b :: rest) (hW : 2 * g.monitorRoom + (rest.map fun v => v.category).sum ≤ W) (hdg : decode c.code g.pc = .ok (.invokevirtual index, 3))
    (hpre : ∀ vm₁, s.WarmedH vm₁ → Pre ⟨T.setVm vm₁, locs, cells, slots⟩ (Value.ref b :: argsL).toArray) :
    ∃ (v : Option Value) (vm₁ : Vm) (B : Pt), s.WarmedH vm₁ ∧ Stand p l e R s m args below meth c B.U B.locs B.cells B.slots ∧ Post ⟨T.setVm vm₁, locs, cells, slots⟩ (Value.ref b :: argsL).toArray v B ∧
      ∀ target, Steps p.tables e below (B.U.setTop { g with pc := g.pc + 3, stack := v.toList ++ rest }) target → Steps p.tables e below (T.setTop g) target := by
  obtain ⟨mk, methM, hnamed, hmethM, hstM, habM⟩ := Cond.instanceMethod_spec hinst
  obtain ⟨methM', cM, hmethM', -, -, -, -, -, -, hsigM⟩ := Cond.code_spec hnamed hcode
  cases hmethM.symm.trans hmethM'
  obtain ⟨cn, ck, r1, hcn, hck, hni, hf, hn1⟩ := Cond.sameMethod_found hsame
  have hcls : mk.cls = cn := Option.some.inj ((findClass_of_methodNamed hnamed).symm.trans hcn)
  have hck' : s.vm.classes[mk.cls]? = some ck := by rw [hcls]; exact hck
  have hselP : selectMethod e.platform s.vm cellB.cls mk = .method mk := selectMethod_private hmethM (hpriv mk methM hnamed hmethM)
  obtain ⟨vm₁, X₁, hstep₁⟩ := X.invokevirtual hexec hown hlink hnamed hmethM hstM hck' hni hy (a := b) (cell := cellB) hcell
    (fun z h => by rw [h] at hobj; cases hobj) hselP hmethM habM hck' hni (g := g) hg (argsL := argsL) (rest := rest) (hlen _ hsigM) hstack hdg
  obtain ⟨v, B, X', hpost, hsteps⟩ := hK m meth c ⟨T.setVm vm₁, locs, cells, slots⟩ { g with stack := rest } (.invokevirtual index) mk (Value.ref b :: argsL).toArray X₁ hg hsize hdg hW (X₁.named hnamed) (hpre vm₁ X₁.warmed)
  exact ⟨v, vm₁, B, X₁.warmed, X', hpost, fun target h => hstep₁ _ fun acts => by rw [doInvoke_state]; exact hsteps.trans h⟩
def va_wsP (own : String) (idx : Nat) (y : MethodName) (ws : List Cond) : List Cond := ([.methodLink own idx y, .sameMethod y.cls y.cls y.name y.desc, .instanceMethod y, .initialized y.cls] : List Cond) ++ ws
theorem lw_P {own : String} {idx : Nat} {y : MethodName} {b : ByteArray} {L : Nat} {r : Option FieldType} (h1 : Cond.methodLink own idx y ∈ lw_all) (h2 : Cond.sameMethod y.cls y.cls y.name y.desc ∈ lw_all) (h4 : Cond.instanceMethod y ∈ lw_all) (h5 : Cond.initialized y.cls ∈ lw_all) (h6 : Cond.code y b L r ∈ lw_all) : GoodIn lw_all (va_wsP own idx y (ws_ y b L r)) := by
  refine lw_app ?_ (lw_meth h6)
  intro w hw
  simp only [List.mem_cons, List.not_mem_nil, or_false] at hw
  rcases hw with e | e | e | e
  · rw [e]; exact h1
  · rw [e]; exact h2
  · rw [e]; exact h4
  · rw [e]; exact h5
theorem va_runP {y : MethodName} {bytes cc : ByteArray} {maxL nL mc ms n index : Nat} {ret : Option FieldType} {ws ws' : List Cond} {rm : Room} {Pc : Array Value → State → Prop} {Qc : Array Value → State → Outcome → State → Prop} {free : Addr → Prop} {Ts : List Cond} {own C : String} {b : Addr} {As rest : List Value} {g : JFrame} {H : Heap} {locs : List Loc}
    (S : CallFix p m c cc nL s args Ts own) (hM : Met l y ws rm Pc Qc mc ms free) (ht : ∀ w ∈ Ts, w.before args s = true) (hT : GoodIn Ts (va_wsP own index y ws)) (hw : ws = Cond.code y bytes maxL ret :: ws') (hrc : rm.cells = mc) (hrs : rm.slots = ms) (hpriv : s.PrivateAt y)
    (hd : y.cls ≠ "java/lang/invoke/MethodHandle" ∧ y.cls ≠ "java/lang/invoke/VarHandle" ∧ (parseMethodDescriptor y.desc).map (fun d => d.parameters.length) = some n) (hR : rm.frames + 1 ≤ R.frames ∧ 8 + (maxL + 11) + rm.locals ≤ R.locals) (hp : PreV s H C b Pc As)
    (hg : g.method = m) (hn : As.length = n) (hsize : g.locals.size = nL) (hstack : g.stack = As.reverse ++ .ref b :: rest) (hW : 2 * g.monitorRoom + (rest.map fun v => v.category).sum ≤ 8) (hdg : decode cc g.pc = .ok (.invokevirtual index, 3)) (hf : cells + mc ≤ R.cells ∧ slots + ms ≤ R.slots) :
    va_Run p l e R s m args below meth c H locs cells slots mc ms g rest (Qc (Value.ref b :: As).toArray) (free) := by
  have ok : ∀ w ∈ va_wsP own index y ws, w.before args s = true := fun w h => ht w (hT w h).1
  have hG : GoodIn Ts ws := fun w h => hT w (by unfold va_wsP; exact List.mem_append_right _ h)
  have hcw : Cond.code y bytes maxL ret ∈ ws := by rw [hw]; exact List.mem_cons_self
  have hini : (Cond.initialized y.cls).before args s = true := ok (.initialized y.cls) (by simp [va_wsP])
  have hcode : (Cond.code y bytes maxL ret).before args s = true := ht _ (hG _ hcw).1
  have hlen : ∀ sig, parseMethodDescriptor y.desc = some sig → n = sig.parameters.length := fun sig h => by
    have h2 := hd.2.2
    rw [h] at h2
    exact (Option.some.inj h2).symm
  have hK : Back l R p e below s args y 3 8 (PreOf R mc ms Pc) (PostOf Qc mc ms free) := back_of (bytes := bytes) (maxL := maxL) (ret := ret) hM hp.1 hrc hrs hR.1 hR.2 (pay_in ht hG) hcw (fun a' U hW => word_at hW (Or.inl (by first | rfl | simp [Cond.onTables, Cond.keeps, Cond.steady])) hini)
  obtain ⟨hx, hb, hml, ho, -⟩ := S
  obtain ⟨-, ⟨cellB, hcB, hoB, hclB⟩, hPc⟩ := hp
  intro T hT X
  obtain ⟨v, vm₁, ⟨U', l2, c2, s2⟩, hW₁, X', ⟨g', mk, t, L, e1, e2, hq, h1, hL, h2, h3⟩, st⟩ := va_callVP X hx (C := C) (bytes := bytes) (maxL := maxL) (ret := ret) ho (ok (.methodLink own index y) (by simp [va_wsP])) (ok (.sameMethod y.cls y.cls y.name y.desc) (by simp [va_wsP])) ⟨hd.1, hd.2.1⟩ hpriv (ok (.instanceMethod y) (by simp [va_wsP])) hcode hK (by rw [hT]; exact hcB) hoB hg (hsize.trans hml.symm) (argsL := As) (rest := rest) (fun sig h => hn.trans (hlen sig h)) hstack hW (by rw [hb]; exact hdg)
    (fun vm₁ hW₁ => ⟨hf.1, hf.2, hPc (T.setVm vm₁) hT hW₁⟩)
  dsimp only [Pt.U, Pt.locs, Pt.cells, Pt.slots] at X' e1 e2 h1 h2 h3 st
  subst h1; subst h2; subst h3
  exact ⟨v, (T.setVm vm₁).calling g' mk (Value.ref b :: As).toArray, t, U', L, hT, X', hL, e1, e2, hq, st⟩
theorem r_P {index : Nat} {y : MethodName} {cd : ByteArray} {nL' : Nat} {ret : Option FieldType} {fr mc ms lc n : Nat} {b : Nat} {As st0 : List Value} {wc : va_W} {post : Option Value → va_W → Prop} (X : VX p s m args meth c cc nL own D dd A)
    (hM : MW l D dd y cd nL' ret fr mc ms lc (.ref b :: As) wc post) {fs : List Value} {ci : Nat} {qc : vw_C} (he : (b, .inr (ci, fs)) ∈ wc) (hc : vwCl[ci]? = some qc) (hpr : Cond.privateMethod y ∈ lw_tbl)
    (hG : GoodIn lw_all (va_wsP own index y (ws_ y cd nL' ret))) (hd : y.cls ≠ "java/lang/invoke/MethodHandle" ∧ y.cls ≠ "java/lang/invoke/VarHandle" ∧ (parseMethodDescriptor y.desc).map (fun d => d.parameters.length) = some n) (hR : fr + 1 ≤ R.frames ∧ 8 + (nL' + 11) + lc ≤ R.locals)
    (hn : As.length = n) (hst : st0 = As.reverse ++ .ref b :: st) (hW : (st.map fun v => v.category).sum ≤ 8) (d : decode cc pc = .ok (.invokevirtual index, 3)) (hf : cells + mc ≤ R.cells ∧ slots + ms ≤ R.slots) : RunF p l e R s m args below meth c D A nL cells slots mc ms wc pc st0 st post := by
  subst hst
  intro H locs ls hP hD hS hls
  obtain ⟨k, hk⟩ := List.getElem?_of_mem he
  have hA1 := v_A1 X hD hS
  have hpriv : s.PrivateAt y := Cond.privateMethod_at (args := #[]) (X.nw hpr rfl)
  exact ⟨_, va_runP (As := As) (rest := st) ⟨X.hx, X.hb, X.hml, X.hown, X.hts⟩ (hM H.size) X.hts hG rfl rfl rfl hpriv hd hR ⟨MW.blind, va_recv X.hK hP hc hk, fun U hU hW' => ⟨rfl, pre_to X hP hD hS hA1 U hU hW'⟩⟩ rfl hn hls rfl (lv_room hW) d hf⟩
theorem lw_O {own : String} {idx : Nat} {C owner : String} {x y : MethodName} {b : ByteArray} {L : Nat} {r : Option FieldType} (h1 : Cond.methodLink own idx x ∈ lw_all) (h2 : Cond.sameMethod x.cls owner x.name x.desc ∈ lw_all) (h0 : Cond.instanceMethod ⟨owner, x.name, x.desc⟩ ∈ lw_all) (h3 : Cond.selects C x y ∈ lw_all) (h4 : Cond.instanceMethod y ∈ lw_all) (h5 : Cond.initialized y.cls ∈ lw_all) (h6 : Cond.code y b L r ∈ lw_all) : GoodIn lw_all (va_wsO own idx C owner x y (ws_ y b L r)) := by
  refine lw_app ?_ (lw_meth h6)
  intro w hw
  simp only [List.mem_cons, List.not_mem_nil, or_false] at hw
  rcases hw with e | e | e | e | e | e
  · rw [e]; exact h1
  · rw [e]; exact h2
  · rw [e]; exact h0
  · rw [e]; exact h3
  · rw [e]; exact h4
  · rw [e]; exact h5
/-- an overriding method -/
theorem r_O {C owner : String} {index : Nat} {x y : MethodName} {cd : ByteArray} {nL' : Nat} {ret : Option FieldType} {fr mc ms lc n : Nat} {b : Nat} {As st0 : List Value} {wc : va_W} {post : Option Value → va_W → Prop} (X : VX p s m args meth c cc nL own D dd A)
    (hM : MW l D dd y cd nL' ret fr mc ms lc (.ref b :: As) wc post) {fs : List Value} {ci : Nat} {qc : vw_C} (he : (b, .inr (ci, fs)) ∈ wc) (hc : vwCl[ci]? = some qc) (hC : qc.1 = C)
    (hG : GoodIn lw_all (va_wsO own index C owner x y (ws_ y cd nL' ret))) {b0 : ByteArray} {m0 : Nat} {r0 : Option FieldType} (h0 : Cond.code ⟨owner, x.name, x.desc⟩ b0 m0 r0 ∈ lw_all) (hd : owner ≠ "java/lang/invoke/MethodHandle" ∧ owner ≠ "java/lang/invoke/VarHandle" ∧ (parseMethodDescriptor x.desc).map (fun d => d.parameters.length) = some n) (hR : fr + 1 ≤ R.frames ∧ 8 + (nL' + 11) + lc ≤ R.locals)
    (hn : As.length = n) (hst : st0 = As.reverse ++ .ref b :: st) (hW : (st.map fun v => v.category).sum ≤ 8) (d : decode cc pc = .ok (.invokevirtual index, 3)) (hf : cells + mc ≤ R.cells ∧ slots + ms ≤ R.slots) : RunF p l e R s m args below meth c D A nL cells slots mc ms wc pc st0 st post := by
  subst hst; subst hC
  intro H locs ls hP hD hS hls
  obtain ⟨k, hk⟩ := List.getElem?_of_mem he
  have hA1 := v_A1 X hD hS
  exact ⟨_, va_runU (As := As) (rest := st) ⟨X.hx, X.hb, X.hml, X.hown, X.hts⟩ (hM H.size) (va_cwO n X.hts hG rfl rfl rfl h0 hd hR) ⟨MW.blind, va_recv X.hK hP hc hk, fun U hU hW' => ⟨rfl, pre_to X hP hD hS hA1 U hU hW'⟩⟩ rfl hn hls rfl (lv_room hW) d hf⟩
/-! shifts and the like, on small numbers -/
theorem sr_b {c k : Nat} (hc : c < 2 ^ 30) (hk : k < 31) (e : (nI k).toBitVec.smod 32 = BitVec.ofNat 32 k) : nI c >>> nI k = nI (c / 2 ^ k) := by
  apply Int32.toBitVec_inj.mp
  rw [Int32.toBitVec_shiftRight]
  have h1 : (nI c).toBitVec = BitVec.ofNat 32 c := rfl
  have h2 : (nI (c / 2 ^ k)).toBitVec = BitVec.ofNat 32 (c / 2 ^ k) := rfl
  rw [e, h1, h2]
  show (BitVec.ofNat 32 c).sshiftRight (BitVec.ofNat 32 k).toNat = _
  rw [BitVec.toNat_ofNat, Nat.mod_eq_of_lt (by omega), BitVec.sshiftRight_eq_of_msb_false]
  · apply BitVec.eq_of_toNat_eq
    have := Nat.div_le_self c (2 ^ k)
    simp only [BitVec.toNat_ushiftRight, BitVec.toNat_ofNat, Nat.shiftRight_eq_div_pow]
    rw [Nat.mod_eq_of_lt (by omega), Nat.mod_eq_of_lt (by omega)]
  · rw [BitVec.msb_eq_false_iff_two_mul_lt]
    simp only [BitVec.toNat_ofNat]
    omega
theorem sr_0 {c : Nat} (hc : c < 2 ^ 30) : nI c >>> (nI 0 &&& 31) = nI c := by
  rw [show nI 0 &&& 31 = nI 0 by decide, sr_b hc (by decide) (by decide), Nat.pow_zero, Nat.div_one]
theorem sr_1 {c : Nat} (hc : c < 2 ^ 30) : nI c >>> (nI 1 &&& 31) = nI (c / 2) := by
  rw [show nI 1 &&& 31 = nI 1 by decide, sr_b hc (by decide) (by decide)]
theorem sr_8 {c : Nat} (hc : c < 2 ^ 30) : nI c >>> (nI 8 &&& 31) = nI (c / 256) := by
  rw [show nI 8 &&& 31 = nI 8 by decide, sr_b hc (by decide) (by decide)]
theorem sl_b {c k : Nat} (e : (nI k).toBitVec.smod 32 = BitVec.ofNat 32 k) (hk : k < 31) : nI c <<< nI k = nI (2 ^ k * c) := by
  apply Int32.toBitVec_inj.mp
  rw [Int32.toBitVec_shiftLeft]
  have h1 : (nI c).toBitVec = BitVec.ofNat 32 c := rfl
  have h2 : (nI (2 ^ k * c)).toBitVec = BitVec.ofNat 32 (2 ^ k * c) := rfl
  rw [e, h1, h2]
  apply BitVec.eq_of_toNat_eq
  simp only [BitVec.shiftLeft_eq', BitVec.toNat_shiftLeft, BitVec.toNat_ofNat, Nat.shiftLeft_eq]
  rw [Nat.mod_eq_of_lt (show k < 2 ^ 32 by omega), Nat.mul_comm (2 ^ k) c, Nat.mod_mul_mod]
theorem sl_0 {c : Nat} : nI c <<< (nI 0 &&& 31) = nI c := by
  rw [show nI 0 &&& 31 = nI 0 by decide, sl_b (by decide) (by decide), Nat.pow_zero, Nat.one_mul]
theorem sl_1 {c : Nat} : nI c <<< (nI 1 &&& 31) = nI (2 * c) := by
  rw [show nI 1 &&& 31 = nI 1 by decide, sl_b (by decide) (by decide)]
theorem sl_8 {c : Nat} : nI c <<< (nI 8 &&& 31) = nI (256 * c) := by
  rw [show nI 8 &&& 31 = nI 8 by decide, sl_b (by decide) (by decide)]
theorem sr_co {c co : Nat} (hc : c < 2 ^ 30) (h : co ≤ 1) : nI c >>> (nI co &&& 31) = nI (c / (co + 1)) := by
  rcases (show co = 0 ∨ co = 1 by omega) with rfl | rfl
  · rw [sr_0 hc, Nat.zero_add, Nat.div_one]
  · exact sr_1 hc
theorem sl_co {c co : Nat} (h : co ≤ 1) : nI c <<< (nI co &&& 31) = nI ((co + 1) * c) := by
  rcases (show co = 0 ∨ co = 1 by omega) with rfl | rfl
  · rw [sl_0, Nat.zero_add, Nat.one_mul]
  · exact sl_1
theorem or_b {a b : Nat} (ha : a < 2 ^ 30) (hb : b < 2 ^ 30) : nI a ||| nI b = nI (a ||| b) ∧ a ||| b < 2 ^ 30 := by
  have h := Nat.or_lt_two_pow ha hb
  refine ⟨?_, h⟩
  apply Int32.toBitVec_inj.mp
  apply BitVec.eq_of_toNat_eq
  have hd : (nI a ||| nI b).toBitVec.toNat = (a % 2 ^ 32) ||| (b % 2 ^ 32) := rfl
  rw [hd]
  show _ = (a ||| b) % 2 ^ 32
  rw [Nat.mod_eq_of_lt (by omega), Nat.mod_eq_of_lt (by omega), Nat.mod_eq_of_lt (by omega)]
theorem nI_nn {a : Nat} (h : a < 2 ^ 31) : ¬ nI a < 0 := by
  rw [Int32.lt_iff_toInt_lt, nI_toInt h]
  show ¬ (a : Int) < 0
  omega
theorem or3_nn {a b c : Nat} (ha : a < 2 ^ 30) (hb : b < 2 ^ 30) (hc : c < 2 ^ 30) : ¬ (nI a ||| nI b) ||| nI c < 0 := by
  rw [(or_b ha hb).1, (or_b (or_b ha hb).2 hc).1]
  have := (or_b (or_b ha hb).2 hc).2
  exact nI_nn (by omega)
theorem cmb2 {h l : Nat} (hh : h < 256) (hl : l < 256) : ((((nI l <<< (nI 0 &&& 31)) ||| (nI h <<< (nI 8 &&& 31))).toUInt32) % 65536).toInt32 = nI (256 * h + l) := by
  rw [show nI 0 &&& 31 = nI 0 by decide, show nI 8 &&& 31 = nI 8 by decide]
  exact cmb hh hl
theorem bt_lo2 {c : Nat} (h : c < 65536) : (nI c >>> (nI 0 &&& 31)).toInt8.toInt32 = bt (c % 256) := by
  rw [show nI 0 &&& 31 = nI 0 by decide]; exact bt_lo h
theorem bt_hi2 {c : Nat} (h : c < 65536) : (nI c >>> (nI 8 &&& 31)).toInt8.toInt32 = bt (c / 256) := by
  rw [show nI 8 &&& 31 = nI 8 by decide]; exact bt_hi h
/-- what answers nothing and only reads -/
abbrev RV (wc : va_W) : Option Value → va_W → Prop := fun v w => v = none ∧ wc = w
theorem v_readV {wc : va_W} {st0 : List Value} (X : VX p s m args meth c cc nL own D dd A) (hs : ∃ wr, ws.Perm (wc ++ wr)) (hr : RunF p l e R s m args below meth c D A nL cells slots 0 0 wc pc st0 st (RV wc))
    (kk : V p l e R s m args below meth c D A nL cells slots Q ws (pc + 3) loc st) : V p l e R s m args below meth c D A nL cells slots Q ws pc loc st0 :=
  v_readG X hs hr (fun v h => by subst h; exact kk)
/-- a row of digits -/
theorem v_getD {z : String × (Nat → Value)} {index : Nat} (X : VX p s m args meth c cc nL own D dd A) (hz : z ∈ zD) (hlink : Cond.fieldLink own index "java/lang/Integer" z.1 "[B" ∈ lw_all) (d : decode cc pc = .ok (.getstatic index, 3)) (kk : ∀ t : Nat, va_T .byte t 100 z.2 A s s.heap → V p l e R s m args below meth c D A nL cells slots Q ws (pc + 3) loc (.ref t :: st)) : V p l e R s m args below meth c D A nL cells slots Q ws pc loc st := by
  intro H locs ls hP hD hS hl
  obtain ⟨t, h1, h2⟩ := X.hG.2.2.1.2.2.2.1 z hz
  exact va_gets X.hx X.hb h1 hS X.hown (X.hts _ hlink) (fun x h => h) d (kk t h2 H locs ls hP hD hS hl)
theorem v_tbld {t N j : Nat} {f : Nat → Value} {i : Int32} {v : Value} (X : VX p s m args meth c cc nL own D dd A) (hT : va_T .byte t N f A s s.heap) (hi : i = nI j) (hj : j < N) (hN : N < 2 ^ 31) (hv : f j = v) (d : decode cc pc = .ok (.baload, 1)) (kk : V p l e R s m args below meth c D A nL cells slots Q ws (pc + 1) loc (v :: st)) : V p l e R s m args below meth c D A nL cells slots Q ws pc loc (.int i :: .ref t :: st) := by
  subst hi
  intro H locs ls hP hD hS hl
  exact va_tb X.hx X.hb hT hS (vp_in_nI hj hN) (by rw [nI_clamp (Nat.lt_trans hj hN)]; exact hv) d (kk H locs ls hP hD hS hl)
/-- a row of bytes, cast to what it is -/
theorem v_castB {index a : Nat} {x : vp_A} (X : VX p s m args meth c cc nL own D dd A) (ha : (a, .inl (dd 2, x)) ∈ ws) (hlink : Cond.classLink own index "[B" ∈ lw_all) (d : decode cc pc = .ok (.checkcast index, 3)) (kk : V p l e R s m args below meth c D A nL cells slots Q ws (pc + 3) loc (.ref a :: st)) : V p l e R s m args below meth c D A nL cells slots Q ws pc loc (.ref a :: st) := by
  intro H locs ls hP hD hS hl
  obtain ⟨q0, hq⟩ := List.getElem?_of_mem ha
  have hnm : s.vm.findClass "[B" = some (dd 2) := (X.hK.2 2 (dd 2, .byte) rfl).2
  exact va_castA X.hx X.hb X.hown (X.hts _ hlink) hP q0 hq hnm d (kk H locs ls hP hD hS hl)
end BASE8
theorem nI_ge0 {a : Nat} (h : a < 2 ^ 31) : 0 ≤ nI a := by
  rw [Int32.le_iff_toInt_le, nI_toInt h]
  show (0 : Int) ≤ a
  omega

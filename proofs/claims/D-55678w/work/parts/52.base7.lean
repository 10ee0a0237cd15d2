/-! BASE7: more rows: null and optional references, shifts, texts of the class file, inherited methods -/
section BASE7
variable {p : Program} {l : Launch} {e : Env} {R : Room} {s : State} {m : MethodId} {args : Array Value} {below : List Frame} {meth : Method} {c : Code} {cc : ByteArray} {nL : Nat} {own : String} {D : va_G} {dd : Nat → ClassId} {A : Nat → Prop} {cells slots : Nat} {Q : State → Prop} {ws : va_W} {pc : Nat} {loc : List (Nat × Value)} {st : List Value}
theorem va_rf_ref (r : Option Nat) : va_rf r = .null ∨ ∃ a, va_rf r = .ref a := by
  cases r with
  | none => exact Or.inl rfl
  | some a => exact Or.inr ⟨a, rfl⟩
theorem v_aconst_null (X : VX p s m args meth c cc nL own D dd A) (d : decode cc pc = .ok (.aconst_null, 1)) (k : V p l e R s m args below meth c D A nL cells slots Q ws (pc + 1) loc (.null :: st)) : V p l e R s m args below meth c D A nL cells slots Q ws pc loc st :=
  fun H locs ls hP hD hS hl => lv_null X.hx X.hb d (k H locs ls hP hD hS hl)
theorem v_aload_nV {f : Fin 4} {i : Nat} {x : Value} (X : VX p s m args meth c cc nL own D dd A) (d : decode cc pc = .ok (.aload_n f, 1)) (hi : (f : Nat) = i) (q : Nat) (hq : loc[q]? = some (i, x)) (hx : x = .null ∨ ∃ a, x = .ref a) (k : V p l e R s m args below meth c D A nL cells slots Q ws (pc + 1) loc (x :: st)) : V p l e R s m args below meth c D A nL cells slots Q ws pc loc st := by
  rcases hx with rfl | ⟨a, rfl⟩
  · exact fun H locs ls hP hD hS hl => lv_aload_nN X.hx X.hb d hi (lv_at hl q hq) (k H locs ls hP hD hS hl)
  · exact v_aload_n X d hi q hq k
theorem v_aloadV {i : Nat} {x : Value} (X : VX p s m args meth c cc nL own D dd A) (d : decode cc pc = .ok (.aload i, 2)) (q : Nat) (hq : loc[q]? = some (i, x)) (hx : x = .null ∨ ∃ a, x = .ref a) (k : V p l e R s m args below meth c D A nL cells slots Q ws (pc + 2) loc (x :: st)) : V p l e R s m args below meth c D A nL cells slots Q ws pc loc st := by
  rcases hx with rfl | ⟨a, rfl⟩
  · exact fun H locs ls hP hD hS hl => lv_aloadN X.hx X.hb d (lv_at hl q hq) (k H locs ls hP hD hS hl)
  · exact v_aload X d q hq k
theorem v_astore_nV {f : Fin 4} {i : Nat} {x : Value} {loc' : List (Nat × Value)} (X : VX p s m args meth c cc nL own D dd A) (d : decode cc pc = .ok (.astore_n f, 1)) (hi : (f : Nat) = i) (hx : x = .null ∨ ∃ a, x = .ref a) (hn : i < nL) (h : (i, x) :: loc.filter (fun q => !(q.1 == i) && !(q.1 + 1 == i && q.2.category == 2)) = loc') (k : V p l e R s m args below meth c D A nL cells slots Q ws (pc + 1) loc' st) : V p l e R s m args below meth c D A nL cells slots Q ws pc loc (x :: st) := by
  rcases hx with rfl | ⟨a, rfl⟩
  · exact fun H locs ls hP hD hS hl => lv_astore_nN X.hx X.hb d hi hl hn h (fun ls' hl' => k H locs ls' hP hD hS hl')
  · exact v_astore_n X d hi hn h k
theorem v_caM {a n j : Nat} {f : Nat → Int32} {i : Int32} (X : VX p s m args meth c cc nL own D dd A) (ha : (a, .inl (dd 1, n, .inl f)) ∈ ws) (hi : i = nI j) (hj : j < n) (hn : n < 2 ^ 31) (d : decode cc pc = .ok (.caload, 1)) (kk : V p l e R s m args below meth c D A nL cells slots Q ws (pc + 1) loc (.int (f j) :: st)) : V p l e R s m args below meth c D A nL cells slots Q ws pc loc (.int i :: .ref a :: st) := by
  obtain ⟨q0, h0⟩ := List.getElem?_of_mem ha
  exact v_cald X q0 h0 hi hj hn d kk
theorem v_dup_x1 {va vb : Value} (X : VX p s m args meth c cc nL own D dd A) (d : decode cc pc = .ok (.dup_x1, 1)) (hva : va.category = 1) (hvb : vb.category = 1) (k : V p l e R s m args below meth c D A nL cells slots Q ws (pc + 1) loc (va :: vb :: va :: st)) : V p l e R s m args below meth c D A nL cells slots Q ws pc loc (va :: vb :: st) :=
  fun H locs ls hP hD hS hl => lv_dup_x1 X.hx X.hb d hva hvb (k H locs ls hP hD hS hl)
theorem v_ishr {x y : Int32} (X : VX p s m args meth c cc nL own D dd A) (d : decode cc pc = .ok (.ishr, 1)) (k : V p l e R s m args below meth c D A nL cells slots Q ws (pc + 1) loc (.int (x >>> (y &&& 31)) :: st)) : V p l e R s m args below meth c D A nL cells slots Q ws pc loc (.int y :: .int x :: st) :=
  fun H locs ls hP hD hS hl => lv_ishr X.hx X.hb d (k H locs ls hP hD hS hl)
theorem v_ishl {x y : Int32} (X : VX p s m args meth c cc nL own D dd A) (d : decode cc pc = .ok (.ishl, 1)) (k : V p l e R s m args below meth c D A nL cells slots Q ws (pc + 1) loc (.int (x <<< (y &&& 31)) :: st)) : V p l e R s m args below meth c D A nL cells slots Q ws pc loc (.int y :: .int x :: st) :=
  fun H locs ls hP hD hS hl => lv_ishl X.hx X.hb d (k H locs ls hP hD hS hl)
theorem v_ior {x y : Int32} (X : VX p s m args meth c cc nL own D dd A) (d : decode cc pc = .ok (.ior, 1)) (k : V p l e R s m args below meth c D A nL cells slots Q ws (pc + 1) loc (.int (x ||| y) :: st)) : V p l e R s m args below meth c D A nL cells slots Q ws pc loc (.int y :: .int x :: st) :=
  fun H locs ls hP hD hS hl => lv_ior X.hx X.hb d (k H locs ls hP hD hS hl)
theorem v_ineg {x : Int32} (X : VX p s m args meth c cc nL own D dd A) (d : decode cc pc = .ok (.ineg, 1)) (k : V p l e R s m args below meth c D A nL cells slots Q ws (pc + 1) loc (.int (-x) :: st)) : V p l e R s m args below meth c D A nL cells slots Q ws pc loc (.int x :: st) :=
  fun H locs ls hP hD hS hl => lv_ineg X.hx X.hb d (k H locs ls hP hD hS hl)
theorem v_i2b {x : Int32} (X : VX p s m args meth c cc nL own D dd A) (d : decode cc pc = .ok (.i2b, 1)) (k : V p l e R s m args below meth c D A nL cells slots Q ws (pc + 1) loc (.int x.toInt8.toInt32 :: st)) : V p l e R s m args below meth c D A nL cells slots Q ws pc loc (.int x :: st) :=
  fun H locs ls hP hD hS hl => lv_i2b X.hx X.hb d rfl (k H locs ls hP hD hS hl)
theorem v_aretV {post : Option Value → va_W → Prop} {x : Value} {rt : FieldType} (X : VX p s m args meth c cc nL own D dd A) (hr : meth.sig.returnType = some rt) (hrt : (∃ n, rt = .object n) ∨ ∃ t, rt = .array t) (hx : x = .null ∨ ∃ a, x = .ref a) (d : decode cc pc = .ok (.areturn, 1)) (h : post (some x) ws) : V p l e R s m args below meth c D A nL cells slots (MQ below (QW D A post) args s cells slots A) ws pc loc [x] :=
  fun H locs ls hP hD hS hl => W.aret X.hx X.hb hr hrt hx (fun t ht hW => ⟨⟨_, ws, rfl, h, by rw [ht]; exact hP, hD⟩, hS.F ht⟩) hS.2.2 d X.hlk
theorem v_acmp_ne {rx ry : Option Nat} {off : Int} (X : VX p s m args meth c cc nL own D dd A) (tgt : Nat) (d : decode cc pc = .ok (.if_acmp .ne off, 3)) (ht : (pc : Int) + off = (tgt : Int)) (kt : ¬ rx = ry → V p l e R s m args below meth c D A nL cells slots Q ws tgt loc st) (kf : rx = ry → V p l e R s m args below meth c D A nL cells slots Q ws (pc + 3) loc st) : V p l e R s m args below meth c D A nL cells slots Q ws pc loc (va_rf ry :: va_rf rx :: st) :=
  fun H locs ls hP hD hS hl => lv_acmp_ne X.hx X.hb d ht (fun h => kt h H locs ls hP hD hS hl) (fun h => kf h H locs ls hP hD hS hl)
theorem v_instS {index a ci : Nat} {fs : List Value} {qc : vw_C} (X : VX p s m args meth c cc nL own D dd A) (he : (a, .inr (ci, fs)) ∈ ws) (hc : vwCl[ci]? = some qc) (hlink : Cond.classLink own index qc.1 ∈ lw_all) (d : decode cc pc = .ok (.instanceof index, 3)) (kk : V p l e R s m args below meth c D A nL cells slots Q ws (pc + 3) loc (.int 1 :: st)) : V p l e R s m args below meth c D A nL cells slots Q ws pc loc (.ref a :: st) := by
  intro H locs ls hP hD hS hl
  obtain ⟨k, hk⟩ := List.getElem?_of_mem he
  obtain ⟨cell, h1, h2, h3⟩ := va_recv X.hK hP hc hk
  exact va_instS X.hx X.hb X.hown (X.hts _ hlink) (X.hK.1 ci _ hc).2 ⟨cell, h1, h2, h3⟩ d (kk H locs ls hP hD hS hl)
/-- an array of objects takes one of our own -/
theorem v_aastO {a n j v : Nat} {vs : List Value} {f : Nat → Option Nat} {i : Int32} {cB : ClassId} {ci : Nat} {qc : vw_C} {E : String} {ws' : va_W} (X : VX p s m args meth c cc nL own D dd A) (q0 t0 : Nat) (ht : (tysG dd)[t0]? = some (cB, .object E)) (ha : ws[q0]? = some (a, .inl (cB, n, .inr (.inr (.inr (.inr f)))))) (hv : (v, .inr (ci, vs)) ∈ ws) (hc : vwCl[ci]? = some qc) (hca : Cond.castable qc.1 E ∈ lw_tbl) (hi : i = nI j) (hj : j < n) (hn : n < 2 ^ 31) (d : decode cc pc = .ok (.aastore, 1)) (hw : ws.set q0 (a, .inl (cB, n, .inr (.inr (.inr (.inr (va_up f j (some v))))))) = ws') (kk : V p l e R s m args below meth c D A nL cells slots Q ws' (pc + 1) loc st) : V p l e R s m args below meth c D A nL cells slots Q ws pc loc (.ref v :: .int i :: .ref a :: st) := by
  subst hi; subst hw
  intro H locs ls hP hD hS hl
  obtain ⟨qk, hk⟩ := List.getElem?_of_mem hv
  refine va_astqO X.hx X.hb X.hK hP hD hS q0 t0 qk ci ha ht (X.nw hca rfl) hk hc (vp_in_nI hj hn) d (fun H1 locs1 => ?_)
  rw [nI_clamp (Nat.lt_trans hj hn)]
  exact fun hP hD hS => kk H1 locs1 ls hP hD hS hl
theorem lw_U {own : String} {idx : Nat} {C owner : String} {x y : MethodName} {b : ByteArray} {L : Nat} {r : Option FieldType} (h1 : Cond.methodLink own idx x ∈ lw_all) (h2 : Cond.sameMethod x.cls owner x.name x.desc ∈ lw_all) (h3 : Cond.selects C x y ∈ lw_all) (h4 : Cond.instanceMethod y ∈ lw_all) (h5 : Cond.initialized y.cls ∈ lw_all) (h6 : Cond.code y b L r ∈ lw_all) : GoodIn lw_all (va_wsU own idx C owner x y (ws_ y b L r)) := by
  refine lw_app ?_ (lw_meth h6)
  intro w hw
  simp only [List.mem_cons, List.not_mem_nil, or_false] at hw
  rcases hw with e | e | e | e | e
  · rw [e]; exact h1
  · rw [e]; exact h2
  · rw [e]; exact h3
  · rw [e]; exact h4
  · rw [e]; exact h5
theorem lw_SU {own : String} {idx : Nat} {y : MethodName} {b : ByteArray} {L : Nat} {r : Option FieldType} (h1 : Cond.methodLink own idx y ∈ lw_all) (h2 : Cond.sameMethod y.cls y.cls y.name y.desc ∈ lw_all) (h3 : Cond.superclass own y.cls ∈ lw_all) (h4 : Cond.instanceMethod y ∈ lw_all) (h5 : Cond.initialized y.cls ∈ lw_all) (h6 : Cond.code y b L r ∈ lw_all) : GoodIn lw_all (va_wsSU own idx y (ws_ y b L r)) := by
  refine lw_app ?_ (lw_meth h6)
  intro w hw
  simp only [List.mem_cons, List.not_mem_nil, or_false] at hw
  rcases hw with e | e | e | e | e
  · rw [e]; exact h1
  · rw [e]; exact h2
  · rw [e]; exact h3
  · rw [e]; exact h4
  · rw [e]; exact h5
/-- an inherited method, on an object of a class below -/
theorem r_U {C owner : String} {index : Nat} {x y : MethodName} {cd : ByteArray} {nL' : Nat} {ret : Option FieldType} {fr mc ms lc n : Nat} {b : Nat} {As st0 : List Value} {wc : va_W} {post : Option Value → va_W → Prop} (X : VX p s m args meth c cc nL own D dd A)
    (hM : MW l D dd y cd nL' ret fr mc ms lc (.ref b :: As) wc post) {fs : List Value} {ci : Nat} {qc : vw_C} (he : (b, .inr (ci, fs)) ∈ wc) (hc : vwCl[ci]? = some qc) (hC : qc.1 = C)
    (hG : GoodIn lw_all (va_wsU own index C owner x y (ws_ y cd nL' ret))) (hyx : y = ⟨owner, x.name, x.desc⟩) (hd : owner ≠ "java/lang/invoke/MethodHandle" ∧ owner ≠ "java/lang/invoke/VarHandle" ∧ (parseMethodDescriptor x.desc).map (fun d => d.parameters.length) = some n) (hR : fr + 1 ≤ R.frames ∧ 8 + (nL' + 11) + lc ≤ R.locals)
    (hn : As.length = n) (hst : st0 = As.reverse ++ .ref b :: st) (hW : (st.map fun v => v.category).sum ≤ 8) (d : decode cc pc = .ok (.invokevirtual index, 3)) (hf : cells + mc ≤ R.cells ∧ slots + ms ≤ R.slots) : RunF p l e R s m args below meth c D A nL cells slots mc ms wc pc st0 st post := by
  subst hst; subst hC
  intro H locs ls hP hD hS hls
  obtain ⟨k, hk⟩ := List.getElem?_of_mem he
  have hA1 := v_A1 X hD hS
  exact ⟨_, va_runU (As := As) (rest := st) ⟨X.hx, X.hb, X.hml, X.hown, X.hts⟩ (hM H.size) (va_cwU n X.hts hG rfl rfl rfl hyx hd hR) ⟨MW.blind, va_recv X.hK hP hc hk, fun U hU hW' => ⟨rfl, pre_to X hP hD hS hA1 U hU hW'⟩⟩ rfl hn hls rfl (lv_room hW) d hf⟩
end BASE7

/-! BASE6: worlds of chunks; loops that make cells; objects of the JDK's classes that are thrown; more rows -/
def fl : List va_W → va_W
  | [] => []
  | [a] => a
  | a :: b :: r => a ++ fl (b :: r)
theorem fl_flat : ∀ cs : List va_W, fl cs = cs.flatten
  | [] => rfl
  | [a] => by simp [fl]
  | a :: b :: r => by
    show a ++ fl (b :: r) = _
    rw [fl_flat (b :: r)]
    rfl
theorem fl_perm {cs cs' : List va_W} (h : cs.Perm cs') : (fl cs).Perm (fl cs') := by rw [fl_flat, fl_flat]; exact h.flatten
theorem fl_app (a b : List va_W) : fl (a ++ b) = fl a ++ fl b := by rw [fl_flat, fl_flat, fl_flat, List.flatten_append]
theorem fl_split (k : Nat) (cs : List va_W) : (fl cs).Perm (fl (cs.take k) ++ fl (cs.drop k)) := by
  rw [← fl_app, List.take_append_drop]
theorem mem_fl {cs : List va_W} {c : va_W} {q : Nat × va_E} (i : Nat) (hi : cs[i]? = some c) (h : q ∈ c) : q ∈ fl cs := by
  rw [fl_flat]; exact List.mem_flatten.mpr ⟨c, List.mem_of_getElem? hi, h⟩
/-- the k-th goes to the head -/
def mv {α : Type} (k : Nat) (l : List α) : List α := match l[k]? with
  | some a => a :: l.eraseIdx k
  | none => l
theorem mv_perm {α : Type} : ∀ (k : Nat) (l : List α), l.Perm (mv k l)
  | k, [] => by cases k <;> exact List.Perm.refl _
  | 0, a :: l => List.Perm.refl _
  | k + 1, a :: l => by
    have ih := mv_perm k l
    unfold mv at ih
    show (a :: l).Perm (match l[k]? with | some b => b :: a :: l.eraseIdx k | none => a :: l)
    cases h : l[k]? with
    | none => exact List.Perm.refl _
    | some b =>
      rw [h] at ih
      exact (List.Perm.cons a ih).trans (List.Perm.swap b a _)
theorem isNw_on {w : Cond} (h : isNw w = true) : w.onTables = true := by cases w <;> first | rfl | (simp [isNw] at h)
/-- a word that any method has -/
def Wd (w : Cond) : Prop := (w ∈ lw_all ∨ w ∈ lw_tbl ∧ isNw w = true) ∧ vx_ot w = true
def WdN (w : Cond) : Prop := vx_no w = true → Wd w
theorem wd_a {w : Cond} (h : w ∈ lw_all) (h2 : vx_ot w = true) : WdN w := fun _ => ⟨Or.inl h, h2⟩
theorem wd_t {w : Cond} (h : w ∈ lw_tbl) (h1 : isNw w = true) (h2 : vx_ot w = true) : WdN w := fun _ => ⟨Or.inr ⟨h, h1⟩, h2⟩
theorem wd_x {w : Cond} (h : vx_no w = false) : WdN w := fun z => absurd (h.symm.trans z) (by decide)
theorem wd_nil : ∀ w ∈ ([] : List Cond), WdN w := fun _ h => nomatch h
theorem wd_cons {w : Cond} {L : List Cond} (h : WdN w) (t : ∀ x ∈ L, WdN x) : ∀ x ∈ w :: L, WdN x := List.forall_mem_cons.mpr ⟨h, t⟩
theorem wd_app {A B : List Cond} (h : ∀ x ∈ A, WdN x) (t : ∀ x ∈ B, WdN x) : ∀ x ∈ A ++ B, WdN x := List.forall_mem_append.mpr ⟨h, t⟩
theorem wd_f {L : List Cond} (h : ∀ x ∈ L, WdN x) : ∀ x ∈ L.filter vx_no, Wd x := fun x hx => h x (List.mem_filter.mp hx).1 (List.mem_filter.mp hx).2
theorem wd_n {L : List Cond} (h : ∀ x ∈ L, WdN x) (h2 : ∀ x ∈ L, vx_no x = true) : ∀ x ∈ L, Wd x := fun x hx => h x hx (h2 x hx)
section BASE6
variable {p : Program} {l : Launch} {e : Env} {R : Room} {s : State} {m : MethodId} {args : Array Value} {below : List Frame} {meth : Method} {c : Code} {cc : ByteArray} {nL : Nat} {own : String} {D : va_G} {dd : Nat → ClassId} {A : Nat → Prop} {cells slots : Nat} {Q : State → Prop} {ws : va_W} {pc : Nat} {loc : List (Nat × Value)} {st : List Value}
theorem v_flj {a b : List va_W} (k : V p l e R s m args below meth c D A nL cells slots Q (fl (a ++ b)) pc loc st) : V p l e R s m args below meth c D A nL cells slots Q (fl a ++ fl b) pc loc st := by rw [fl_app] at k; exact k
/-- a loop that makes cells: room by the loop's state -/
theorem v_loopR1 {S : Type} (cl sl : S → Nat) (w : S → va_W) (lo : S → List (Nat × Value)) (I : S → Prop) (μ : S → Nat) (hs : ∀ a, I a → (∀ b, I b → μ b < μ a → V p l e R s m args below meth c D A nL (cl b) (sl b) Q (w b) pc (lo b) st) → V p l e R s m args below meth c D A nL (cl a) (sl a) Q (w a) pc (lo a) st) : ∀ a, I a → V p l e R s m args below meth c D A nL (cl a) (sl a) Q (w a) pc (lo a) st := by
  have key : ∀ (n : Nat) (a : S), μ a < n → I a → V p l e R s m args below meth c D A nL (cl a) (sl a) Q (w a) pc (lo a) st := by
    intro n
    induction n with
    | zero => intro a h; omega
    | succ n ih => exact fun a h hI => hs a hI (fun b hb hlt => ih b (by omega) hb)
  exact fun a h => key (μ a + 1) a (Nat.lt_succ_self _) h
theorem v_loopR2 {S T : Type} (cl sl : S → T → Nat) (w : S → T → va_W) (lo : S → T → List (Nat × Value)) (I : S → T → Prop) (μ : S → T → Nat) (hs : ∀ a b, I a b → (∀ a' b', I a' b' → μ a' b' < μ a b → V p l e R s m args below meth c D A nL (cl a' b') (sl a' b') Q (w a' b') pc (lo a' b') st) → V p l e R s m args below meth c D A nL (cl a b) (sl a b) Q (w a b) pc (lo a b) st) : ∀ a b, I a b → V p l e R s m args below meth c D A nL (cl a b) (sl a b) Q (w a b) pc (lo a b) st :=
  fun a b h => v_loopR1 (S := S × T) (fun q => cl q.1 q.2) (fun q => sl q.1 q.2) (fun q => w q.1 q.2) (fun q => lo q.1 q.2) (fun q => I q.1 q.2) (fun q => μ q.1 q.2) (fun q hq ih => hs q.1 q.2 hq (fun a' b' h1 h2 => ih (a', b') h1 h2)) (a, b) h
theorem v_loopR3 {S T Z : Type} (cl sl : S → T → Z → Nat) (w : S → T → Z → va_W) (lo : S → T → Z → List (Nat × Value)) (I : S → T → Z → Prop) (μ : S → T → Z → Nat) (hs : ∀ a b z, I a b z → (∀ a' b' z', I a' b' z' → μ a' b' z' < μ a b z → V p l e R s m args below meth c D A nL (cl a' b' z') (sl a' b' z') Q (w a' b' z') pc (lo a' b' z') st) → V p l e R s m args below meth c D A nL (cl a b z) (sl a b z) Q (w a b z) pc (lo a b z) st) : ∀ a b z, I a b z → V p l e R s m args below meth c D A nL (cl a b z) (sl a b z) Q (w a b z) pc (lo a b z) st :=
  fun a b z h => v_loopR1 (S := S × T × Z) (fun q => cl q.1 q.2.1 q.2.2) (fun q => sl q.1 q.2.1 q.2.2) (fun q => w q.1 q.2.1 q.2.2) (fun q => lo q.1 q.2.1 q.2.2) (fun q => I q.1 q.2.1 q.2.2) (fun q => μ q.1 q.2.1 q.2.2) (fun q hq ih => hs q.1 q.2.1 q.2.2 hq (fun a' b' z' h1 h2 => ih (a', b', z') h1 h2)) (a, b, z) h
theorem hat_of {X : VX p s m args meth c cc nL own D dd A} {L : List Cond} (h : ∀ w ∈ L, Wd w) : (∀ w ∈ L, w.before args s = true) ∧ ∀ w ∈ L, vx_ot w = true := by
  refine ⟨fun w hw => ?_, fun w hw => (h w hw).2⟩
  rcases (h w hw).1 with h1 | ⟨h1, h2⟩
  · exact X.hts w h1
  · exact va_Nw.use (isNw_on h2) (X.nw h1 h2)
/-- 'throw new E()', E a class of the JDK's whose making passes names on -/
theorem v_throw0 {cls : String} {names : List String} {ik ic mc ms : Nat} {post : Option Value → va_W → Prop} {xpost : Nat → String → va_W → Prop} (X : VX p s m args meth c cc nL own D dd A) (hst : l.stackTraces = false) (hcls : Bundle.fit cls = true) (hnames : ∀ n ∈ names, Bundle.fit n = true)
    (hat : ∀ w ∈ Cond.classLink own ik cls :: Cond.initialized cls :: vx_at0 own ic cls names, Wd w)
    (d0 : decode cc pc = .ok (.new ik, 3)) (d3 : decode cc (pc + 3) = .ok (.dup, 1)) (d4 : decode cc (pc + 4) = .ok (.invokespecial ic, 3)) (d7 : decode cc (pc + 7) = .ok (.athrow, 1))
    (hout : ∀ x ∈ c.exceptionTable.toList, covers x (pc + 7) = false) (hR : names.length + 3 < R.frames ∧ 13 * (names.length + 1) + 50 ≤ R.locals) (hW : (st.map fun v => v.category).sum ≤ 8) (hc : cells + 1 ≤ R.cells ∧ slots + 6 ≤ R.slots) (hm : cells + 1 ≤ mc ∧ slots + 6 ≤ ms) (h : ∀ q, xpost q cls ws) :
    V p l e R s m args below meth c D A nL cells slots (vx_MQ below (QW D A post) (XQ D A xpost) args s mc ms A) ws pc loc st := by
  intro H locs ls hP hD hS hl
  obtain ⟨ha, hg⟩ := hat_of (X := X) hat
  refine vx_throw0 X.hx X.hb hst X.hown hcls hnames (ha _ List.mem_cons_self) (ha _ (List.mem_cons_of_mem _ List.mem_cons_self)) (fun w hw => ha w (List.mem_cons_of_mem _ (List.mem_cons_of_mem _ hw))) hg X.hG.2.2.1.2.1 X.hG.2.2.1.2.2.1 hS (hl.1.trans X.hml.symm) d0 d3 d4 d7 hout hR.1 (by omega) hc.1 hc.2 X.hlk (fun t _ hz hk q => ?_) hS.2.2 hm.1 hm.2
  exact ⟨⟨ws, h q, P_mem.mpr fun z hz2 => (P_mem.mp hP z hz2).kept (hk z.1 (P_mem.mp hP z hz2).lt), hD⟩, Nat.le_trans hS.1 hz, fun z h1 h2 => (hk z (Nat.lt_of_lt_of_le h1 hS.1)).trans (hS.2.1 z h1 h2)⟩
/-- 'new E()' -/
theorem v_make0 {cls : String} {names : List String} {ik ic ci : Nat} {T0 : u_T} (X : VX p s m args meth c cc nL own D dd A) (hst : l.stackTraces = false) (hcls : Bundle.fit cls = true) (hnames : ∀ n ∈ names, Bundle.fit n = true)
    (hat : ∀ w ∈ Cond.classLink own ik cls :: Cond.initialized cls :: vx_at0 own ic cls names, Wd w) (hcl : vwCl[ci]? = some (cls, T0, 0))
    (d0 : decode cc pc = .ok (.new ik, 3)) (d3 : decode cc (pc + 3) = .ok (.dup, 1)) (d4 : decode cc (pc + 4) = .ok (.invokespecial ic, 3))
    (hR : names.length + 3 < R.frames ∧ 13 * (names.length + 1) + 50 ≤ R.locals) (hW : (st.map fun v => v.category).sum ≤ 8) (hc : cells + 1 ≤ R.cells ∧ slots + 6 ≤ R.slots)
    (kk : ∀ q : Nat, V p l e R s m args below meth c D A nL (cells + 1) (slots + 6) Q (ws ++ [(q, .inr (ci, []))]) (pc + 7) loc (.ref q :: st)) : V p l e R s m args below meth c D A nL cells slots Q ws pc loc st := by
  intro H locs ls hP hD hS hl
  obtain ⟨ha, hg⟩ := hat_of (X := X) hat
  exact vx_make0 X.hx X.hb hst X.hown hcls hnames (ha _ List.mem_cons_self) (ha _ (List.mem_cons_of_mem _ List.mem_cons_self)) (fun w hw => ha w (List.mem_cons_of_mem _ (List.mem_cons_of_mem _ hw))) hg X.hG.2.2.1.2.1 X.hG.2.2.1.2.2.1 hS (hl.1.trans X.hml.symm) d0 d3 d4 X.hK hP hD X.hA hcl hR.1 (by omega) hc.1 hc.2 (fun q H1 hP1 hD1 hS1 => kk q H1 locs ls hP1 hD1 hS1 hl)
/-- a static of which only 'a reference or null' is known -/
theorem v_getsq {ref : String} {index : Nat} (X : VX p s m args meth c cc nL own D dd A) (hlink : Cond.fieldLink own index "jdk/internal/util/Preconditions" "SIOOBE_FORMATTER" "Ljava/util/function/BiFunction;" ∈ lw_all) (d : decode cc pc = .ok (.getstatic index, 3)) (kk : ∀ r : Option Nat, V p l e R s m args below meth c D A nL cells slots Q ws (pc + 3) loc (va_rf r :: st)) : V p l e R s m args below meth c D A nL cells slots Q ws pc loc st := by
  intro H locs ls hP hD hS hl
  rcases X.hG.2.2.1.2.2.2.2.1 with hZ | ⟨t, hZ⟩
  · exact va_gets X.hx X.hb hZ hS X.hown (X.hts _ hlink) (fun x h => h) d (kk none H locs ls hP hD hS hl)
  · exact va_gets X.hx X.hb hZ hS X.hown (X.hts _ hlink) (fun x h => h) d (kk (some t) H locs ls hP hD hS hl)
end BASE6

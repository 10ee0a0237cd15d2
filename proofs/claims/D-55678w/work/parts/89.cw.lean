/-! the component's whole world against the abstract state -/
abbrev celw (dd : Nat → ClassId) (x sa ca pa n C np : Nat) (f cf : Nat → Int32) (pf : Nat → Option Nat) : va_W := [(x, .inr (1, [.ref sa, .int (nI n), .ref ca, .int (nI C), .ref pa, .int (nI np)])), (sa, .inl (dd 0, 9, .inl f)), (ca, .inl (dd 0, 4, .inl cf)), (pa, .inl (dd 4, 4, .inr (.inr (.inr (.inr pf)))))]
abbrev dyw (dd : Nat → ClassId) (x da db : Nat) (la : Int32) (df dg : Nat → Int32) : va_W := [(x, .inr (3, [.ref da, .ref db, .int la])), (da, .inl (dd 0, 8, .inl df)), (db, .inl (dd 0, 8, .inl dg))]
abbrev thw (dd : Nat → ClassId) (x : Nat) (f : Nat → Int32) : va_W := [(x, .inl (dd 0, 9, .inl f))]
abbrev sbw (dd : Nat → ClassId) (x va co : Nat) (ml : Int32) (cnt n : Nat) (f : Nat → Int32) : va_W := [(x, .inr (12, [.ref va, .int (nI co), .int ml, .int (nI cnt)])), (va, .inl (dd 2, n, .inl f))]
abbrev rdw (dd : Nat → ClassId) (x tb wa na p k : Nat) (s : RS) (wf : Nat → Option Nat) (nf : Nat → Int32) : va_W := [(x, .inr (4, [.ref tb, .int (nI p), .int (nI k), .ref wa, .ref na, .int s.1, .int s.2.1, .int (nI s.2.2)])), (wa, .inl (dd 5, 60, .inr (.inr (.inr (.inr wf))))), (na, .inl (dd 0, 120, .inl nf))]
/-- cellars one behind the other, each a block -/
def CelsOk (dd : Nat → ClassId) (tl : va_W) : List Blk → List Nat → va_W → Prop
  | [], [], K => K = []
  | b :: hs, x :: xs, K => ∃ (sa ca pa n C np : Nat) (f cf : Nat → Int32) (pf : Nat → Option Nat) (K2 : va_W), K = celw dd x sa ca pa n C np f cf pf ++ K2 ∧ CelOk dd tl b n C np f cf pf ∧ CelsOk dd tl hs xs K2
  | _, _, _ => False
/-- cellars not in use -/
def CelsAny (dd : Nat → ClassId) : List Nat → va_W → Prop
  | [], K => K = []
  | x :: xs, K => ∃ (sa ca pa n C np : Nat) (f cf : Nat → Int32) (pf : Nat → Option Nat) (K2 : va_W), K = celw dd x sa ca pa n C np f cf pf ++ K2 ∧ CelsAny dd xs K2
theorem CelsOk.mono {dd : Nat → ClassId} {tl tl' : va_W} (hm : ∀ q ∈ tl, q ∈ tl') : ∀ {hs : List Blk} {xs : List Nat} {K : va_W}, CelsOk dd tl hs xs K → CelsOk dd tl' hs xs K
  | [], [], _, h => h
  | b :: hs, x :: xs, K, h => by
    obtain ⟨sa, ca, pa, n, C, np, f, cf, pf, K2, h1, h2, h3⟩ := h
    exact ⟨sa, ca, pa, n, C, np, f, cf, pf, K2, h1, h2.mono hm, CelsOk.mono hm h3⟩
  | [], _ :: _, _, h => h.elim
  | _ :: _, [], _, h => h.elim
theorem CelsOk.len {dd : Nat → ClassId} {tl : va_W} : ∀ {hs : List Blk} {xs : List Nat} {K : va_W}, CelsOk dd tl hs xs K → xs.length = hs.length
  | [], [], _, _ => rfl
  | _ :: hs, _ :: xs, _, h => by
    obtain ⟨_, _, _, _, _, _, _, _, _, _, _, _, h3⟩ := h
    simp only [List.length_cons, h3.len]
  | [], _ :: _, _, h => h.elim
  | _ :: _, [], _, h => h.elim
/-- one more behind the others -/
theorem CelsOk.snoc {dd : Nat → ClassId} {tl : va_W} {b : Blk} {x sa ca pa n C np : Nat} {f cf : Nat → Int32} {pf : Nat → Option Nat} (hb : CelOk dd tl b n C np f cf pf) : ∀ {hs : List Blk} {xs : List Nat} {K : va_W}, CelsOk dd tl hs xs K → CelsOk dd tl (hs ++ [b]) (xs ++ [x]) (K ++ celw dd x sa ca pa n C np f cf pf)
  | [], [], K, h => by
    have h : K = [] := h
    subst h
    exact ⟨sa, ca, pa, n, C, np, f, cf, pf, [], by simp, hb, rfl⟩
  | b2 :: hs, x2 :: xs, K, h => by
    obtain ⟨sa2, ca2, pa2, n2, C2, np2, f2, cf2, pf2, K2, h1, h2, h3⟩ := h
    subst h1
    exact ⟨sa2, ca2, pa2, n2, C2, np2, f2, cf2, pf2, _, by rw [List.append_assoc], h2, CelsOk.snoc hb h3⟩
  | [], _ :: _, _, h => h.elim
  | _ :: _, [], _, h => h.elim
/-- the last one taken off -/
theorem CelsOk.unsnoc {dd : Nat → ClassId} {tl : va_W} : ∀ {hs : List Blk} {xs : List Nat} {K : va_W}, CelsOk dd tl hs xs K → hs ≠ [] → ∃ (hs2 : List Blk) (b : Blk) (xs2 : List Nat) (x sa ca pa n C np : Nat) (f cf : Nat → Int32) (pf : Nat → Option Nat) (K2 : va_W), hs = hs2 ++ [b] ∧ xs = xs2 ++ [x] ∧ K = K2 ++ celw dd x sa ca pa n C np f cf pf ∧ CelOk dd tl b n C np f cf pf ∧ CelsOk dd tl hs2 xs2 K2
  | [], _, _, _, hne => absurd rfl hne
  | [b], [x], K, h, _ => by
    obtain ⟨sa, ca, pa, n, C, np, f, cf, pf, K2, h1, h2, h3⟩ := h
    have h3 : K2 = [] := h3
    subst h3
    exact ⟨[], b, [], x, sa, ca, pa, n, C, np, f, cf, pf, [], rfl, rfl, by rw [h1]; simp, h2, rfl⟩
  | b :: b2 :: hs, x :: xs, K, h, _ => by
    obtain ⟨sa, ca, pa, n, C, np, f, cf, pf, K2, h1, h2, h3⟩ := h
    obtain ⟨hs3, b3, xs3, x3, sa3, ca3, pa3, n3, C3, np3, f3, cf3, pf3, K3, e1, e2, e3, e4, e5⟩ := CelsOk.unsnoc h3 (by simp)
    refine ⟨b :: hs3, b3, x :: xs3, x3, sa3, ca3, pa3, n3, C3, np3, f3, cf3, pf3, celw dd x sa ca pa n C np f cf pf ++ K3, by rw [e1]; rfl, by rw [e2]; rfl, by rw [h1, e3, List.append_assoc], e4, sa, ca, pa, n, C, np, f, cf, pf, K3, rfl, h2, e5⟩
  | [_], [], _, h, _ => h.elim
  | [_], _ :: _ :: _, _, h, _ => by
    obtain ⟨_, _, _, _, _, _, _, _, _, _, _, _, h3⟩ := h
    exact h3.elim
  | _ :: _ :: _, [], _, h, _ => h.elim
theorem CelsAny.snoc {dd : Nat → ClassId} {x sa ca pa n C np : Nat} {f cf : Nat → Int32} {pf : Nat → Option Nat} : ∀ {xs : List Nat} {K : va_W}, CelsAny dd xs K → CelsAny dd (xs ++ [x]) (K ++ celw dd x sa ca pa n C np f cf pf)
  | [], K, h => by
    have h : K = [] := h
    subst h
    exact ⟨sa, ca, pa, n, C, np, f, cf, pf, [], by simp, rfl⟩
  | x2 :: xs, K, h => by
    obtain ⟨sa2, ca2, pa2, n2, C2, np2, f2, cf2, pf2, K2, h1, h3⟩ := h
    subst h1
    exact ⟨sa2, ca2, pa2, n2, C2, np2, f2, cf2, pf2, _, by rw [List.append_assoc], CelsAny.snoc h3⟩
/-- the component's world, with the texts and parts that never change behind it -/
def CW (dd : Nat → ClassId) (x : Nat) (a : AS) (w : va_W) : Prop :=
  ∃ (c sa ca pa n C np : Nat) (f cf : Nat → Int32) (pf : Nat → Option Nat) (tr tsa tca tpa tn tC tnp : Nat) (tf tcf : Nat → Int32) (tpf : Nat → Option Nat) (sv ssa sca spa sn sC snp : Nat) (sf scf : Nat → Int32) (spf : Nat → Option Nat) (hv : Prop) (_ : Decidable hv)
    (kd ke kh kt : Nat) (kf : Nat → Option Nat) (kxs : List Nat) (sd se sh st : Nat) (ef : Nat → Option Nat) (sxs : List Nat) (K S : va_W) (y : Nat) (ad : Nat → Nat) (σ : Tw) (dz da db : Nat) (la : Int32) (df dg : Nat → Int32) (th : Nat) (hf : Nat → Int32) (bb bv bco bn : Nat) (bml : Int32) (bf : Nat → Int32) (lb lv ln : Nat) (lml : Int32) (lf_ : Nat → Int32) (rr wa na rp rk : Nat) (rs : RS) (wf : Nat → Option Nat) (nf : Nat → Int32) (fa re de : Int32) (tl : va_W),
    w = fl [[(x, .inr (0, [.ref c, .ref tr, .ref sv, .int (bI hv), .ref kd, .ref sd, .ref y, .ref dz, .ref th, .ref bb, .ref lb, .ref rr, .int fa, .int re, .int de]))], celw dd c sa ca pa n C np f cf pf, celw dd tr tsa tca tpa tn tC tnp tf tcf tpf, celw dd sv ssa sca spa sn sC snp sf scf spf, dqw dd kd ke kf kh kt, dqw dd sd se ef sh st, dyw dd dz da db la df dg, thw dd th hf, sbw dd bb bv bco bml a.2.2.2.1.length bn bf, sbw dd lb lv 0 lml a.2.2.2.2.2.2.2.length ln lf_, rdw dd rr bb wa na rp rk rs wf nf, kw y ad dd σ, K, S, tl] ∧
    (CelOk dd tl a.1 n C np f cf pf ∧ WFB a.1) ∧ (DqE kf kh kt kxs ∧ CelsOk dd tl a.2.1 kxs K ∧ (∀ b ∈ a.2.1, WFB b) ∧ a.2.1.length ≤ 8) ∧ (DqE ef sh st sxs ∧ CelsAny dd sxs S ∧ sxs.length + kxs.length = 8) ∧
    ((hv ↔ a.2.2.1 ≠ none) ∧ ∀ b, a.2.2.1 = some b → CelOk dd tl b sn sC snp sf scf spf ∧ WFB b) ∧ (SbI bco bn bf a.2.2.2.1 ∧ a.2.2.2.1.length ≤ 60) ∧ (SbI 0 ln lf_ a.2.2.2.2.2.2.2 ∧ a.2.2.2.2.2.2.2.length ≤ 80) ∧ (fa = a.2.2.2.2.1 ∧ re = a.2.2.2.2.2.1 ∧ de = a.2.2.2.2.2.2.1) ∧ KT dd tl
theorem PlanIs.cell {dd : Nat → ClassId} {ws : va_W} {p : Nat} {T : Tr} {md : Int32} (h : PlanIs dd ws p T md) : ∃ fs, (p, .inr (10, fs)) ∈ ws := by
  obtain ⟨ad, σ, hm, -⟩ := h
  exact ⟨_, hm _ (List.mem_of_getElem? (i := 0) rfl)⟩
theorem CelOk.hq {dd : Nat → ClassId} {tl : va_W} {b : Blk} {n C np : Nat} {f cf : Nat → Int32} {pf : Nat → Option Nat} (h : CelOk dd tl b n C np f cf pf) : ∀ i, i < 4 → ∀ z, pf i = some z → ∃ fs, (z, .inr (10, fs)) ∈ tl := by
  intro i hi z hz
  by_cases e : i < np
  · obtain ⟨p, T, h1, h2, -⟩ := h.2.2.2.2.1 i e
    rw [hz] at h1
    cases h1
    exact h2.cell
  · rw [h.2.2.2.2.2 i hi (by omega)] at hz
    cases hz

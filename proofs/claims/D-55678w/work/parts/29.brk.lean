/-! orders as trees: a vat, or two parts -/
abbrev Tr : Type := Std.Format
def lf (v : Nat) : Tr := .tag v .nil
def nd (a b : Tr) : Tr := .append a b
def lvs : Tr → List Nat
  | .append a b => lvs a ++ lvs b
  | .tag v _ => [v]
  | _ => [0]
def fsT : Tr → Nat
  | .append a _ => fsT a
  | .tag v _ => v
  | _ => 0
def lsT : Tr → Nat
  | .append _ b => lsT b
  | .tag v _ => v
  | _ => 0
def coT (sd : Nat → Nat) : Tr → Nat
  | .append a b => coT sd a + coT sd b + prN sd (fsT a) (lsT a) (lsT b)
  | _ => 0
theorem lvs_nd (a b : Tr) : lvs (nd a b) = lvs a ++ lvs b := rfl
theorem lvs_lf (v : Nat) : lvs (lf v) = [v] := rfl
/-- reading one part: the tree and where it ends, or where it goes wrong -/
def pPart (t : List Nat) : Nat → Nat → Option Tr × Nat
  | 0, p => (none, p)
  | n + 1, p =>
    if t[p]? = some 40 then
      (match pPart t n (p + 1) with
       | (none, q) => (none, q)
       | (some a, q) => (match pPart t n q with
         | (none, r) => (none, r)
         | (some b, r) => if t[r]? = some 41 then (some (nd a b), r + 1) else (none, r)))
    else if digF t p = true then (some (lf (t.getD p 0 - 48)), p + 1) else (none, p)
/-- the reference's machine: how many parts stand in each open bracket, innermost first -/
def fullB : List Nat → Bool
  | [h] => decide (h = 1)
  | h :: _ => decide (h = 2)
  | [] => true
/-- what a sign does: nothing (it can't stand here), or the vats told and the parts then -/
def mStep (c : Nat) (cs os : List Nat) : Option (List Nat × List Nat) :=
  if fullB os = true then
    (match os with
     | _ :: h2 :: r => if c = 41 then some (cs, (h2 + 1) :: r) else none
     | _ => none)
  else
    (match os with
     | h :: r => if c = 40 then some (cs, 0 :: h :: r) else if 48 ≤ c ∧ c ≤ 57 then some (cs ++ [c - 48], (h + 1) :: r) else none
     | [] => none)
/-- the whole machine, from the sign p on: where it stops (none: it's through), the vats told -/
def mRun (t : List Nat) : Nat → Nat → List Nat → List Nat → Option Nat × List Nat
  | 0, _, cs, os => (if os = [1] then none else some t.length, cs)
  | n + 1, p, cs, os => match mStep (t.getD p 0) cs os with
    | none => (some p, cs)
    | some q => mRun t n (p + 1) q.1 q.2
theorem getD_g {t : List Nat} {p c : Nat} (h : t[p]? = some c) : t.getD p 0 = c := by rw [List.getD_eq_getElem?_getD, h]; rfl
theorem mRun_s {t : List Nat} {p : Nat} {cs os : List Nat} (h : p < t.length) : mRun t (t.length - p) p cs os = (match mStep (t.getD p 0) cs os with | none => (some p, cs) | some q => mRun t (t.length - (p + 1)) (p + 1) q.1 q.2) := by
  obtain ⟨n, hn⟩ : ∃ n, t.length - p = n + 1 := ⟨t.length - p - 1, by omega⟩
  rw [hn, show t.length - (p + 1) = n by omega]
  rfl
theorem full_top {h : Nat} {r : List Nat} (hf : ¬ fullB (h :: r) = true) : fullB (h :: r) = false := by simpa using hf
/-- a part read by the grammar is a part read by the machine -/
theorem mach {t : List Nat} : ∀ (n p : Nat) (cs : List Nat) (h : Nat) (r : List Nat), p ≤ t.length → t.length < p + n → fullB (h :: r) = false →
    match pPart t n p with
    | (some T, q) => p < q ∧ q ≤ t.length ∧ mRun t (t.length - p) p cs (h :: r) = mRun t (t.length - q) q (cs ++ lvs T) ((h + 1) :: r)
    | (none, q) => p ≤ q ∧ q ≤ t.length ∧ ∃ cs', mRun t (t.length - p) p cs (h :: r) = (some q, cs')
  | 0, p, cs, h, r, hp, hn, _ => by omega
  | n + 1, p, cs, h, r, hp, hn, hf => by
    unfold pPart
    by_cases h40 : t[p]? = some 40
    · have hpl := (List.getElem?_eq_some_iff.mp h40).1
      rw [if_pos h40]
      have hs : mRun t (t.length - p) p cs (h :: r) = mRun t (t.length - (p + 1)) (p + 1) cs (0 :: h :: r) := by
        rw [mRun_s hpl, getD_g h40]
        unfold mStep
        rw [if_neg (by rw [hf]; simp)]
        simp
      have i1 := mach n (p + 1) cs 0 (h :: r) hpl (by omega) (by simp [fullB])
      rw [← hs] at i1
      cases e1 : pPart t n (p + 1) with
      | mk o1 q1 =>
        rw [e1] at i1
        cases o1 with
        | none => exact ⟨by omega, i1.2.1, i1.2.2⟩
        | some a =>
          obtain ⟨a1, a2, a3⟩ := i1
          have i2 := mach n q1 (cs ++ lvs a) 1 (h :: r) a2 (by omega) (by simp [fullB])
          rw [show (0 + 1 : Nat) = 1 from rfl] at a3
          rw [← a3] at i2
          dsimp only
          cases e2 : pPart t n q1 with
          | mk o2 q2 =>
            rw [e2] at i2
            cases o2 with
            | none => exact ⟨by omega, i2.2.1, i2.2.2⟩
            | some b =>
              obtain ⟨b1, b2, b3⟩ := i2
              dsimp only
              by_cases h41 : t[q2]? = some 41
              · rw [if_pos h41]
                have hql := (List.getElem?_eq_some_iff.mp h41).1
                refine ⟨by omega, hql, ?_⟩
                rw [b3, mRun_s hql, getD_g h41]
                unfold mStep
                rw [if_pos (by simp [fullB])]
                simp [lvs_nd]
              · rw [if_neg h41]
                refine ⟨by omega, b2, ?_⟩
                rw [b3]
                by_cases hql : q2 < t.length
                · rw [mRun_s hql]
                  unfold mStep
                  rw [if_pos (by simp [fullB])]
                  have hne : ¬ t.getD q2 0 = 41 := by
                    intro z
                    apply h41
                    rw [List.getElem?_eq_getElem hql]
                    rw [List.getD_eq_getElem?_getD, List.getElem?_eq_getElem hql] at z
                    exact congrArg some z
                  dsimp only
                  rw [if_neg hne]
                  exact ⟨_, rfl⟩
                · rw [show t.length - q2 = 0 by omega, show q2 = t.length by omega]
                  unfold mRun
                  rw [if_neg (by simp)]
                  exact ⟨_, rfl⟩
    · rw [if_neg h40]
      by_cases hd : digF t p = true
      · rw [if_pos hd]
        obtain ⟨c, c1, c2, c3, c4, c5⟩ := dig_get hd
        refine ⟨by omega, c5, ?_⟩
        rw [mRun_s c5, c4]
        unfold mStep
        rw [if_neg (by rw [hf]; simp)]
        dsimp only
        rw [if_neg (by rintro rfl; exact h40 c1), if_pos ⟨c2, c3⟩, lvs_lf]
      · rw [if_neg hd]
        refine ⟨Nat.le_refl _, hp, ?_⟩
        by_cases hpl : p < t.length
        · rw [mRun_s hpl]
          have hc := List.getElem?_eq_getElem hpl
          rw [getD_g hc]
          unfold mStep
          rw [if_neg (by rw [hf]; simp)]
          dsimp only
          rw [if_neg (fun z => h40 (by rw [hc, z])), if_neg (fun z => hd (by unfold digF; rw [hc]; simp; exact z))]
          exact ⟨_, rfl⟩
        · rw [show t.length - p = 0 by omega, show p = t.length by omega]
          unfold mRun
          rw [if_neg (by intro z; injection z with z1 z2; subst z2; subst z1; simp [fullB] at hf)]
          exact ⟨_, rfl⟩
/-- a whole text as brackets: the tree, or where it's wrong -/
def pAll (t : List Nat) : Option Tr × Nat := match pPart t (t.length + 1) 0 with
  | (some T, q) => if q < t.length then (none, q) else (some T, q)
  | (none, q) => (none, q)
theorem mach_all (t : List Nat) : match pAll t with
    | (some T, _) => mRun t t.length 0 [] [0] = (none, lvs T)
    | (none, q) => q ≤ t.length ∧ ∃ cs, mRun t t.length 0 [] [0] = (some q, cs) := by
  have h := mach (t := t) (t.length + 1) 0 [] 0 [] (Nat.zero_le _) (by omega) (by simp [fullB])
  unfold pAll
  cases e : pPart t (t.length + 1) 0 with
  | mk o q =>
    rw [e] at h
    cases o with
    | none => exact ⟨h.2.1, h.2.2⟩
    | some T =>
      obtain ⟨h1, h2, h3⟩ := h
      dsimp only
      rw [show t.length - 0 = t.length from rfl] at h3
      by_cases hq : q < t.length
      · rw [if_pos hq]
        refine ⟨h2, ?_⟩
        rw [h3, mRun_s hq]
        unfold mStep
        rw [if_pos (by simp [fullB])]
        exact ⟨_, rfl⟩
      · rw [if_neg hq]
        dsimp only
        rw [h3, show t.length - q = 0 by omega]
        unfold mRun
        rw [if_pos rfl, List.nil_append]
/-- the first vat that isn't behind the one before it -/
def misp : List Nat → Option Nat
  | a :: b :: r => if b = a + 1 then misp (b :: r) else some b
  | _ => none
/-- the machine of the costs: first vat, last one, cost of each part read, the last one first -/
def cStep (sd : Nat → Nat) (c : Nat) (S : List T3) : List T3 :=
  if 48 ≤ c ∧ c ≤ 57 then (c - 48, c - 48, 0) :: S
  else if c = 41 then (match S with | y :: x :: r => (x.1, y.2.1, x.2.2 + (y.2.2 + prN sd x.1 x.2.1 y.2.1)) :: r | _ => S)
  else S
def cRun (sd : Nat → Nat) (t : List Nat) : Nat → Nat → List T3 → List T3
  | 0, _, S => S
  | n + 1, p, S => cRun sd t n (p + 1) (cStep sd (t.getD p 0) S)
theorem cRun_s {sd : Nat → Nat} {t : List Nat} {p : Nat} {S : List T3} (h : p < t.length) : cRun sd t (t.length - p) p S = cRun sd t (t.length - (p + 1)) (p + 1) (cStep sd (t.getD p 0) S) := by
  obtain ⟨n, hn⟩ : ∃ n, t.length - p = n + 1 := ⟨t.length - p - 1, by omega⟩
  rw [hn, show t.length - (p + 1) = n by omega]
  rfl
theorem cost_run {sd : Nat → Nat} {t : List Nat} : ∀ (n p : Nat) (T : Tr) (q : Nat) (S : List T3), pPart t n p = (some T, q) → cRun sd t (t.length - p) p S = cRun sd t (t.length - q) q ((fsT T, lsT T, coT sd T) :: S)
  | 0, p, T, q, S, h => by unfold pPart at h; cases h
  | n + 1, p, T, q, S, h => by
    unfold pPart at h
    by_cases h40 : t[p]? = some 40
    · rw [if_pos h40] at h
      have hpl := (List.getElem?_eq_some_iff.mp h40).1
      cases e1 : pPart t n (p + 1) with
      | mk o1 q1 =>
        rw [e1] at h
        cases o1 with
        | none => cases h
        | some a =>
          dsimp only at h
          cases e2 : pPart t n q1 with
          | mk o2 q2 =>
            rw [e2] at h
            cases o2 with
            | none => cases h
            | some b =>
              dsimp only at h
              by_cases h41 : t[q2]? = some 41
              · rw [if_pos h41] at h
                have hql := (List.getElem?_eq_some_iff.mp h41).1
                cases h
                rw [cRun_s hpl, getD_g h40, show cStep sd 40 S = S from rfl, cost_run n (p + 1) a q1 S e1, cost_run n q1 b q2 _ e2, cRun_s hql, getD_g h41]
                show cRun sd t _ _ ((fsT a, lsT b, coT sd a + (coT sd b + prN sd (fsT a) (lsT a) (lsT b))) :: S) = cRun sd t _ _ ((fsT a, lsT b, coT sd a + coT sd b + prN sd (fsT a) (lsT a) (lsT b)) :: S)
                rw [Nat.add_assoc]
              · rw [if_neg h41] at h; cases h
    · rw [if_neg h40] at h
      by_cases hd : digF t p = true
      · rw [if_pos hd] at h
        obtain ⟨c, c1, c2, c3, c4, c5⟩ := dig_get hd
        cases h
        rw [cRun_s c5, c4]
        unfold cStep
        rw [if_pos ⟨c2, c3⟩]
        rfl
      · rw [if_neg hd] at h; cases h
theorem cost_all {sd : Nat → Nat} {t : List Nat} {T : Tr} {q : Nat} (h : pAll t = (some T, q)) : cRun sd t t.length 0 [] = [(fsT T, lsT T, coT sd T)] := by
  unfold pAll at h
  cases e : pPart t (t.length + 1) 0 with
  | mk o q1 =>
    rw [e] at h
    cases o with
    | none => cases h
    | some a =>
      dsimp only at h
      by_cases hq : q1 < t.length
      · rw [if_pos hq] at h; cases h
      · rw [if_neg hq] at h
        cases h
        have := cost_run (sd := sd) _ 0 _ q [] e
        rw [show t.length - 0 = t.length from rfl, show t.length - q = 0 by omega] at this
        exact this
/-! the machine in the reference's arrays -/
theorem TxIs.rev_top {r : Nat → Int32} {h : Nat} {rs : List Nat} (hT : TxIs r (h :: rs).reverse) : r rs.length = nI h := by
  rw [List.reverse_cons] at hT
  have := hT.pop.2
  rw [List.length_reverse] at this
  exact this
theorem TxIs.rev_tail {r : Nat → Int32} {h : Nat} {rs : List Nat} (hT : TxIs r (h :: rs).reverse) : TxIs r rs.reverse := by
  rw [List.reverse_cons] at hT
  exact hT.pop.1
theorem TxIs.rev_push {r : Nat → Int32} {rs : List Nat} (hT : TxIs r rs.reverse) (h : Nat) : TxIs (upd r rs.length (nI h)) (h :: rs).reverse := by
  rw [List.reverse_cons]
  have := hT.push h
  rw [List.length_reverse] at this
  exact this
def BrI (σ : Tw) (t : List Nat) (p : Nat) (cs os : List Nat) (τ : Tw) : Prop :=
  Ch [25, 30] [26] σ τ ∧ p ≤ t.length ∧ os ≠ [] ∧ TxIs (τ 30) os.reverse ∧ TxIs (τ 25) cs ∧ τ 99 26 = nI cs.length ∧ os.length ≤ p + 1 ∧ cs.length ≤ p ∧ (∀ x ∈ os, x ≤ p) ∧ (∀ v ∈ cs, v ≤ 9) ∧ mRun t (t.length - p) p cs os = mRun t t.length 0 [] [0]
theorem mStep_40 {cs : List Nat} {h : Nat} {r : List Nat} (hf : ¬ fullB (h :: r) = true) : mStep 40 cs (h :: r) = some (cs, 0 :: h :: r) := by
  unfold mStep; rw [if_neg hf]; rfl
theorem mStep_d {cs : List Nat} {h c : Nat} {r : List Nat} (hf : ¬ fullB (h :: r) = true) (hc : 48 ≤ c ∧ c ≤ 57) : mStep c cs (h :: r) = some (cs ++ [c - 48], (h + 1) :: r) := by
  unfold mStep; rw [if_neg hf]; dsimp only; rw [if_neg (by omega), if_pos hc]
theorem mStep_n {cs : List Nat} {h c : Nat} {r : List Nat} (hf : ¬ fullB (h :: r) = true) (h40 : ¬ c = 40) (hc : ¬ (48 ≤ c ∧ c ≤ 57)) : mStep c cs (h :: r) = none := by
  unfold mStep; rw [if_neg hf]; dsimp only; rw [if_neg h40, if_neg hc]
theorem mStep_41 {cs : List Nat} {h h2 : Nat} {r : List Nat} (hf : fullB (h :: h2 :: r) = true) : mStep 41 cs (h :: h2 :: r) = some (cs, (h2 + 1) :: r) := by
  unfold mStep; rw [if_pos hf]; rfl
theorem mStep_f {cs : List Nat} {h h2 c : Nat} {r : List Nat} (hf : fullB (h :: h2 :: r) = true) (hc : ¬ c = 41) : mStep c cs (h :: h2 :: r) = none := by
  unfold mStep; rw [if_pos hf]; dsimp only; rw [if_neg hc]
theorem mStep_e {cs : List Nat} {h c : Nat} (hf : fullB [h] = true) : mStep c cs [h] = none := by
  unfold mStep; rw [if_pos hf]
theorem br_res {t : List Nat} {p c : Nat} {cs os : List Nat} {R : Option Nat × List Nat} (hr : mRun t (t.length - p) p cs os = R) (hc : t[p]? = some c) (hm : mStep c cs os = none) : R = (some p, cs) := by
  rw [← hr, mRun_s (List.getElem?_eq_some_iff.mp hc).1, getD_g hc, hm]
theorem br_nxt {t : List Nat} {p c : Nat} {cs os cs' os' : List Nat} {R : Option Nat × List Nat} (hr : mRun t (t.length - p) p cs os = R) (hc : t[p]? = some c) (hm : mStep c cs os = some (cs', os')) : mRun t (t.length - (p + 1)) (p + 1) cs' os' = R := by
  rw [← hr, mRun_s (List.getElem?_eq_some_iff.mp hc).1, getD_g hc, hm]
/-- the parts in the reference's arrays, the last one first -/
def PtIs (τ : Tw) (S : List T3) : Prop := ∀ (i : Nat) (e : T3), S.reverse[i]? = some e → τ 27 i = nI e.1 ∧ τ 28 i = nI e.2.1 ∧ τ 29 i = nI e.2.2
theorem PtIs.top {τ : Tw} {y : T3} {r : List T3} (h : PtIs τ (y :: r)) : τ 27 r.length = nI y.1 ∧ τ 28 r.length = nI y.2.1 ∧ τ 29 r.length = nI y.2.2 := by
  refine h r.length y ?_
  rw [List.reverse_cons, List.getElem?_append_right (by rw [List.length_reverse]; exact Nat.le_refl _), List.length_reverse, Nat.sub_self]; rfl
theorem PtIs.tail {τ : Tw} {y : T3} {r : List T3} (h : PtIs τ (y :: r)) : PtIs τ r := by
  intro i e he
  refine h i e ?_
  rw [List.reverse_cons, List.getElem?_append_left (List.getElem?_eq_some_iff.mp he).1]; exact he
theorem PtIs.cons {τ τ' : Tw} {y : T3} {r : List T3} (h : PtIs τ r) (hk : ∀ i, i < r.length → τ' 27 i = τ 27 i ∧ τ' 28 i = τ 28 i ∧ τ' 29 i = τ 29 i) (h1 : τ' 27 r.length = nI y.1) (h2 : τ' 28 r.length = nI y.2.1) (h3 : τ' 29 r.length = nI y.2.2) : PtIs τ' (y :: r) := by
  intro i e he
  rw [List.reverse_cons] at he
  by_cases hi : i < r.length
  · rw [List.getElem?_append_left (by rw [List.length_reverse]; exact hi)] at he
    obtain ⟨a, b, c⟩ := h i e he
    obtain ⟨a', b', c'⟩ := hk i hi
    exact ⟨a'.trans a, b'.trans b, c'.trans c⟩
  · rw [List.getElem?_append_right (by rw [List.length_reverse]; omega), List.length_reverse] at he
    have : i - r.length < 1 := (List.getElem?_eq_some_iff.mp he).1
    have e2 : i = r.length := by omega
    subst e2
    rw [Nat.sub_self] at he
    cases he
    exact ⟨h1, h2, h3⟩
def CoI (σ : Tw) (sd : Nat → Nat) (t : List Nat) (p : Nat) (S : List T3) (cs os : List Nat) (τ : Tw) : Prop :=
  Ch [27, 28, 29] [] σ τ ∧ p ≤ t.length ∧ PtIs τ S ∧ S.length = os.sum ∧ os ≠ [] ∧ S.length ≤ p ∧ (∀ e ∈ S, e.1 < 8 ∧ e.2.1 < 8) ∧ (mRun t (t.length - p) p cs os).1 = none ∧ cRun sd t (t.length - p) p S = cRun sd t t.length 0 []
/-- a sign that can stand where it stands -/
theorem co_step {t : List Nat} {p c : Nat} {cs os : List Nat} (hr : (mRun t (t.length - p) p cs os).1 = none) (hc : t[p]? = some c) (hne : os ≠ []) : ∃ cs' os', (mRun t (t.length - (p + 1)) (p + 1) cs' os').1 = none ∧ os' ≠ [] ∧ ((48 ≤ c ∧ c ≤ 57 ∧ os'.sum = os.sum + 1) ∨ (c = 41 ∧ os.sum = os'.sum + 1 ∧ 2 ≤ os.sum) ∨ (c = 40 ∧ os'.sum = os.sum)) := by
  rw [mRun_s (List.getElem?_eq_some_iff.mp hc).1, getD_g hc] at hr
  obtain ⟨h, r, rfl⟩ := List.exists_cons_of_ne_nil hne
  by_cases hf : fullB (h :: r) = true
  · cases r with
    | nil => rw [mStep_e hf] at hr; cases hr
    | cons h2 r2 =>
      by_cases h41 : c = 41
      · subst h41
        rw [mStep_41 hf] at hr
        refine ⟨_, _, hr, by simp, Or.inr (Or.inl ⟨rfl, ?_, ?_⟩)⟩
        · have : h = 2 := by simpa [fullB] using hf
          subst this
          simp; omega
        · have : h = 2 := by simpa [fullB] using hf
          subst this
          simp
      · rw [mStep_f hf h41] at hr; cases hr
  · by_cases h40 : c = 40
    · subst h40
      rw [mStep_40 hf] at hr
      exact ⟨_, _, hr, by simp, Or.inr (Or.inr ⟨rfl, by simp⟩)⟩
    · by_cases hd : 48 ≤ c ∧ c ≤ 57
      · rw [mStep_d hf hd] at hr
        exact ⟨_, _, hr, by simp, Or.inl ⟨hd.1, hd.2, by simp; omega⟩⟩
      · rw [mStep_n hf h40 hd] at hr; cases hr
theorem inC {c a b : Nat} (hc : c < 65536) (ha : a < 1000) (hb : b < 1000) : (nI a ≤ nI c ∧ nI c ≤ nI b) ↔ (a ≤ c ∧ c ≤ b) := by
  rw [nI_leI (by omega) (by omega), nI_leI (by omega) (by omega)]
theorem br_end {t : List Nat} {p : Nat} {cs os : List Nat} {R : Option Nat × List Nat} (hr : mRun t (t.length - p) p cs os = R) (hp : t.length ≤ p) (hn : ¬ os = [1]) : R = (some t.length, cs) := by
  rw [← hr, show t.length - p = 0 by omega]; unfold mRun; rw [if_neg hn]
theorem br_fin {t : List Nat} {p : Nat} {cs os : List Nat} {R : Option Nat × List Nat} (hr : mRun t (t.length - p) p cs os = R) (hp : t.length ≤ p) (hn : os = [1]) : R = (none, cs) := by
  rw [← hr, show t.length - p = 0 by omega]; unfold mRun; rw [if_pos hn]
theorem misp_s {a b : Nat} {r : List Nat} (h : b = a + 1) : misp (a :: b :: r) = misp (b :: r) := if_pos h
theorem misp_n {a b : Nat} {r : List Nat} (h : ¬ b = a + 1) : misp (a :: b :: r) = some b := if_neg h
theorem misp_dr {cs : List Nat} {k a b : Nat} (hk : 1 ≤ k) (ha : cs[k - 1]? = some a) (hb : cs[k]? = some b) : cs.drop (k - 1) = a :: b :: cs.drop (k + 1) ∧ cs.drop k = b :: cs.drop (k + 1) := by
  have h1 := (List.getElem?_eq_some_iff.mp ha)
  have h2 := (List.getElem?_eq_some_iff.mp hb)
  have e2 : cs.drop k = b :: cs.drop (k + 1) := by rw [List.drop_eq_getElem_cons h2.1, h2.2]
  refine ⟨?_, e2⟩
  rw [List.drop_eq_getElem_cons h1.1, h1.2, show k - 1 + 1 = k by omega, e2]
theorem misp_e {l : List Nat} {k : Nat} (h : l.length ≤ k) : misp (l.drop (k - 1)) = none := by
  cases e : l.drop (k - 1) with
  | nil => rfl
  | cons a r =>
    cases r with
    | nil => rfl
    | cons b r2 =>
      have := congrArg List.length e
      simp at this
      omega
theorem co_end {sd : Nat → Nat} {t : List Nat} {p : Nat} {S S2 : List T3} {e : T3} {τ : Tw} (hcr : cRun sd t (t.length - p) p S = cRun sd t t.length 0 []) (hp : t.length ≤ p) (hPt : PtIs τ S) (he : cRun sd t t.length 0 [] = e :: S2) (hS2 : S2 = []) : τ 29 0 = nI e.2.2 := by
  rw [← hcr, show t.length - p = 0 by omega] at he
  have he : S = e :: S2 := he
  subst hS2
  subst he
  exact hPt.top.2.2
/-! brackets, whole -/
def stepI (a : AS) (e : Int32) : AS := (a.1, a.2.1, a.2.2.1, [], e, a.2.2.2.2.2)
def brkT (a : AS) (T : Tr) : AS × Nat × Int32 := match misp (lvs T) with
  | some v => (stepR (stepI a (-1)) (some (nI 4, nI v)), 2, 0)
  | none => if lsT T < nS a.1 - 1 then (stepI a (-1), 0, nI (coT (sdN a.1) T)) else (stepR (stepI a (-1)) (some (nI 5, nI (max (fsT T) (nS a.1 - 1)))), 2, 0)
def brkA (a : AS) : AS × Nat × Int32 := match pAll a.2.2.2.1 with
  | (none, q) => (stepI a (nI q), 1, 0)
  | (some T, _) => brkT a T
theorem lvs_hd : ∀ T : Tr, (lvs T)[0]? = some (fsT T)
  | .append a b => by
    show (lvs a ++ lvs b)[0]? = some (fsT a)
    have h := lvs_hd a
    rw [List.getElem?_append_left (List.getElem?_eq_some_iff.mp h).1]; exact h
  | .tag v _ => rfl
  | .nil | .line | .align _ | .text _ | .nest _ _ | .group _ _ => rfl
theorem lvs_lt : ∀ T : Tr, (lvs T)[(lvs T).length - 1]? = some (lsT T)
  | .append a b => by
    show (lvs a ++ lvs b)[(lvs a ++ lvs b).length - 1]? = some (lsT b)
    have h := lvs_lt b
    have hl := (List.getElem?_eq_some_iff.mp h).1
    rw [List.length_append, List.getElem?_append_right (by omega), show (lvs a).length + (lvs b).length - 1 - (lvs a).length = (lvs b).length - 1 by omega]; exact h
  | .tag v _ => rfl
  | .nil | .line | .align _ | .text _ | .nest _ _ | .group _ _ => rfl
/-- behind one another: all of them no greater than the last one -/
theorem misp_le : ∀ {l : List Nat} {z : Nat}, misp l = none → l[l.length - 1]? = some z → ∀ x ∈ l, x ≤ z
  | [], z, _, h, x, hx => by cases hx
  | [a], z, _, h, x, hx => by
    rw [List.mem_singleton] at hx
    injection (show some a = some z from h) with e; omega
  | a :: b :: r, z, hm, h, x, hx => by
    by_cases e : b = a + 1
    · rw [misp_s e] at hm
      have i := misp_le (l := b :: r) (z := z) hm (by rw [← h]; rfl)
      rcases List.mem_cons.mp hx with h1 | h1
      · have := i b (by simp); omega
      · exact i x h1
    · rw [misp_n e] at hm; cases hm
theorem mStep_mem {c : Nat} {cs os : List Nat} {q : List Nat × List Nat} (h : mStep c cs os = some q) : (∀ x ∈ cs, x ∈ q.1) ∧ (48 ≤ c → c ≤ 57 → c - 48 ∈ q.1) := by
  unfold mStep at h
  split at h
  · split at h
    · split at h
      · cases h; subst_vars; exact ⟨fun x hx => hx, fun h1 h2 => by omega⟩
      · cases h
    · cases h
  · split at h
    · split at h
      · cases h; subst_vars; exact ⟨fun x hx => hx, fun h1 h2 => by omega⟩
      · split at h
        · cases h; exact ⟨fun x hx => List.mem_append_left _ hx, fun _ _ => by simp⟩
        · cases h
    · cases h
theorem mRun_mem {t : List Nat} : ∀ (n p : Nat) (cs os ds : List Nat), mRun t n p cs os = (none, ds) → (∀ x ∈ cs, x ∈ ds) ∧ ∀ i, p ≤ i → i < p + n → 48 ≤ t.getD i 0 → t.getD i 0 ≤ 57 → t.getD i 0 - 48 ∈ ds
  | 0, p, cs, os, ds, h => by
    have h : (if os = [1] then none else some t.length, cs) = (none, ds) := h
    injection h with _ h2
    subst h2
    exact ⟨fun x hx => hx, fun i h1 h2 => by omega⟩
  | n + 1, p, cs, os, ds, h => by
    have h : (match mStep (t.getD p 0) cs os with
      | none => (some p, cs)
      | some q => mRun t n (p + 1) q.1 q.2) = (none, ds) := h
    cases e : mStep (t.getD p 0) cs os with
    | none => rw [e] at h; cases h
    | some q =>
      rw [e] at h
      obtain ⟨m1, m2⟩ := mStep_mem e
      obtain ⟨i1, i2⟩ := mRun_mem n (p + 1) q.1 q.2 ds h
      refine ⟨fun x hx => i1 x (m1 x hx), fun i h1 h2 h3 h4 => ?_⟩
      by_cases e2 : i = p
      · subst e2; exact i1 _ (m2 h3 h4)
      · exact i2 i (by omega) (by omega) h3 h4
theorem dig8 {t : List Nat} {ds : List Nat} {z : Nat} (h : mRun t t.length 0 [] [0] = (none, ds)) (hm : misp ds = none) (hz : ds[ds.length - 1]? = some z) (h8 : z < 8) : ∀ c ∈ t, 48 ≤ c → c ≤ 57 → c < 56 := by
  intro c hc h1 h2
  obtain ⟨i, hi⟩ := List.mem_iff_getElem?.mp hc
  have hg := getD_g hi
  have := (mRun_mem _ _ _ _ _ h).2 i (Nat.zero_le _) (by have := (List.getElem?_eq_some_iff.mp hi).1; omega) (by omega) (by omega)
  rw [hg] at this
  have := misp_le hm hz _ this
  omega
theorem brk_some {t : List Nat} (h : (mRun t t.length 0 [] [0]).1 = none) : ∃ T q, pAll t = (some T, q) := by
  have hm := mach_all t
  cases e : pAll t with
  | mk o q =>
    rw [e] at hm
    cases o with
    | some T => exact ⟨T, q, rfl⟩
    | none =>
      obtain ⟨_, cs, hm⟩ := hm
      rw [hm] at h; cases h
theorem brk_none {t : List Nat} (h : ¬ (mRun t t.length 0 [] [0]).1 = none) : ∃ q, pAll t = (none, q) ∧ (mRun t t.length 0 [] [0]).1 = some q := by
  have hm := mach_all t
  cases e : pAll t with
  | mk o q =>
    rw [e] at hm
    cases o with
    | some T => rw [show mRun t t.length 0 [] [0] = (none, lvs T) from hm] at h; exact absurd rfl h
    | none =>
      obtain ⟨_, cs, hm⟩ := hm
      exact ⟨q, rfl, by rw [hm]⟩
theorem oI_none {o : Option Nat} (hb : ∀ k, o = some k → k < 1000) (h : oI o = -1) : o = none := (oI_n o hb).mp h
theorem mach_bd {t : List Nat} (h : t.length ≤ 60) : ∀ k, (mRun t t.length 0 [] [0]).1 = some k → k < 1000 := by
  intro k hk
  have hm := mach_all t
  cases e : pAll t with
  | mk o q =>
    rw [e] at hm
    cases o with
    | some T => rw [show mRun t t.length 0 [] [0] = (none, lvs T) from hm] at hk; cases hk
    | none =>
      obtain ⟨hq, cs, hm⟩ := hm
      rw [hm] at hk
      injection hk with hk
      omega
theorem misp_mem : ∀ {l : List Nat} {v : Nat}, misp l = some v → v ∈ l
  | [], _, h => by cases h
  | [a], _, h => by cases h
  | a :: b :: r, v, h => by
    by_cases e : b = a + 1
    · rw [misp_s e] at h; exact List.mem_cons_of_mem _ (misp_mem h)
    · rw [misp_n e] at h; injection h with h; subst h; simp
theorem misp_bd {l : List Nat} (h : ∀ v ∈ l, v ≤ 9) : ∀ k, misp l = some k → k < 1000 := by
  intro k hk; have := h k (misp_mem hk); omega
theorem tr_fails {σ : Tw} {a : AS} {v : Int32} (h : TRel σ a) : TRel (ws1 (ws1 σ 14 v) 11 0) a :=
  h.keep (((Ch.rf [] [14, 11] σ).num 14 _ (by decide)).num 11 _ (by decide)) (by decide) (by decide)
theorem tr_ref {σ : Tw} {a : AS} {x y v : Int32} (h : TRel σ a) : TRel (ws1 (ws1 (ws1 (ws1 σ 9 x) 10 y) 14 v) 11 1) (stepR a (some (x, y))) := by
  obtain ⟨h1, h2, h3, h4, h5, h6, h7, h8, h9, h10, h11, h12⟩ := h
  exact ⟨h1, h2, h3, h4, h5, h6, h7, h8, rfl, rfl, h11, h12⟩

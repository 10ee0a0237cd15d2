theorem pP_le (t : List Nat) : ∀ (u p : Nat) {o : Option Tr} {q : Nat}, p ≤ t.length → pPart t u p = (o, q) → p ≤ q ∧ q ≤ t.length
  | 0, p, o, q, hp, h => by cases h; exact ⟨Nat.le_refl _, hp⟩
  | u + 1, p, o, q, hp, h => by
    by_cases h40 : t[p]? = some 40
    · have hpl := (List.getElem?_eq_some_iff.mp h40).1
      obtain ⟨o1, q1, h1⟩ : ∃ a b, pPart t u (p + 1) = (a, b) := ⟨_, _, rfl⟩
      have b1 := pP_le t u (p + 1) hpl h1
      cases o1 with
      | none => rw [pP_1 h40 h1] at h; cases h; omega
      | some a =>
        obtain ⟨o2, q2, h2⟩ : ∃ a b, pPart t u q1 = (a, b) := ⟨_, _, rfl⟩
        have b2 := pP_le t u q1 b1.2 h2
        cases o2 with
        | none => rw [pP_2 h40 h1 h2] at h; cases h; omega
        | some b =>
          by_cases h41 : t[q2]? = some 41
          · have hql := (List.getElem?_eq_some_iff.mp h41).1
            rw [pP_4 h40 h1 h2 h41] at h; cases h; omega
          · rw [pP_3 h40 h1 h2 h41] at h; cases h; omega
    · by_cases hd : digF t p = true
      · obtain ⟨c, hc⟩ : ∃ c, t[p]? = some c := by
          cases e : t[p]? with
          | none => unfold digF at hd; rw [e] at hd; cases hd
          | some c => exact ⟨c, rfl⟩
        have hpl := (List.getElem?_eq_some_iff.mp hc).1
        unfold pPart at h
        rw [if_neg h40, if_pos hd] at h
        cases h; omega
      · rw [pP_n h40 hd] at h; cases h; omega
theorem pP_q1 {t : List Nat} {u p q1 Q : Nat} {o1 oQ : Option Tr} (h40 : t[p]? = some 40) (h1 : pPart t u (p + 1) = (o1, q1)) (hQ : pPart t (u + 1) p = (oQ, Q)) : q1 ≤ Q := by
  have hpl := (List.getElem?_eq_some_iff.mp h40).1
  have b1 := pP_le t u (p + 1) hpl h1
  cases o1 with
  | none => rw [pP_1 h40 h1] at hQ; cases hQ; omega
  | some a =>
    obtain ⟨o2, q2, h2⟩ : ∃ a b, pPart t u q1 = (a, b) := ⟨_, _, rfl⟩
    have b2 := pP_le t u q1 b1.2 h2
    cases o2 with
    | none => rw [pP_2 h40 h1 h2] at hQ; cases hQ; omega
    | some b =>
      by_cases h41 : t[q2]? = some 41
      · rw [pP_4 h40 h1 h2 h41] at hQ; cases hQ; omega
      · rw [pP_3 h40 h1 h2 h41] at hQ; cases hQ; omega
theorem pP_q2 {t : List Nat} {u p q1 q2 Q : Nat} {a : Tr} {o2 oQ : Option Tr} (h40 : t[p]? = some 40) (h1 : pPart t u (p + 1) = (some a, q1)) (h2 : pPart t u q1 = (o2, q2)) (hQ : pPart t (u + 1) p = (oQ, Q)) : q2 ≤ Q := by
  cases o2 with
  | none => rw [pP_2 h40 h1 h2] at hQ; cases hQ; omega
  | some b =>
    by_cases h41 : t[q2]? = some 41
    · rw [pP_4 h40 h1 h2 h41] at hQ; cases hQ; omega
    · rw [pP_3 h40 h1 h2 h41] at hQ; cases hQ; omega
theorem pP_lv {t : List Nat} : ∀ (u p : Nat) {T : Tr} {q : Nat}, pPart t u p = (some T, q) → ∀ v ∈ lvs T, v ≤ 9
  | 0, p, T, q, h => by cases h
  | u + 1, p, T, q, h => by
    by_cases h40 : t[p]? = some 40
    · obtain ⟨o1, q1, h1⟩ : ∃ a b, pPart t u (p + 1) = (a, b) := ⟨_, _, rfl⟩
      cases o1 with
      | none => rw [pP_1 h40 h1] at h; cases h
      | some a =>
        obtain ⟨o2, q2, h2⟩ : ∃ a b, pPart t u q1 = (a, b) := ⟨_, _, rfl⟩
        cases o2 with
        | none => rw [pP_2 h40 h1 h2] at h; cases h
        | some b =>
          by_cases h41 : t[q2]? = some 41
          · rw [pP_4 h40 h1 h2 h41] at h
            cases h
            intro v hv
            rcases List.mem_append.mp hv with hv | hv
            · exact pP_lv u (p + 1) h1 v hv
            · exact pP_lv u q1 h2 v hv
          · rw [pP_3 h40 h1 h2 h41] at h; cases h
    · by_cases hd : digF t p = true
      · unfold pPart at h
        rw [if_neg h40, if_pos hd] at h
        cases h
        intro v hv
        rw [List.mem_singleton.mp hv]
        unfold digF at hd
        cases e : t[p]? with
        | none => rw [e] at hd; cases hd
        | some c =>
          rw [e] at hd
          rw [getD_g e]
          simp at hd
          omega
      · rw [pP_n h40 hd] at h; cases h
theorem rsL_g : ∀ (vs : List Nat) (s : RS), s.2.2 ≤ 9 → (∀ v ∈ vs, v ≤ 9) → (rsL s vs).2.2 ≤ 9
  | [], s, h, _ => h
  | v :: vs, s, h, hv => rsL_g vs (rsV s v) (Nat.max_le.mpr ⟨h, hv v List.mem_cons_self⟩) (fun w hw => hv w (List.mem_cons_of_mem _ hw))
theorem pr_eq {α β : Type} {x : α × β} {a c : α} {b d : β} (h1 : x = (a, b)) (h2 : x = (c, d)) : a = c ∧ b = d := by
  rw [h1] at h2; cases h2; exact ⟨rfl, rfl⟩
theorem hdX5_part : yX5_part.cls = RX5 ∧ yX5_part.cls ≠ "java/lang/invoke/MethodHandle" ∧ yX5_part.cls ≠ "java/lang/invoke/VarHandle" ∧ (parseMethodDescriptor yX5_part.desc).map (fun d => d.parameters.length) = some 0 := by decide +kernel
set_option maxHeartbeats 4000000 in
theorem c_X5_part {l_ : Launch} {D : va_G} {dd : Nat → ClassId} {x tb wa na va n co p u Q : Nat} {mn ml : Int32} {s : RS} {f : Nat → Int32} {t : List Nat} {ws : va_W} {oQ : Option Tr} (hst : l_.stackTraces = false) (htb : (tb, .inr (12, [.ref va, .int (nI co), .int ml, .int (nI t.length)])) ∈ ws) (hva : (va, .inl (dd 2, n, .inl f)) ∈ ws) (hS : SbI co n f t) (h60 : t.length ≤ 60) (hp : p ≤ t.length) (ih : ∀ (p : Nat) (s : RS) (o : Option Tr) (q : Nat), p ≤ t.length → t.length < p + u → s.2.2 ≤ 9 → pPart t u p = (o, q) → XW l_ D dd yX5_part (ws_ yX5_part cX5_part 3 (some (.object "VatBrackets$Part"))) (u + 9) (2 * (q - p) + 1) (10 * (2 * (q - p) + 1)) (22 * u + 240) [.ref x] (fl [[(x, .inr (4, [.ref tb, .int (nI p), .int mn, .ref wa, .ref na, .int s.1, .int s.2.1, .int (nI s.2.2)]))], ws]) (fun r w => ∃ T a nw, r = some (.ref a) ∧ o = some T ∧ w = fl [[(x, .inr (4, [.ref tb, .int (nI q), .int mn, .ref wa, .ref na, .int ((rsL s (lvs T)).1), .int ((rsL s (lvs T)).2.1), .int (nI ((rsL s (lvs T)).2.2))]))], nw, ws] ∧ PartIs nw T a) (fun z E w => E = "VatBrackets$Fault" ∧ ∃ fs s2, o = none ∧ w = (z, .inr (7, fs)) :: fl [[(x, .inr (4, [.ref tb, .int (nI q), .int mn, .ref wa, .ref na, .int ((s2 : RS).1), .int s2.2.1, .int (nI s2.2.2)]))], ws] ∧ FaIs fs (nI q))) (hfu : t.length < p + (u + 1)) (hg : s.2.2 ≤ 9) (hQ : pPart t (u + 1) p = (oQ, Q)) : XW l_ D dd yX5_part (ws_ yX5_part cX5_part 3 (some (.object "VatBrackets$Part"))) (u + 1 + 9) (2 * (Q - p) + 1) (10 * (2 * (Q - p) + 1)) (22 * (u + 1) + 240) [.ref x] (fl [[(x, .inr (4, [.ref tb, .int (nI p), .int mn, .ref wa, .ref na, .int s.1, .int s.2.1, .int (nI s.2.2)]))], ws]) (fun r w => ∃ T a nw, r = some (.ref a) ∧ oQ = some T ∧ w = fl [[(x, .inr (4, [.ref tb, .int (nI Q), .int mn, .ref wa, .ref na, .int ((rsL s (lvs T)).1), .int ((rsL s (lvs T)).2.1), .int (nI ((rsL s (lvs T)).2.2))]))], nw, ws] ∧ PartIs nw T a) (fun z E w => E = "VatBrackets$Fault" ∧ ∃ fs s2, oQ = none ∧ w = (z, .inr (7, fs)) :: fl [[(x, .inr (4, [.ref tb, .int (nI Q), .int mn, .ref wa, .ref na, .int ((s2 : RS).1), .int s2.2.1, .int (nI s2.2.2)]))], ws] ∧ FaIs fs (nI Q)) := by
  have ht6 : ∀ c ∈ t, c < 65536 := fun c hc => by obtain ⟨i, hi⟩ := List.getElem?_of_mem hc; exact hS.1.lt hi
  have hpQ := pP_le t (u + 1) p hp hQ
  refine XW.intro (by decide) (Nat.le_of_ble_eq_true rfl) (fun p_ e_ s_ m_ as_ bl_ me_ c_ A_ X hr ht => ?_)
  have X : VX p_ s_ m_ as_ me_ c_ cX5_part 3 RX5 D dd A_ := X
  refine v_eq (loc' := [(0, .ref x)]) rfl rfl rfl ?_
  refine v_aload_n (pc := 0) X dX5_part_0 rfl 0 rfl ?_
  refine v_bipush (pc := 1) (v := nI 40) X dX5_part_1 rfl ?_
  refine v_frame (pc := 3) X (wr := []) (fl_split 2 _) (r_V X (c_X5_skip (s := (s.1, s.2.1, s.2.2)) (c := 40) htb hva hS h60 (by omega) (by omega)) (List.mem_of_getElem? (i := 0) rfl) rfl rfl (lw_V q1270 q1272 qs18 q101 q1273) hdX5_skip ⟨by dsimp only; omega, by dsimp only; omega⟩ rfl rfl (Nat.le_of_ble_eq_true rfl) dX5_part_3 ⟨by dsimp only; omega, by dsimp only; omega⟩) (fun v3 w3 h3 => ?_)
  obtain ⟨rfl, rfl⟩ := h3
  refine v_flj (a := [[(x, .inr (4, [.ref tb, .int (nI ((if t[p]? = some 40 then p + 1 else p))), .int mn, .ref wa, .ref na, .int s.1, .int s.2.1, .int (nI s.2.2)]))], ws]) (b := []) ?_
  refine v_eq (ws' := fl [[(x, .inr (4, [.ref tb, .int (nI ((if t[p]? = some 40 then p + 1 else p))), .int mn, .ref wa, .ref na, .int s.1, .int s.2.1, .int (nI s.2.2)]))], ws]) rfl rfl rfl ?_
  refine v_if_eqB (pc := 6) X 31 dX5_part_6 (by decide) (fun h6 => ?_) (fun h6 => ?_)
  · refine v_eq (ws' := fl [[(x, .inr (4, [.ref tb, .int (nI p), .int mn, .ref wa, .ref na, .int s.1, .int s.2.1, .int (nI s.2.2)]))], ws]) (by rw [if_neg h6]) rfl rfl ?_
    refine v_aload_n (pc := 31) X dX5_part_31 rfl 0 rfl ?_
    refine v_read (pc := 32) X ⟨[], perm_nil _⟩ (r_V X (c_X5_here (s := (s.1, s.2.1, s.2.2)) (mem_fl 0 rfl List.mem_cons_self) (mem_fl 1 rfl htb) (mem_fl 1 rfl hva) hS h60 (by omega)) (mem_fl 0 rfl List.mem_cons_self) rfl rfl (lw_V q1274 q1276 qs19 q101 q1277) hdX5_here ⟨by dsimp only; omega, by dsimp only; omega⟩ rfl rfl (Nat.le_of_ble_eq_true rfl) dX5_part_32 ⟨by dsimp only; omega, by dsimp only; omega⟩) (fun r32 h32 => ?_)
    subst h32
    refine v_bipush (pc := 35) (v := nI 48) X dX5_part_35 rfl ?_
    refine v_bipush (pc := 37) (v := nI 57) X dX5_part_37 rfl ?_
    refine v_read (pc := 39) X ⟨_, List.Perm.refl ([] ++ _)⟩ (r_SN X c_X1_in q1000 q91 q1330 q999 hdX1_in ⟨by dsimp only; omega, by dsimp only; omega⟩ rfl rfl (Nat.le_of_ble_eq_true rfl) dX5_part_39 ⟨by dsimp only; omega, by dsimp only; omega⟩) (fun r39 h39 => ?_)
    subst h39
    refine v_if_neB (pc := 42) X 57 dX5_part_42 (by decide) (fun h42 => ?_) (fun h42 => ?_)
    · have hdg := (hr_dig ht6).mp h42
      obtain ⟨ch, hch⟩ : ∃ ch, t[p]? = some ch := by
        cases e : t[p]? with
        | none => unfold digF at hdg; rw [e] at hdg; cases hdg
        | some c => exact ⟨c, rfl⟩
      have hch2 : 48 ≤ ch ∧ ch ≤ 57 := by unfold digF at hdg; rw [hch] at hdg; simpa using hdg
      obtain ⟨eO, eQ⟩ := pr_eq hQ (pP_d (n := u) hch hch2.1 hch2.2)
      refine v_aload_n (pc := 57) X dX5_part_57 rfl 0 rfl ?_
      refine v_read (pc := 58) X ⟨[], perm_nil _⟩ (r_V X (c_X5_here (s := (s.1, s.2.1, s.2.2)) (mem_fl 0 rfl List.mem_cons_self) (mem_fl 1 rfl htb) (mem_fl 1 rfl hva) hS h60 (by omega)) (mem_fl 0 rfl List.mem_cons_self) rfl rfl (lw_V q1274 q1276 qs19 q101 q1277) hdX5_here ⟨by dsimp only; omega, by dsimp only; omega⟩ rfl rfl (Nat.le_of_ble_eq_true rfl) dX5_part_58 ⟨by dsimp only; omega, by dsimp only; omega⟩) (fun r58 h58 => ?_)
      subst h58
      refine v_top (y := (nI ch)) (hr_some hch) ?_
      refine v_bipush (pc := 61) (v := nI 48) X dX5_part_61 rfl ?_
      refine v_isubN (pc := 63) X (by omega) dX5_part_63 ?_
      refine v_istore_n (pc := 64) (loc' := [(1, .int (nI (ch - 48))), (0, .ref x)]) X dX5_part_64 rfl (by decide) rfl ?_
      refine v_aload_n (pc := 65) X dX5_part_65 rfl 1 rfl ?_
      refine v_dup (pc := 66) X dX5_part_66 rfl ?_
      refine v_getM (pc := 67) X in_X5 (mem_fl 0 rfl List.mem_cons_self) rfl 1 (by decide) q302 (fun y h => h) rfl dX5_part_67 ?_
      refine v_iconst (pc := 70) (v := nI 1) X dX5_part_70 rfl ?_
      refine v_iaddN (pc := 71) X dX5_part_71 ?_
      refine v_put (pc := 72) X in_X5 tyX5 tyX5_ok nmX5 0 rfl rfl 1 (by decide) q302 (fun y h => h) rfl rfl rfl (Nat.le_of_ble_eq_true rfl) dX5_part_72 (ws' := fl [[(x, .inr (4, [.ref tb, .int (nI (p + 1)), .int mn, .ref wa, .ref na, .int s.1, .int s.2.1, .int (nI s.2.2)]))], ws]) rfl ?_
      refine v_aload_n (pc := 75) X dX5_part_75 rfl 1 rfl ?_
      refine v_aload_n (pc := 76) X dX5_part_76 rfl 1 rfl ?_
      refine v_getM (pc := 77) X in_X5 (mem_fl 0 rfl List.mem_cons_self) rfl 6 (by decide) q308 (fun y h => h) rfl dX5_part_77 ?_
      refine v_iconst (pc := 80) (v := -1) X dX5_part_80 rfl ?_
      refine v_ic_ne (pc := 81) X 106 dX5_part_81 (by decide) (fun h81 => ?_) (fun h81 => ?_)
      · refine v_aload_n (pc := 106) X dX5_part_106 rfl 1 rfl ?_
        refine v_getM (pc := 107) X in_X5 (mem_fl 0 rfl List.mem_cons_self) rfl 6 (by decide) q308 (fun y h => h) rfl dX5_part_107 ?_
        refine v_top (y := ((rsV s (ch - 48)).2.1)) (by unfold rsV; dsimp only; rw [if_neg (fun z => h81 z.1)]) ?_
        refine v_put (pc := 110) X in_X5 tyX5 tyX5_ok nmX5 0 rfl rfl 6 (by decide) q308 (fun y h => h) rfl rfl rfl (Nat.le_of_ble_eq_true rfl) dX5_part_110 (ws' := fl [[(x, .inr (4, [.ref tb, .int (nI (p + 1)), .int mn, .ref wa, .ref na, .int s.1, .int ((rsV s (ch - 48)).2.1), .int (nI s.2.2)]))], ws]) rfl ?_
        refine v_aload_n (pc := 113) X dX5_part_113 rfl 1 rfl ?_
        refine v_iload_n (pc := 114) X dX5_part_114 rfl 0 rfl ?_
        refine v_put (pc := 115) X in_X5 tyX5 tyX5_ok nmX5 0 rfl rfl 5 (by decide) q307 (fun y h => h) rfl rfl rfl (Nat.le_of_ble_eq_true rfl) dX5_part_115 (ws' := fl [[(x, .inr (4, [.ref tb, .int (nI (p + 1)), .int mn, .ref wa, .ref na, .int (nI (ch - 48)), .int ((rsV s (ch - 48)).2.1), .int (nI s.2.2)]))], ws]) rfl ?_
        refine v_aload_n (pc := 118) X dX5_part_118 rfl 1 rfl ?_
        refine v_aload_n (pc := 119) X dX5_part_119 rfl 1 rfl ?_
        refine v_getM (pc := 120) X in_X5 (mem_fl 0 rfl List.mem_cons_self) rfl 7 (by decide) q310 (fun y h => h) rfl dX5_part_120 ?_
        refine v_iload_n (pc := 123) X dX5_part_123 rfl 0 rfl ?_
        refine v_maxN (pc := 124) X q1331 (by omega) (by omega) ⟨by dsimp only; omega, by dsimp only; omega⟩ (Nat.le_of_ble_eq_true rfl) ⟨by dsimp only; omega, by dsimp only; omega⟩ dX5_part_124 ?_
        refine v_put (pc := 127) X in_X5 tyX5 tyX5_ok nmX5 0 rfl rfl 7 (by decide) q310 (fun y h => h) rfl rfl rfl (Nat.le_of_ble_eq_true rfl) dX5_part_127 (ws' := fl [[(x, .inr (4, [.ref tb, .int (nI (p + 1)), .int mn, .ref wa, .ref na, .int (nI (ch - 48)), .int ((rsV s (ch - 48)).2.1), .int (nI (max s.2.2 (ch - 48)))]))], ws]) rfl ?_
        refine v_iload_n (pc := 130) X dX5_part_130 rfl 0 rfl ?_
        refine v_frame (pc := 131) X (wr := fl [[(x, .inr (4, [.ref tb, .int (nI (p + 1)), .int mn, .ref wa, .ref na, .int (nI (ch - 48)), .int ((rsV s (ch - 48)).2.1), .int (nI (max s.2.2 (ch - 48)))]))], ws]) (fl_split 0 _) (r_S X (c_X9_vat (v := ch - 48)) (lw_S q1332 q1333 q118 q1334) hdX9_vat ⟨by dsimp only; omega, by dsimp only; omega⟩ rfl rfl (Nat.le_of_ble_eq_true rfl) dX5_part_131 ⟨by dsimp only; omega, by dsimp only; omega⟩) (fun v131 w131 h131 => ?_)
        obtain ⟨qv, rfl, rfl⟩ := h131
        refine v_flj (a := [[(qv, .inr (9, [.int (nI (ch - 48))]))]]) (b := [[(x, .inr (4, [.ref tb, .int (nI (p + 1)), .int mn, .ref wa, .ref na, .int (nI (ch - 48)), .int ((rsV s (ch - 48)).2.1), .int (nI (max s.2.2 (ch - 48)))]))], ws]) ?_
        refine v_eq (ws' := fl [[(qv, .inr (9, [.int (nI (ch - 48))]))], [(x, .inr (4, [.ref tb, .int (nI (p + 1)), .int mn, .ref wa, .ref na, .int (nI (ch - 48)), .int ((rsV s (ch - 48)).2.1), .int (nI (max s.2.2 (ch - 48)))]))], ws]) rfl rfl rfl ?_
        refine v_perm (ws' := fl [[(x, .inr (4, [.ref tb, .int (nI (p + 1)), .int mn, .ref wa, .ref na, .int (nI (ch - 48)), .int ((rsV s (ch - 48)).2.1), .int (nI (max s.2.2 (ch - 48)))]))], [(qv, .inr (9, [.int (nI (ch - 48))]))], ws]) (fl_perm (((mv_perm 2 _).trans (mv_perm 1 _)).trans (mv_perm 2 _))) ?_
        refine v_widen (k := (2 * (Q - p) + 1)) (n := (10 * (2 * (Q - p) + 1))) (by omega) (by omega) ?_
        exact v_xr (v_aret (pc := 134) X hr (Or.inl ⟨_, rfl⟩) dX5_part_134 (by subst eO; subst eQ; exact ⟨lf (ch - 48), qv, _, rfl, rfl, rfl, List.mem_cons_self⟩))
      · refine v_aload_n (pc := 84) X dX5_part_84 rfl 1 rfl ?_
        refine v_getM (pc := 85) X in_X5 (mem_fl 0 rfl List.mem_cons_self) rfl 5 (by decide) q307 (fun y h => h) rfl dX5_part_85 ?_
        refine v_iconst (pc := 88) (v := -1) X dX5_part_88 rfl ?_
        refine v_ic_eq (pc := 89) X 106 dX5_part_89 (by decide) (fun h89 => ?_) (fun h89 => ?_)
        · refine v_aload_n (pc := 106) X dX5_part_106 rfl 1 rfl ?_
          refine v_getM (pc := 107) X in_X5 (mem_fl 0 rfl List.mem_cons_self) rfl 6 (by decide) q308 (fun y h => h) rfl dX5_part_107 ?_
          refine v_top (y := ((rsV s (ch - 48)).2.1)) (by unfold rsV; dsimp only; rw [if_neg (fun z => z.2.1 h89)]) ?_
          refine v_put (pc := 110) X in_X5 tyX5 tyX5_ok nmX5 0 rfl rfl 6 (by decide) q308 (fun y h => h) rfl rfl rfl (Nat.le_of_ble_eq_true rfl) dX5_part_110 (ws' := fl [[(x, .inr (4, [.ref tb, .int (nI (p + 1)), .int mn, .ref wa, .ref na, .int s.1, .int ((rsV s (ch - 48)).2.1), .int (nI s.2.2)]))], ws]) rfl ?_
          refine v_aload_n (pc := 113) X dX5_part_113 rfl 1 rfl ?_
          refine v_iload_n (pc := 114) X dX5_part_114 rfl 0 rfl ?_
          refine v_put (pc := 115) X in_X5 tyX5 tyX5_ok nmX5 0 rfl rfl 5 (by decide) q307 (fun y h => h) rfl rfl rfl (Nat.le_of_ble_eq_true rfl) dX5_part_115 (ws' := fl [[(x, .inr (4, [.ref tb, .int (nI (p + 1)), .int mn, .ref wa, .ref na, .int (nI (ch - 48)), .int ((rsV s (ch - 48)).2.1), .int (nI s.2.2)]))], ws]) rfl ?_
          refine v_aload_n (pc := 118) X dX5_part_118 rfl 1 rfl ?_
          refine v_aload_n (pc := 119) X dX5_part_119 rfl 1 rfl ?_
          refine v_getM (pc := 120) X in_X5 (mem_fl 0 rfl List.mem_cons_self) rfl 7 (by decide) q310 (fun y h => h) rfl dX5_part_120 ?_
          refine v_iload_n (pc := 123) X dX5_part_123 rfl 0 rfl ?_
          refine v_maxN (pc := 124) X q1331 (by omega) (by omega) ⟨by dsimp only; omega, by dsimp only; omega⟩ (Nat.le_of_ble_eq_true rfl) ⟨by dsimp only; omega, by dsimp only; omega⟩ dX5_part_124 ?_
          refine v_put (pc := 127) X in_X5 tyX5 tyX5_ok nmX5 0 rfl rfl 7 (by decide) q310 (fun y h => h) rfl rfl rfl (Nat.le_of_ble_eq_true rfl) dX5_part_127 (ws' := fl [[(x, .inr (4, [.ref tb, .int (nI (p + 1)), .int mn, .ref wa, .ref na, .int (nI (ch - 48)), .int ((rsV s (ch - 48)).2.1), .int (nI (max s.2.2 (ch - 48)))]))], ws]) rfl ?_
          refine v_iload_n (pc := 130) X dX5_part_130 rfl 0 rfl ?_
          refine v_frame (pc := 131) X (wr := fl [[(x, .inr (4, [.ref tb, .int (nI (p + 1)), .int mn, .ref wa, .ref na, .int (nI (ch - 48)), .int ((rsV s (ch - 48)).2.1), .int (nI (max s.2.2 (ch - 48)))]))], ws]) (fl_split 0 _) (r_S X (c_X9_vat (v := ch - 48)) (lw_S q1332 q1333 q118 q1334) hdX9_vat ⟨by dsimp only; omega, by dsimp only; omega⟩ rfl rfl (Nat.le_of_ble_eq_true rfl) dX5_part_131 ⟨by dsimp only; omega, by dsimp only; omega⟩) (fun v131 w131 h131 => ?_)
          obtain ⟨qv, rfl, rfl⟩ := h131
          refine v_flj (a := [[(qv, .inr (9, [.int (nI (ch - 48))]))]]) (b := [[(x, .inr (4, [.ref tb, .int (nI (p + 1)), .int mn, .ref wa, .ref na, .int (nI (ch - 48)), .int ((rsV s (ch - 48)).2.1), .int (nI (max s.2.2 (ch - 48)))]))], ws]) ?_
          refine v_eq (ws' := fl [[(qv, .inr (9, [.int (nI (ch - 48))]))], [(x, .inr (4, [.ref tb, .int (nI (p + 1)), .int mn, .ref wa, .ref na, .int (nI (ch - 48)), .int ((rsV s (ch - 48)).2.1), .int (nI (max s.2.2 (ch - 48)))]))], ws]) rfl rfl rfl ?_
          refine v_perm (ws' := fl [[(x, .inr (4, [.ref tb, .int (nI (p + 1)), .int mn, .ref wa, .ref na, .int (nI (ch - 48)), .int ((rsV s (ch - 48)).2.1), .int (nI (max s.2.2 (ch - 48)))]))], [(qv, .inr (9, [.int (nI (ch - 48))]))], ws]) (fl_perm (((mv_perm 2 _).trans (mv_perm 1 _)).trans (mv_perm 2 _))) ?_
          refine v_widen (k := (2 * (Q - p) + 1)) (n := (10 * (2 * (Q - p) + 1))) (by omega) (by omega) ?_
          exact v_xr (v_aret (pc := 134) X hr (Or.inl ⟨_, rfl⟩) dX5_part_134 (by subst eO; subst eQ; exact ⟨lf (ch - 48), qv, _, rfl, rfl, rfl, List.mem_cons_self⟩))
        · refine v_iload_n (pc := 92) X dX5_part_92 rfl 0 rfl ?_
          refine v_aload_n (pc := 93) X dX5_part_93 rfl 1 rfl ?_
          refine v_getM (pc := 94) X in_X5 (mem_fl 0 rfl List.mem_cons_self) rfl 5 (by decide) q307 (fun y h => h) rfl dX5_part_94 ?_
          refine v_iconst (pc := 97) (v := nI 1) X dX5_part_97 rfl ?_
          refine v_iadd (pc := 98) X dX5_part_98 ?_
          refine v_ic_eq (pc := 99) X 106 dX5_part_99 (by decide) (fun h99 => ?_) (fun h99 => ?_)
          · refine v_aload_n (pc := 106) X dX5_part_106 rfl 1 rfl ?_
            refine v_getM (pc := 107) X in_X5 (mem_fl 0 rfl List.mem_cons_self) rfl 6 (by decide) q308 (fun y h => h) rfl dX5_part_107 ?_
            refine v_top (y := ((rsV s (ch - 48)).2.1)) (by unfold rsV; dsimp only; rw [if_neg (fun z => z.2.2 h99)]) ?_
            refine v_put (pc := 110) X in_X5 tyX5 tyX5_ok nmX5 0 rfl rfl 6 (by decide) q308 (fun y h => h) rfl rfl rfl (Nat.le_of_ble_eq_true rfl) dX5_part_110 (ws' := fl [[(x, .inr (4, [.ref tb, .int (nI (p + 1)), .int mn, .ref wa, .ref na, .int s.1, .int ((rsV s (ch - 48)).2.1), .int (nI s.2.2)]))], ws]) rfl ?_
            refine v_aload_n (pc := 113) X dX5_part_113 rfl 1 rfl ?_
            refine v_iload_n (pc := 114) X dX5_part_114 rfl 0 rfl ?_
            refine v_put (pc := 115) X in_X5 tyX5 tyX5_ok nmX5 0 rfl rfl 5 (by decide) q307 (fun y h => h) rfl rfl rfl (Nat.le_of_ble_eq_true rfl) dX5_part_115 (ws' := fl [[(x, .inr (4, [.ref tb, .int (nI (p + 1)), .int mn, .ref wa, .ref na, .int (nI (ch - 48)), .int ((rsV s (ch - 48)).2.1), .int (nI s.2.2)]))], ws]) rfl ?_
            refine v_aload_n (pc := 118) X dX5_part_118 rfl 1 rfl ?_
            refine v_aload_n (pc := 119) X dX5_part_119 rfl 1 rfl ?_
            refine v_getM (pc := 120) X in_X5 (mem_fl 0 rfl List.mem_cons_self) rfl 7 (by decide) q310 (fun y h => h) rfl dX5_part_120 ?_
            refine v_iload_n (pc := 123) X dX5_part_123 rfl 0 rfl ?_
            refine v_maxN (pc := 124) X q1331 (by omega) (by omega) ⟨by dsimp only; omega, by dsimp only; omega⟩ (Nat.le_of_ble_eq_true rfl) ⟨by dsimp only; omega, by dsimp only; omega⟩ dX5_part_124 ?_
            refine v_put (pc := 127) X in_X5 tyX5 tyX5_ok nmX5 0 rfl rfl 7 (by decide) q310 (fun y h => h) rfl rfl rfl (Nat.le_of_ble_eq_true rfl) dX5_part_127 (ws' := fl [[(x, .inr (4, [.ref tb, .int (nI (p + 1)), .int mn, .ref wa, .ref na, .int (nI (ch - 48)), .int ((rsV s (ch - 48)).2.1), .int (nI (max s.2.2 (ch - 48)))]))], ws]) rfl ?_
            refine v_iload_n (pc := 130) X dX5_part_130 rfl 0 rfl ?_
            refine v_frame (pc := 131) X (wr := fl [[(x, .inr (4, [.ref tb, .int (nI (p + 1)), .int mn, .ref wa, .ref na, .int (nI (ch - 48)), .int ((rsV s (ch - 48)).2.1), .int (nI (max s.2.2 (ch - 48)))]))], ws]) (fl_split 0 _) (r_S X (c_X9_vat (v := ch - 48)) (lw_S q1332 q1333 q118 q1334) hdX9_vat ⟨by dsimp only; omega, by dsimp only; omega⟩ rfl rfl (Nat.le_of_ble_eq_true rfl) dX5_part_131 ⟨by dsimp only; omega, by dsimp only; omega⟩) (fun v131 w131 h131 => ?_)
            obtain ⟨qv, rfl, rfl⟩ := h131
            refine v_flj (a := [[(qv, .inr (9, [.int (nI (ch - 48))]))]]) (b := [[(x, .inr (4, [.ref tb, .int (nI (p + 1)), .int mn, .ref wa, .ref na, .int (nI (ch - 48)), .int ((rsV s (ch - 48)).2.1), .int (nI (max s.2.2 (ch - 48)))]))], ws]) ?_
            refine v_eq (ws' := fl [[(qv, .inr (9, [.int (nI (ch - 48))]))], [(x, .inr (4, [.ref tb, .int (nI (p + 1)), .int mn, .ref wa, .ref na, .int (nI (ch - 48)), .int ((rsV s (ch - 48)).2.1), .int (nI (max s.2.2 (ch - 48)))]))], ws]) rfl rfl rfl ?_
            refine v_perm (ws' := fl [[(x, .inr (4, [.ref tb, .int (nI (p + 1)), .int mn, .ref wa, .ref na, .int (nI (ch - 48)), .int ((rsV s (ch - 48)).2.1), .int (nI (max s.2.2 (ch - 48)))]))], [(qv, .inr (9, [.int (nI (ch - 48))]))], ws]) (fl_perm (((mv_perm 2 _).trans (mv_perm 1 _)).trans (mv_perm 2 _))) ?_
            refine v_widen (k := (2 * (Q - p) + 1)) (n := (10 * (2 * (Q - p) + 1))) (by omega) (by omega) ?_
            exact v_xr (v_aret (pc := 134) X hr (Or.inl ⟨_, rfl⟩) dX5_part_134 (by subst eO; subst eQ; exact ⟨lf (ch - 48), qv, _, rfl, rfl, rfl, List.mem_cons_self⟩))
          · refine v_iload_n (pc := 102) X dX5_part_102 rfl 0 rfl ?_
            refine v_goto (pc := 103) X 110 dX5_part_103 (by decide) ?_
            refine v_top (y := ((rsV s (ch - 48)).2.1)) (by unfold rsV; dsimp only; rw [if_pos ⟨h81, h89, h99⟩]) ?_
            refine v_put (pc := 110) X in_X5 tyX5 tyX5_ok nmX5 0 rfl rfl 6 (by decide) q308 (fun y h => h) rfl rfl rfl (Nat.le_of_ble_eq_true rfl) dX5_part_110 (ws' := fl [[(x, .inr (4, [.ref tb, .int (nI (p + 1)), .int mn, .ref wa, .ref na, .int s.1, .int ((rsV s (ch - 48)).2.1), .int (nI s.2.2)]))], ws]) rfl ?_
            refine v_aload_n (pc := 113) X dX5_part_113 rfl 1 rfl ?_
            refine v_iload_n (pc := 114) X dX5_part_114 rfl 0 rfl ?_
            refine v_put (pc := 115) X in_X5 tyX5 tyX5_ok nmX5 0 rfl rfl 5 (by decide) q307 (fun y h => h) rfl rfl rfl (Nat.le_of_ble_eq_true rfl) dX5_part_115 (ws' := fl [[(x, .inr (4, [.ref tb, .int (nI (p + 1)), .int mn, .ref wa, .ref na, .int (nI (ch - 48)), .int ((rsV s (ch - 48)).2.1), .int (nI s.2.2)]))], ws]) rfl ?_
            refine v_aload_n (pc := 118) X dX5_part_118 rfl 1 rfl ?_
            refine v_aload_n (pc := 119) X dX5_part_119 rfl 1 rfl ?_
            refine v_getM (pc := 120) X in_X5 (mem_fl 0 rfl List.mem_cons_self) rfl 7 (by decide) q310 (fun y h => h) rfl dX5_part_120 ?_
            refine v_iload_n (pc := 123) X dX5_part_123 rfl 0 rfl ?_
            refine v_maxN (pc := 124) X q1331 (by omega) (by omega) ⟨by dsimp only; omega, by dsimp only; omega⟩ (Nat.le_of_ble_eq_true rfl) ⟨by dsimp only; omega, by dsimp only; omega⟩ dX5_part_124 ?_
            refine v_put (pc := 127) X in_X5 tyX5 tyX5_ok nmX5 0 rfl rfl 7 (by decide) q310 (fun y h => h) rfl rfl rfl (Nat.le_of_ble_eq_true rfl) dX5_part_127 (ws' := fl [[(x, .inr (4, [.ref tb, .int (nI (p + 1)), .int mn, .ref wa, .ref na, .int (nI (ch - 48)), .int ((rsV s (ch - 48)).2.1), .int (nI (max s.2.2 (ch - 48)))]))], ws]) rfl ?_
            refine v_iload_n (pc := 130) X dX5_part_130 rfl 0 rfl ?_
            refine v_frame (pc := 131) X (wr := fl [[(x, .inr (4, [.ref tb, .int (nI (p + 1)), .int mn, .ref wa, .ref na, .int (nI (ch - 48)), .int ((rsV s (ch - 48)).2.1), .int (nI (max s.2.2 (ch - 48)))]))], ws]) (fl_split 0 _) (r_S X (c_X9_vat (v := ch - 48)) (lw_S q1332 q1333 q118 q1334) hdX9_vat ⟨by dsimp only; omega, by dsimp only; omega⟩ rfl rfl (Nat.le_of_ble_eq_true rfl) dX5_part_131 ⟨by dsimp only; omega, by dsimp only; omega⟩) (fun v131 w131 h131 => ?_)
            obtain ⟨qv, rfl, rfl⟩ := h131
            refine v_flj (a := [[(qv, .inr (9, [.int (nI (ch - 48))]))]]) (b := [[(x, .inr (4, [.ref tb, .int (nI (p + 1)), .int mn, .ref wa, .ref na, .int (nI (ch - 48)), .int ((rsV s (ch - 48)).2.1), .int (nI (max s.2.2 (ch - 48)))]))], ws]) ?_
            refine v_eq (ws' := fl [[(qv, .inr (9, [.int (nI (ch - 48))]))], [(x, .inr (4, [.ref tb, .int (nI (p + 1)), .int mn, .ref wa, .ref na, .int (nI (ch - 48)), .int ((rsV s (ch - 48)).2.1), .int (nI (max s.2.2 (ch - 48)))]))], ws]) rfl rfl rfl ?_
            refine v_perm (ws' := fl [[(x, .inr (4, [.ref tb, .int (nI (p + 1)), .int mn, .ref wa, .ref na, .int (nI (ch - 48)), .int ((rsV s (ch - 48)).2.1), .int (nI (max s.2.2 (ch - 48)))]))], [(qv, .inr (9, [.int (nI (ch - 48))]))], ws]) (fl_perm (((mv_perm 2 _).trans (mv_perm 1 _)).trans (mv_perm 2 _))) ?_
            refine v_widen (k := (2 * (Q - p) + 1)) (n := (10 * (2 * (Q - p) + 1))) (by omega) (by omega) ?_
            exact v_xr (v_aret (pc := 134) X hr (Or.inl ⟨_, rfl⟩) dX5_part_134 (by subst eO; subst eQ; exact ⟨lf (ch - 48), qv, _, rfl, rfl, rfl, List.mem_cons_self⟩))
    · obtain ⟨eO, eQ⟩ := pr_eq hQ (pP_n h6 (fun z => h42 ((hr_dig ht6).mpr z)))
      refine v_newE (pc := 45) (pi := 53) (ci := 7) (As := [.int (nI p)]) (post := fun fs => FaIs fs ((nI p))) X in_X8 tyX8 tyX8_ok q1293 q1294 q117 rfl (fun j hj => by rcases (show j = 0 ∨ j = 1 ∨ j = 2 ∨ j = 3 ∨ j = 4 ∨ j = 5 ∨ j = 6 by omega) with rfl | rfl | rfl | rfl | rfl | rfl | rfl <;> rfl) dX5_part_45 dX5_part_48 (fun ls H1 locs q hl hP k => lv_aload_n X.hx X.hb dX5_part_49 rfl (lv_at hl 0 rfl) (va_get X.hx X.hb X.hts in_X5 X.hown X.hK hP 0 rfl rfl 1 (by decide) (X.hts _ q302) (fun y h => h) rfl dX5_part_50 k)) (fun q => c_X8_init hst) q1304 q117 q1302 q1303 hdX8_init ⟨by dsimp only; omega, by dsimp only; omega⟩ rfl (Nat.le_of_ble_eq_true rfl) dX5_part_53 ⟨by dsimp only; omega, by dsimp only; omega⟩ (fun q45 fs45 hf45 => ?_)
      refine v_eq (ws' := fl [[(q45, .inr (7, fs45))], [(x, .inr (4, [.ref tb, .int (nI p), .int mn, .ref wa, .ref na, .int s.1, .int s.2.1, .int (nI s.2.2)]))], ws]) rfl rfl rfl ?_
      refine v_athrow (pc := 56) X (mem_fl 0 rfl List.mem_cons_self) rfl rfl dX5_part_56 ?_
      exact vt_out X (fun z hz => (ht z hz).elim) (by omega) (by omega) (by subst eO; subst eQ; exact ⟨rfl, fs45, s, rfl, rfl, hf45⟩)
  · refine v_eq (ws' := fl [[(x, .inr (4, [.ref tb, .int (nI ((p + 1))), .int mn, .ref wa, .ref na, .int s.1, .int s.2.1, .int (nI s.2.2)]))], ws]) (by rw [if_pos h6]) rfl rfl ?_
    have hpl := (List.getElem?_eq_some_iff.mp h6).1
    obtain ⟨o1, q1, hq1⟩ : ∃ a b, pPart t u (p + 1) = (a, b) := ⟨_, _, rfl⟩
    have hb1 := pP_le t u (p + 1) hpl hq1
    have hQ1 := pP_q1 h6 hq1 hQ
    refine v_aload_n (pc := 9) X dX5_part_9 rfl 0 rfl ?_
    refine v_frameX (pc := 10) X (wr := []) (fl_split 2 _) (x_V X (ih (p + 1) s o1 q1 (by omega) (by omega) hg hq1) (List.mem_of_getElem? (i := 0) rfl) rfl rfl (lw_V q1266 q1268 qs17 q101 q1269) hdX5_part ⟨by dsimp only; omega, by dsimp only; omega⟩ rfl rfl (Nat.le_of_ble_eq_true rfl) dX5_part_10 ⟨by dsimp only; omega, by dsimp only; omega⟩) (fun q10 E10 w10 x10 => ?_) (fun v10 w10 h10 => ?_)
    · obtain ⟨rfl, fs1, s1, rfl, rfl, hf1⟩ := x10
      obtain ⟨eO, eQ⟩ := pr_eq hQ (pP_1 h6 hq1)
      refine vt_less (List.sublist_append_left _ _) ?_
      exact vt_out X (fun z hz => (ht z hz).elim) (by omega) (by omega) (by subst eO; subst eQ; exact ⟨rfl, fs1, s1, rfl, rfl, hf1⟩)
    · obtain ⟨T1, a1, nw1, rfl, rfl, rfl, hP1⟩ := h10
      refine v_flj (a := [[(x, .inr (4, [.ref tb, .int (nI q1), .int mn, .ref wa, .ref na, .int ((rsL s (lvs T1)).1), .int ((rsL s (lvs T1)).2.1), .int (nI ((rsL s (lvs T1)).2.2))]))], nw1, ws]) (b := []) ?_
      refine v_eq (ws' := fl [[(x, .inr (4, [.ref tb, .int (nI q1), .int mn, .ref wa, .ref na, .int ((rsL s (lvs T1)).1), .int ((rsL s (lvs T1)).2.1), .int (nI ((rsL s (lvs T1)).2.2))]))], nw1, ws]) rfl rfl rfl ?_
      refine v_astore_n (pc := 13) (loc' := [(1, .ref a1), (0, .ref x)]) X dX5_part_13 rfl (by decide) rfl ?_
      obtain ⟨o2, q2, hq2⟩ : ∃ a b, pPart t u q1 = (a, b) := ⟨_, _, rfl⟩
      have hb2 := pP_le t u q1 hb1.2 hq2
      have hQ2 := pP_q2 h6 hq1 hq2 hQ
      refine v_aload_n (pc := 14) X dX5_part_14 rfl 1 rfl ?_
      refine v_frameX (pc := 15) X (wr := fl [nw1]) ((fl_perm ((mv_perm 2 _).trans (mv_perm 1 _))).trans (fl_split 2 _)) (x_V X (ih q1 (rsL s (lvs T1)) o2 q2 (by omega) (by omega) (rsL_g _ _ hg (pP_lv _ _ hq1)) hq2) (List.mem_of_getElem? (i := 0) rfl) rfl rfl (lw_V q1266 q1268 qs17 q101 q1269) hdX5_part ⟨by dsimp only; omega, by dsimp only; omega⟩ rfl rfl (Nat.le_of_ble_eq_true rfl) dX5_part_15 ⟨by dsimp only; omega, by dsimp only; omega⟩) (fun q15 E15 w15 x15 => ?_) (fun v15 w15 h15 => ?_)
      · obtain ⟨rfl, fs1, s1, rfl, rfl, hf1⟩ := x15
        obtain ⟨eO, eQ⟩ := pr_eq hQ (pP_2 h6 hq1 hq2)
        refine vt_less (List.sublist_append_left _ _) ?_
        exact vt_out X (fun z hz => (ht z hz).elim) (by omega) (by omega) (by subst eO; subst eQ; exact ⟨rfl, fs1, s1, rfl, rfl, hf1⟩)
      · obtain ⟨T2, a2, nw2, rfl, rfl, rfl, hP2⟩ := h15
        refine v_flj (a := [[(x, .inr (4, [.ref tb, .int (nI q2), .int mn, .ref wa, .ref na, .int ((rsL (rsL s (lvs T1)) (lvs T2)).1), .int ((rsL (rsL s (lvs T1)) (lvs T2)).2.1), .int (nI ((rsL (rsL s (lvs T1)) (lvs T2)).2.2))]))], nw2, ws]) (b := [nw1]) ?_
        refine v_eq (ws' := fl [[(x, .inr (4, [.ref tb, .int (nI q2), .int mn, .ref wa, .ref na, .int ((rsL (rsL s (lvs T1)) (lvs T2)).1), .int ((rsL (rsL s (lvs T1)) (lvs T2)).2.1), .int (nI ((rsL (rsL s (lvs T1)) (lvs T2)).2.2))]))], nw2, ws, nw1]) rfl rfl rfl ?_
        refine v_astore_n (pc := 18) (loc' := [(2, .ref a2), (1, .ref a1), (0, .ref x)]) X dX5_part_18 rfl (by decide) rfl ?_
        refine v_aload_n (pc := 19) X dX5_part_19 rfl 2 rfl ?_
        refine v_bipush (pc := 20) (v := nI 41) X dX5_part_20 rfl ?_
        refine v_frameX (pc := 22) X (wr := fl [nw2, nw1]) ((fl_perm ((mv_perm 2 _).trans (mv_perm 1 _))).trans (fl_split 2 _)) (x_V X (c_X5_must (s := (rsL (rsL s (lvs T1)) (lvs T2))) (c := 41) hst htb hva hS h60 (by omega) (by omega)) (List.mem_of_getElem? (i := 0) rfl) rfl rfl (lw_V q1289 q1291 qs20 q101 q1292) hdX5_must ⟨by dsimp only; omega, by dsimp only; omega⟩ rfl rfl (Nat.le_of_ble_eq_true rfl) dX5_part_22 ⟨by dsimp only; omega, by dsimp only; omega⟩) (fun q22 E22 w22 x22 => ?_) (fun v22 w22 h22 => ?_)
        · obtain ⟨rfl, fs1, rfl, hf1, hn41⟩ := x22
          obtain ⟨eO, eQ⟩ := pr_eq hQ (pP_3 h6 hq1 hq2 hn41)
          refine vt_less (List.sublist_append_left _ _) ?_
          exact vt_out X (fun z hz => (ht z hz).elim) (by omega) (by omega) (by subst eO; subst eQ; exact ⟨rfl, fs1, (rsL (rsL s (lvs T1)) (lvs T2)), rfl, rfl, hf1⟩)
        · obtain ⟨rfl, h41, rfl⟩ := h22
          refine v_flj (a := [[(x, .inr (4, [.ref tb, .int (nI ((q2 + 1))), .int mn, .ref wa, .ref na, .int ((rsL (rsL s (lvs T1)) (lvs T2)).1), .int ((rsL (rsL s (lvs T1)) (lvs T2)).2.1), .int (nI ((rsL (rsL s (lvs T1)) (lvs T2)).2.2))]))], ws]) (b := [nw2, nw1]) ?_
          refine v_eq (ws' := fl [[(x, .inr (4, [.ref tb, .int (nI ((q2 + 1))), .int mn, .ref wa, .ref na, .int ((rsL (rsL s (lvs T1)) (lvs T2)).1), .int ((rsL (rsL s (lvs T1)) (lvs T2)).2.1), .int (nI ((rsL (rsL s (lvs T1)) (lvs T2)).2.2))]))], ws, nw2, nw1]) rfl rfl rfl ?_
          obtain ⟨eO, eQ⟩ := pr_eq hQ (pP_4 h6 hq1 hq2 h41)
          refine v_aload_n (pc := 25) X dX5_part_25 rfl 1 rfl ?_
          refine v_aload_n (pc := 26) X dX5_part_26 rfl 0 rfl ?_
          refine v_frame (pc := 27) X (wr := fl [[(x, .inr (4, [.ref tb, .int (nI ((q2 + 1))), .int mn, .ref wa, .ref na, .int ((rsL (rsL s (lvs T1)) (lvs T2)).1), .int ((rsL (rsL s (lvs T1)) (lvs T2)).2.1), .int (nI ((rsL (rsL s (lvs T1)) (lvs T2)).2.2))]))], ws, nw2, nw1]) (fl_split 0 _) (r_S X c_X9_both (lw_S q1312 q1313 q118 q1314) hdX9_both ⟨by dsimp only; omega, by dsimp only; omega⟩ rfl rfl (Nat.le_of_ble_eq_true rfl) dX5_part_27 ⟨by dsimp only; omega, by dsimp only; omega⟩) (fun v27 w27 h27 => ?_)
          obtain ⟨qb, rfl, rfl⟩ := h27
          refine v_flj (a := [[(qb, .inr (8, [.ref a1, .ref a2]))]]) (b := [[(x, .inr (4, [.ref tb, .int (nI ((q2 + 1))), .int mn, .ref wa, .ref na, .int ((rsL (rsL s (lvs T1)) (lvs T2)).1), .int ((rsL (rsL s (lvs T1)) (lvs T2)).2.1), .int (nI ((rsL (rsL s (lvs T1)) (lvs T2)).2.2))]))], ws, nw2, nw1]) ?_
          refine v_eq (ws' := fl [[(qb, .inr (8, [.ref a1, .ref a2]))], [(x, .inr (4, [.ref tb, .int (nI ((q2 + 1))), .int mn, .ref wa, .ref na, .int ((rsL (rsL s (lvs T1)) (lvs T2)).1), .int ((rsL (rsL s (lvs T1)) (lvs T2)).2.1), .int (nI ((rsL (rsL s (lvs T1)) (lvs T2)).2.2))]))], ws, nw2, nw1]) rfl rfl rfl ?_
          refine v_perm (ws' := fl [[(x, .inr (4, [.ref tb, .int (nI ((q2 + 1))), .int mn, .ref wa, .ref na, .int ((rsL (rsL s (lvs T1)) (lvs T2)).1), .int ((rsL (rsL s (lvs T1)) (lvs T2)).2.1), .int (nI ((rsL (rsL s (lvs T1)) (lvs T2)).2.2))]))], [(qb, .inr (8, [.ref a1, .ref a2]))], nw1, nw2, ws]) (fl_perm (((((mv_perm 2 _).trans (mv_perm 3 _)).trans (mv_perm 4 _)).trans (mv_perm 3 _)).trans (mv_perm 4 _))) ?_
          refine v_eq (ws' := fl [[(x, .inr (4, [.ref tb, .int (nI ((q2 + 1))), .int mn, .ref wa, .ref na, .int ((rsL (rsL s (lvs T1)) (lvs T2)).1), .int ((rsL (rsL s (lvs T1)) (lvs T2)).2.1), .int (nI ((rsL (rsL s (lvs T1)) (lvs T2)).2.2))]))], ([(qb, .inr (8, [.ref a1, .ref a2]))] ++ nw1 ++ nw2), ws]) (fl_mrg3 _ _ _ _ _) rfl rfl ?_
          refine v_widen (k := (2 * (Q - p) + 1)) (n := (10 * (2 * (Q - p) + 1))) (by omega) (by omega) ?_
          exact v_xr (v_aret (pc := 30) X hr (Or.inl ⟨_, rfl⟩) dX5_part_30 (by subst eO; subst eQ; exact ⟨nd T1 T2, qb, _, rfl, rfl, by rw [lvs_nd, rsL_app], ⟨a1, a2, List.mem_append_left _ (List.mem_append_left _ List.mem_cons_self), hP1.mono (fun z hz => List.mem_append_left _ (List.mem_append_right _ hz)), hP2.mono (fun z hz => List.mem_append_right _ hz)⟩⟩))
theorem c_part {l_ : Launch} {D : va_G} {dd : Nat → ClassId} {x tb wa na va n co : Nat} {mn ml : Int32} {f : Nat → Int32} {t : List Nat} {ws : va_W} (hst : l_.stackTraces = false) (htb : (tb, .inr (12, [.ref va, .int (nI co), .int ml, .int (nI t.length)])) ∈ ws) (hva : (va, .inl (dd 2, n, .inl f)) ∈ ws) (hS : SbI co n f t) (h60 : t.length ≤ 60) : ∀ (u p : Nat) (s : RS) (o : Option Tr) (q : Nat), p ≤ t.length → t.length < p + u → s.2.2 ≤ 9 → pPart t u p = (o, q) → XW l_ D dd yX5_part (ws_ yX5_part cX5_part 3 (some (.object "VatBrackets$Part"))) (u + 9) (2 * (q - p) + 1) (10 * (2 * (q - p) + 1)) (22 * u + 240) [.ref x] (fl [[(x, .inr (4, [.ref tb, .int (nI p), .int mn, .ref wa, .ref na, .int s.1, .int s.2.1, .int (nI s.2.2)]))], ws]) (fun r w => ∃ T a nw, r = some (.ref a) ∧ o = some T ∧ w = fl [[(x, .inr (4, [.ref tb, .int (nI q), .int mn, .ref wa, .ref na, .int ((rsL s (lvs T)).1), .int ((rsL s (lvs T)).2.1), .int (nI ((rsL s (lvs T)).2.2))]))], nw, ws] ∧ PartIs nw T a) (fun z E w => E = "VatBrackets$Fault" ∧ ∃ fs s2, o = none ∧ w = (z, .inr (7, fs)) :: fl [[(x, .inr (4, [.ref tb, .int (nI q), .int mn, .ref wa, .ref na, .int ((s2 : RS).1), .int s2.2.1, .int (nI s2.2.2)]))], ws] ∧ FaIs fs (nI q))
  | 0, p, s, o, q, hp, hf, _, _ => by omega
  | u + 1, p, s, o, q, hp, hf, hg, hQ => c_X5_part hst htb hva hS h60 hp (fun p s o q h1 h2 h3 h4 => c_part hst htb hva hS h60 u p s o q h1 h2 h3 h4) hf hg hQ
theorem pA_1 {t : List Nat} {q : Nat} (h : pPart t (t.length + 1) 0 = (none, q)) : pAll t = (none, q) := by unfold pAll; rw [h]
theorem pA_2 {t : List Nat} {q : Nat} {T : Tr} (h : pPart t (t.length + 1) 0 = (some T, q)) (h2 : q < t.length) : pAll t = (none, q) := by unfold pAll; rw [h]; dsimp only; rw [if_pos h2]
theorem pA_3 {t : List Nat} {q : Nat} {T : Tr} (h : pPart t (t.length + 1) 0 = (some T, q)) (h2 : ¬ q < t.length) : pAll t = (some T, q) := by unfold pAll; rw [h]; dsimp only; rw [if_neg h2]
theorem hdX5_brackets : yX5_brackets.cls = RX5 ∧ yX5_brackets.cls ≠ "java/lang/invoke/MethodHandle" ∧ yX5_brackets.cls ≠ "java/lang/invoke/VarHandle" ∧ (parseMethodDescriptor yX5_brackets.desc).map (fun d => d.parameters.length) = some 0 := by decide +kernel
set_option maxHeartbeats 4000000 in
theorem c_X5_brackets {l_ : Launch} {D : va_G} {dd : Nat → ClassId} {x tb wa na va n co p : Nat} {mn ml : Int32} {s : RS} {f : Nat → Int32} {t : List Nat} {ws : va_W} (hst : l_.stackTraces = false) (htb : (tb, .inr (12, [.ref va, .int (nI co), .int ml, .int (nI t.length)])) ∈ ws) (hva : (va, .inl (dd 2, n, .inl f)) ∈ ws) (hS : SbI co n f t) (h60 : t.length ≤ 60) : XW l_ D dd yX5_brackets (ws_ yX5_brackets cX5_brackets 2 (some (.object "VatBrackets$Part"))) 80 140 1400 1700 [.ref x] (fl [[(x, .inr (4, [.ref tb, .int (nI p), .int mn, .ref wa, .ref na, .int s.1, .int s.2.1, .int (nI s.2.2)]))], ws]) (fun r w => ∃ T a nw, r = some (.ref a) ∧ (pAll t).1 = some T ∧ w = fl [[(x, .inr (4, [.ref tb, .int (nI ((pAll t).2)), .int mn, .ref wa, .ref na, .int ((rsL (-1, -1, 0) (lvs T)).1), .int ((rsL (-1, -1, 0) (lvs T)).2.1), .int (nI ((rsL (-1, -1, 0) (lvs T)).2.2))]))], nw, ws] ∧ PartIs nw T a) (fun z E w => E = "VatBrackets$Fault" ∧ ∃ fs s2, (pAll t).1 = none ∧ w = (z, .inr (7, fs)) :: fl [[(x, .inr (4, [.ref tb, .int (nI ((pAll t).2)), .int mn, .ref wa, .ref na, .int ((s2 : RS).1), .int s2.2.1, .int (nI s2.2.2)]))], ws] ∧ FaIs fs (nI ((pAll t).2))) := by
  obtain ⟨o1, q1, hq⟩ : ∃ a b, pPart t (t.length + 1) 0 = (a, b) := ⟨_, _, rfl⟩
  have hb1 := pP_le t (t.length + 1) 0 (Nat.zero_le _) hq
  refine XW.intro (by decide) (Nat.le_of_ble_eq_true rfl) (fun p_ e_ s_ m_ as_ bl_ me_ c_ A_ X hr ht => ?_)
  have X : VX p_ s_ m_ as_ me_ c_ cX5_brackets 2 RX5 D dd A_ := X
  refine v_eq (loc' := [(0, .ref x)]) rfl rfl rfl ?_
  refine v_aload_n (pc := 0) X dX5_brackets_0 rfl 0 rfl ?_
  refine v_iconst (pc := 1) (v := nI 0) X dX5_brackets_1 rfl ?_
  refine v_put (pc := 2) X in_X5 tyX5 tyX5_ok nmX5 0 rfl rfl 1 (by decide) q302 (fun y h => h) rfl rfl rfl (Nat.le_of_ble_eq_true rfl) dX5_brackets_2 (ws' := fl [[(x, .inr (4, [.ref tb, .int (nI 0), .int mn, .ref wa, .ref na, .int s.1, .int s.2.1, .int (nI s.2.2)]))], ws]) rfl ?_
  refine v_aload_n (pc := 5) X dX5_brackets_5 rfl 0 rfl ?_
  refine v_iconst (pc := 6) (v := -1) X dX5_brackets_6 rfl ?_
  refine v_put (pc := 7) X in_X5 tyX5 tyX5_ok nmX5 0 rfl rfl 5 (by decide) q307 (fun y h => h) rfl rfl rfl (Nat.le_of_ble_eq_true rfl) dX5_brackets_7 (ws' := fl [[(x, .inr (4, [.ref tb, .int (nI 0), .int mn, .ref wa, .ref na, .int ((-1)), .int s.2.1, .int (nI s.2.2)]))], ws]) rfl ?_
  refine v_aload_n (pc := 10) X dX5_brackets_10 rfl 0 rfl ?_
  refine v_iconst (pc := 11) (v := -1) X dX5_brackets_11 rfl ?_
  refine v_put (pc := 12) X in_X5 tyX5 tyX5_ok nmX5 0 rfl rfl 6 (by decide) q308 (fun y h => h) rfl rfl rfl (Nat.le_of_ble_eq_true rfl) dX5_brackets_12 (ws' := fl [[(x, .inr (4, [.ref tb, .int (nI 0), .int mn, .ref wa, .ref na, .int ((-1)), .int ((-1)), .int (nI s.2.2)]))], ws]) rfl ?_
  refine v_aload_n (pc := 15) X dX5_brackets_15 rfl 0 rfl ?_
  refine v_iconst (pc := 16) (v := nI 0) X dX5_brackets_16 rfl ?_
  refine v_put (pc := 17) X in_X5 tyX5 tyX5_ok nmX5 0 rfl rfl 7 (by decide) q310 (fun y h => h) rfl rfl rfl (Nat.le_of_ble_eq_true rfl) dX5_brackets_17 (ws' := fl [[(x, .inr (4, [.ref tb, .int (nI 0), .int mn, .ref wa, .ref na, .int ((-1)), .int ((-1)), .int (nI 0)]))], ws]) rfl ?_
  refine v_aload_n (pc := 20) X dX5_brackets_20 rfl 0 rfl ?_
  refine v_frameX (pc := 21) X (wr := []) (fl_split 2 _) (x_V X (c_part hst htb hva hS h60 (t.length + 1) 0 (-1, -1, 0) o1 q1 (by omega) (by omega) (by decide) hq) (List.mem_of_getElem? (i := 0) rfl) rfl rfl (lw_V q1266 q1268 qs17 q101 q1269) hdX5_part ⟨by dsimp only; omega, by dsimp only; omega⟩ rfl rfl (Nat.le_of_ble_eq_true rfl) dX5_brackets_21 ⟨by dsimp only; omega, by dsimp only; omega⟩) (fun q21 E21 w21 x21 => ?_) (fun v21 w21 h21 => ?_)
  · obtain ⟨rfl, fs1, s1, rfl, rfl, hf1⟩ := x21
    refine vt_less (List.sublist_append_left _ _) ?_
    exact vt_out X (fun z hz => (ht z hz).elim) (by omega) (by omega) (by rw [pA_1 hq]; exact ⟨rfl, fs1, s1, rfl, rfl, hf1⟩)
  · obtain ⟨T1, a1, nw1, rfl, rfl, rfl, hP1⟩ := h21
    refine v_flj (a := [[(x, .inr (4, [.ref tb, .int (nI q1), .int mn, .ref wa, .ref na, .int ((rsL (-1, -1, 0) (lvs T1)).1), .int ((rsL (-1, -1, 0) (lvs T1)).2.1), .int (nI ((rsL (-1, -1, 0) (lvs T1)).2.2))]))], nw1, ws]) (b := []) ?_
    refine v_eq (ws' := fl [[(x, .inr (4, [.ref tb, .int (nI q1), .int mn, .ref wa, .ref na, .int ((rsL (-1, -1, 0) (lvs T1)).1), .int ((rsL (-1, -1, 0) (lvs T1)).2.1), .int (nI ((rsL (-1, -1, 0) (lvs T1)).2.2))]))], nw1, ws]) rfl rfl rfl ?_
    refine v_astore_n (pc := 24) (loc' := [(1, .ref a1), (0, .ref x)]) X dX5_brackets_24 rfl (by decide) rfl ?_
    refine v_aload_n (pc := 25) X dX5_brackets_25 rfl 1 rfl ?_
    refine v_frameX (pc := 26) X (wr := fl [nw1]) ((fl_perm ((mv_perm 2 _).trans (mv_perm 1 _))).trans (fl_split 2 _)) (x_V X (c_X5_ends (s := (rsL (-1, -1, 0) (lvs T1))) hst htb hva hS h60 (by omega)) (List.mem_of_getElem? (i := 0) rfl) rfl rfl (lw_V q1345 q1347 qs21 q101 q1348) hdX5_ends ⟨by dsimp only; omega, by dsimp only; omega⟩ rfl rfl (Nat.le_of_ble_eq_true rfl) dX5_brackets_26 ⟨by dsimp only; omega, by dsimp only; omega⟩) (fun q26 E26 w26 x26 => ?_) (fun v26 w26 h26 => ?_)
    · obtain ⟨rfl, fs1, rfl, hf1, hlt⟩ := x26
      refine vt_less (List.sublist_append_left _ _) ?_
      exact vt_out X (fun z hz => (ht z hz).elim) (by omega) (by omega) (by rw [pA_2 hq hlt]; exact ⟨rfl, fs1, (rsL (-1, -1, 0) (lvs T1)), rfl, rfl, hf1⟩)
    · obtain ⟨rfl, hnl, rfl⟩ := h26
      refine v_flj (a := [[(x, .inr (4, [.ref tb, .int (nI q1), .int mn, .ref wa, .ref na, .int ((rsL (-1, -1, 0) (lvs T1)).1), .int ((rsL (-1, -1, 0) (lvs T1)).2.1), .int (nI ((rsL (-1, -1, 0) (lvs T1)).2.2))]))], ws]) (b := [nw1]) ?_
      refine v_eq (ws' := fl [[(x, .inr (4, [.ref tb, .int (nI q1), .int mn, .ref wa, .ref na, .int ((rsL (-1, -1, 0) (lvs T1)).1), .int ((rsL (-1, -1, 0) (lvs T1)).2.1), .int (nI ((rsL (-1, -1, 0) (lvs T1)).2.2))]))], ws, nw1]) rfl rfl rfl ?_
      refine v_aload_n (pc := 29) X dX5_brackets_29 rfl 0 rfl ?_
      refine v_perm (ws' := fl [[(x, .inr (4, [.ref tb, .int (nI q1), .int mn, .ref wa, .ref na, .int ((rsL (-1, -1, 0) (lvs T1)).1), .int ((rsL (-1, -1, 0) (lvs T1)).2.1), .int (nI ((rsL (-1, -1, 0) (lvs T1)).2.2))]))], nw1, ws]) (fl_perm (((mv_perm 1 _).trans (mv_perm 2 _)).trans (mv_perm 2 _))) ?_
      refine v_widen (k := 140) (n := 1400) (by omega) (by omega) ?_
      exact v_xr (v_aret (pc := 30) X hr (Or.inl ⟨_, rfl⟩) dX5_brackets_30 ⟨T1, a1, nw1, rfl, by rw [pA_3 hq hnl], by rw [pA_3 hq hnl], hP1⟩)

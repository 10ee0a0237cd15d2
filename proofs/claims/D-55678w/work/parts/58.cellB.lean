theorem coT_sum (sd : Nat → Nat) : ∀ T : Tr, coT sd T = sumL sd (plT T)
  | .append a b => by
    show coT sd a + coT sd b + prN sd (fsT a) (lsT a) (lsT b) = sumL sd (plT a ++ (plT b ++ [(fsT a, lsT b, lsT a)]))
    rw [coT_sum sd a, coT_sum sd b]
    simp only [sumL, List.map_append, List.sum_append, List.map_cons, List.map_nil, List.sum_cons, List.sum_nil]
    omega
  | .tag _ _ => rfl
  | .nil => rfl
  | .line => rfl
  | .align _ => rfl
  | .text _ => rfl
  | .nest _ _ => rfl
  | .group _ _ => rfl
/-- a plan in the world: its order, what it cost when made -/
def PlanIs (dd : Nat → ClassId) (tl : va_W) (p : Nat) (T : Tr) (md : Int32) : Prop := ∃ (ad : Nat → Nat) (σ : Tw), (∀ q ∈ pw p ad dd σ, q ∈ tl) ∧ PartIs tl T (ad 0) ∧ σ 99 1 = md ∧ σ 99 7 = nI (plT T).length ∧ (∀ (k : Nat) (e : T3), (plT T)[k]? = some e → σ 2 k = nI e.1 ∧ σ 3 k = nI e.2.1 ∧ σ 4 k = nI e.2.2) ∧ ∀ (k : Nat) (z : Int32 × Int32), (kdT 0 T)[k]? = some z → σ 5 k = z.1 ∧ σ 6 k = z.2
theorem PlanIs.mono {dd : Nat → ClassId} {ws ws' : va_W} {p : Nat} {T : Tr} {md : Int32} (h : ∀ q ∈ ws, q ∈ ws') (hp : PlanIs dd ws p T md) : PlanIs dd ws' p T md := by
  obtain ⟨ad, σ, a, b, c⟩ := hp
  exact ⟨ad, σ, fun q hq => h q (a q hq), b.mono h, c⟩
def TrOk (T : Tr) : Prop := rowB T = true ∧ dep T ≤ 8 ∧ ∀ v ∈ lvs T, v < 8
theorem TrOk.len {T : Tr} (h : TrOk T) : (plT T).length ≤ 7 ∧ lsT T = fsT T + (plT T).length ∧ lsT T < 8 := by
  have h1 := row_ls T h.1
  have h2 := h.2.2 _ (ls_mem T)
  omega
theorem plT_bd : ∀ (T : Tr) {n : Nat}, (∀ v ∈ lvs T, v < n) → ∀ e ∈ plT T, e.1 < n ∧ e.2.1 < n ∧ e.2.2 < n
  | .append a b, n, h, e, he => by
    have ha : ∀ v ∈ lvs a, v < n := fun v hv => h v (List.mem_append_left _ hv)
    have hb : ∀ v ∈ lvs b, v < n := fun v hv => h v (List.mem_append_right _ hv)
    rcases List.mem_append.mp (show e ∈ plT a ++ (plT b ++ [_]) from he) with h1 | h1
    · exact plT_bd a ha e h1
    · rcases List.mem_append.mp h1 with h2 | h2
      · exact plT_bd b hb e h2
      · rw [List.mem_singleton] at h2
        subst h2
        exact ⟨ha _ (fs_mem a), hb _ (ls_mem b), ha _ (ls_mem a)⟩
  | .tag _ _, _, _, e, he => by cases he
  | .nil, _, _, e, he => by cases he
  | .line, _, _, e, he => by cases he
  | .align _, _, _, e, he => by cases he
  | .text _, _, _, e, he => by cases he
  | .nest _ _, _, _, e, he => by cases he
  | .group _ _, _, _, e, he => by cases he
/-- the last of the first k that is marked -/
def lstH (p : Nat → Bool) : Nat → Option Nat
  | 0 => none
  | k + 1 => if p k = true then some k else lstH p k
theorem lstH_t {p : Nat → Bool} {k : Nat} (h : p k = true) : lstH p (k + 1) = some k := if_pos h
theorem lstH_f {p : Nat → Bool} {k : Nat} (h : ¬ p k = true) : lstH p (k + 1) = lstH p k := if_neg h
theorem lstH_ord {p : Nat → Bool} {n : Nat} (hu : ∀ i j, i < n → j < n → p i = true → p j = true → i = j) : ∀ k, k ≤ n → lstH p k = fsH p k 0
  | 0, _ => rfl
  | k + 1, h => by
    unfold lstH
    by_cases hk : p k = true
    · rw [if_pos hk]
      exact (fsH_uniq (Nat.lt_succ_self k) hk (fun i hi hp => hu i k (by omega) (by omega) hp hk)).symm
    · rw [if_neg hk, lstH_ord hu k (by omega)]
      cases e : fsH p k 0 with
      | some j =>
        have h1 := fsH_lt e
        exact (fsH_uniq (by omega) h1.2.2 (fun i hi hp => hu i j (by omega) (by omega) hp h1.2.2)).symm
      | none =>
        cases e2 : fsH p (k + 1) 0 with
        | none => rfl
        | some j =>
          have h1 := fsH_lt e2
          exfalso
          by_cases ej : j = k
          · exact hk (ej ▸ h1.2.2)
          · exact fsH_none e j (by omega) (by omega) h1.2.2
theorem hdX2_byStrength : yX2_byStrength.cls = RX2 ∧ yX2_byStrength.cls ≠ "java/lang/invoke/MethodHandle" ∧ yX2_byStrength.cls ≠ "java/lang/invoke/VarHandle" ∧ (parseMethodDescriptor yX2_byStrength.desc).map (fun d => d.parameters.length) = some 1 := by decide +kernel
set_option maxHeartbeats 4000000 in
theorem c_X2_byStrength {l_ : Launch} {D : va_G} {dd : Nat → ClassId} {x sa ca pa n C np : Nat} {ws : va_W} {cf : Nat → Int32} {st : Nat → Nat} {q : Nat} (hx : (x, .inr (1, [.ref sa, .int (nI n), .ref ca, .int (nI C), .ref pa, .int (nI np)])) ∈ ws) (hca : (ca, .inl (dd 0, 4, .inl cf)) ∈ ws) (hS : ∀ k, k < 4 → cf k = nI (st k) ∧ st k ≤ 99999) (hC : C ≤ 4) (hq : q < 1000) : MW l_ D dd yX2_byStrength cX2_byStrength 6 (some .int) 0 0 0 0 [.ref x, .int (nI q)] (ws) (RI (fun r => oI (ordC st C q) = r) ws) := by
  refine MW.intro (by decide) (Nat.le_of_ble_eq_true rfl) (fun p_ e_ s_ m_ as_ bl_ me_ c_ A_ X hr hnm => ?_)
  have X : VX p_ s_ m_ as_ me_ c_ cX2_byStrength 6 RX2 D dd A_ := X
  refine v_eq (loc' := [(0, .ref x), (1, .int (nI q))]) rfl rfl rfl ?_
  refine v_iconst (pc := 0) (v := -1) X dX2_byStrength_0 rfl ?_
  refine v_istore_n (pc := 1) (loc' := [(2, .int ((-1))), (0, .ref x), (1, .int (nI q))]) X dX2_byStrength_1 rfl (by decide) rfl ?_
  refine v_iconst (pc := 2) (v := nI 0) X dX2_byStrength_2 rfl ?_
  refine v_istore_n (pc := 3) (loc' := [(3, .int (nI 0)), (2, .int ((-1))), (0, .ref x), (1, .int (nI q))]) X dX2_byStrength_3 rfl (by decide) rfl ?_
  refine v_sub [2, 3, 1, 0] rfl ?_
  refine v_loop1 (S := Nat) (fun k => fl [ws]) (fun k => [(0, .ref x), (1, .int (nI q)), (2, .int (oI (lstH (fun c => decide (rnk st C c = q)) k))), (3, .int (nI k))]) (fun k => k ≤ C) (fun k => C - k) (fun k hI4 ih4 => ?_) 0 (Nat.zero_le _)
  refine v_iload_n (pc := 4) X dX2_byStrength_4 rfl 3 rfl ?_
  refine v_aload_n (pc := 5) X dX2_byStrength_5 rfl 0 rfl ?_
  refine v_getM (pc := 6) X in_X2 hx rfl 3 (by decide) q156 (fun y h => h) rfl dX2_byStrength_6 ?_
  refine v_ic_geN (pc := 9) X (by omega) (by omega) 99 dX2_byStrength_9 (by decide) (fun h9 => ?_) (fun h9 => ?_)
  · have hkC : k = C := by omega
    subst hkC
    refine v_iload_n (pc := 99) X dX2_byStrength_99 rfl 2 rfl ?_
    exact v_iret (pc := 100) X hr dX2_byStrength_100 ⟨⟨_, rfl, (by rw [lstH_ord (n := k) (fun i j hi hj h1 h2 => rnk_inj hi hj ((of_decide_eq_true h1).trans (of_decide_eq_true h2).symm)) k (Nat.le_refl _)]; rfl)⟩, rfl⟩
  · refine v_iconst (pc := 12) (v := nI 0) X dX2_byStrength_12 rfl ?_
    refine v_istore (pc := 13) (loc' := [(4, .int (nI 0)), (0, .ref x), (1, .int (nI q)), (2, .int (oI (lstH (fun c => decide (rnk st C c = q)) k))), (3, .int (nI k))]) X dX2_byStrength_13 (by decide) rfl ?_
    refine v_iconst (pc := 15) (v := nI 0) X dX2_byStrength_15 rfl ?_
    refine v_istore (pc := 16) (loc' := [(5, .int (nI 0)), (4, .int (nI 0)), (0, .ref x), (1, .int (nI q)), (2, .int (oI (lstH (fun c => decide (rnk st C c = q)) k))), (3, .int (nI k))]) X dX2_byStrength_16 (by decide) rfl ?_
    refine v_sub [2, 3, 4, 5, 1, 0] rfl ?_
    refine v_loop1 (S := Nat) (fun o => fl [ws]) (fun o => [(0, .ref x), (1, .int (nI q)), (2, .int (oI (lstH (fun c => decide (rnk st C c = q)) k))), (3, .int (nI k)), (4, .int (nI (cntB (ahS st k) o))), (5, .int (nI o))]) (fun o => o ≤ C) (fun o => C - o) (fun o hI18 ih18 => ?_) 0 (Nat.zero_le _)
    have hcl := cntB_le (ahS st k) o
    refine v_iload (pc := 18) X dX2_byStrength_18 5 rfl ?_
    refine v_aload_n (pc := 20) X dX2_byStrength_20 rfl 0 rfl ?_
    refine v_getM (pc := 21) X in_X2 hx rfl 3 (by decide) q156 (fun y h => h) rfl dX2_byStrength_21 ?_
    refine v_ic_geN (pc := 24) X (by omega) (by omega) 81 dX2_byStrength_24 (by decide) (fun h24 => ?_) (fun h24 => ?_)
    · have hoC : o = C := by omega
      subst hoC
      refine v_iload (pc := 81) X dX2_byStrength_81 4 rfl ?_
      refine v_iload_n (pc := 83) X dX2_byStrength_83 rfl 1 rfl ?_
      refine v_ic_neN (pc := 84) X (by omega) (by omega) 91 dX2_byStrength_84 (by decide) (fun h84 => ?_) (fun h84 => ?_)
      · refine v_iload_n (pc := 91) X dX2_byStrength_91 rfl 2 rfl ?_
        refine v_top (y := (oI (lstH (fun c => decide (rnk st o c = q)) (k + 1)))) (by rw [lstH_f (fun z => h84 (show cntB (ahS st k) o = q from of_decide_eq_true z))]) ?_
        refine v_istore_n (pc := 92) (loc' := [(2, .int (oI (lstH (fun c => decide (rnk st o c = q)) (k + 1)))), (0, .ref x), (1, .int (nI q)), (3, .int (nI k)), (4, .int (nI (cntB (ahS st k) o))), (5, .int (nI o))]) X dX2_byStrength_92 rfl (by decide) rfl ?_
        refine v_iinc (pc := 93) (v := (nI (k + 1))) (loc' := [(3, .int (nI (k + 1))), (2, .int (oI (lstH (fun c => decide (rnk st o c = q)) (k + 1)))), (0, .ref x), (1, .int (nI q)), (4, .int (nI (cntB (ahS st k) o))), (5, .int (nI o))]) X dX2_byStrength_93 3 rfl (nI_add _ 1) (by decide) rfl ?_
        refine v_goto (pc := 96) X 4 dX2_byStrength_96 (by decide) ?_
        refine v_sub [2, 3, 1, 0] rfl ?_
        exact ih4 (k + 1) (by omega) (by omega)
      · refine v_iload_n (pc := 87) X dX2_byStrength_87 rfl 3 rfl ?_
        refine v_goto (pc := 88) X 92 dX2_byStrength_88 (by decide) ?_
        refine v_top (y := (oI (lstH (fun c => decide (rnk st o c = q)) (k + 1)))) (by rw [lstH_t (decide_eq_true (show rnk st o k = q from h84))]; rfl) ?_
        refine v_istore_n (pc := 92) (loc' := [(2, .int (oI (lstH (fun c => decide (rnk st o c = q)) (k + 1)))), (0, .ref x), (1, .int (nI q)), (3, .int (nI k)), (4, .int (nI (cntB (ahS st k) o))), (5, .int (nI o))]) X dX2_byStrength_92 rfl (by decide) rfl ?_
        refine v_iinc (pc := 93) (v := (nI (k + 1))) (loc' := [(3, .int (nI (k + 1))), (2, .int (oI (lstH (fun c => decide (rnk st o c = q)) (k + 1)))), (0, .ref x), (1, .int (nI q)), (4, .int (nI (cntB (ahS st k) o))), (5, .int (nI o))]) X dX2_byStrength_93 3 rfl (nI_add _ 1) (by decide) rfl ?_
        refine v_goto (pc := 96) X 4 dX2_byStrength_96 (by decide) ?_
        refine v_sub [2, 3, 1, 0] rfl ?_
        exact ih4 (k + 1) (by omega) (by omega)
    · have hb1 := (hS o (by omega)).2
      have hb2 := (hS k (by omega)).2
      refine v_iload (pc := 27) X dX2_byStrength_27 4 rfl ?_
      refine v_aload_n (pc := 29) X dX2_byStrength_29 rfl 0 rfl ?_
      refine v_getM (pc := 30) X in_X2 hx rfl 2 (by decide) q153 (fun y h => h) rfl dX2_byStrength_30 ?_
      refine v_iload (pc := 33) X dX2_byStrength_33 5 rfl ?_
      refine v_iaM (pc := 35) X hca rfl (by omega) (by decide) dX2_byStrength_35 ?_
      refine v_top (y := (nI (st o))) (hS o (by omega)).1 ?_
      refine v_aload_n (pc := 36) X dX2_byStrength_36 rfl 0 rfl ?_
      refine v_getM (pc := 37) X in_X2 hx rfl 2 (by decide) q153 (fun y h => h) rfl dX2_byStrength_37 ?_
      refine v_iload_n (pc := 40) X dX2_byStrength_40 rfl 3 rfl ?_
      refine v_iaM (pc := 41) X hca rfl (by omega) (by decide) dX2_byStrength_41 ?_
      refine v_top (y := (nI (st k))) (hS k (by omega)).1 ?_
      refine v_ic_gtN (pc := 42) X (by omega) (by omega) 67 dX2_byStrength_42 (by decide) (fun h42 => ?_) (fun h42 => ?_)
      · refine v_iconst (pc := 67) (v := nI 1) X dX2_byStrength_67 rfl ?_
        refine v_goto (pc := 68) X 72 dX2_byStrength_68 (by decide) ?_
        refine v_iaddN (pc := 72) X dX2_byStrength_72 ?_
        refine v_top (y := (nI (cntB (ahS st k) (o + 1)))) (ah_t (by rw [ahS_iff]; omega)) ?_
        refine v_istore (pc := 73) (loc' := [(4, .int (nI (cntB (ahS st k) (o + 1)))), (0, .ref x), (1, .int (nI q)), (2, .int (oI (lstH (fun c => decide (rnk st C c = q)) k))), (3, .int (nI k)), (5, .int (nI o))]) X dX2_byStrength_73 (by decide) rfl ?_
        refine v_iinc (pc := 75) (v := (nI (o + 1))) (loc' := [(5, .int (nI (o + 1))), (4, .int (nI (cntB (ahS st k) (o + 1)))), (0, .ref x), (1, .int (nI q)), (2, .int (oI (lstH (fun c => decide (rnk st C c = q)) k))), (3, .int (nI k))]) X dX2_byStrength_75 5 rfl (nI_add _ 1) (by decide) rfl ?_
        refine v_goto (pc := 78) X 18 dX2_byStrength_78 (by decide) ?_
        refine v_sub [2, 3, 4, 5, 1, 0] rfl ?_
        exact ih18 (o + 1) (by omega) (by omega)
      · refine v_aload_n (pc := 45) X dX2_byStrength_45 rfl 0 rfl ?_
        refine v_getM (pc := 46) X in_X2 hx rfl 2 (by decide) q153 (fun y h => h) rfl dX2_byStrength_46 ?_
        refine v_iload (pc := 49) X dX2_byStrength_49 5 rfl ?_
        refine v_iaM (pc := 51) X hca rfl (by omega) (by decide) dX2_byStrength_51 ?_
        refine v_top (y := (nI (st o))) (hS o (by omega)).1 ?_
        refine v_aload_n (pc := 52) X dX2_byStrength_52 rfl 0 rfl ?_
        refine v_getM (pc := 53) X in_X2 hx rfl 2 (by decide) q153 (fun y h => h) rfl dX2_byStrength_53 ?_
        refine v_iload_n (pc := 56) X dX2_byStrength_56 rfl 3 rfl ?_
        refine v_iaM (pc := 57) X hca rfl (by omega) (by decide) dX2_byStrength_57 ?_
        refine v_top (y := (nI (st k))) (hS k (by omega)).1 ?_
        refine v_ic_neN (pc := 58) X (by omega) (by omega) 71 dX2_byStrength_58 (by decide) (fun h58 => ?_) (fun h58 => ?_)
        · refine v_iconst (pc := 71) (v := nI 0) X dX2_byStrength_71 rfl ?_
          refine v_iaddN (pc := 72) X dX2_byStrength_72 ?_
          refine v_top (y := (nI (cntB (ahS st k) (o + 1)))) (ah_f (by rw [ahS_iff]; omega)) ?_
          refine v_istore (pc := 73) (loc' := [(4, .int (nI (cntB (ahS st k) (o + 1)))), (0, .ref x), (1, .int (nI q)), (2, .int (oI (lstH (fun c => decide (rnk st C c = q)) k))), (3, .int (nI k)), (5, .int (nI o))]) X dX2_byStrength_73 (by decide) rfl ?_
          refine v_iinc (pc := 75) (v := (nI (o + 1))) (loc' := [(5, .int (nI (o + 1))), (4, .int (nI (cntB (ahS st k) (o + 1)))), (0, .ref x), (1, .int (nI q)), (2, .int (oI (lstH (fun c => decide (rnk st C c = q)) k))), (3, .int (nI k))]) X dX2_byStrength_75 5 rfl (nI_add _ 1) (by decide) rfl ?_
          refine v_goto (pc := 78) X 18 dX2_byStrength_78 (by decide) ?_
          refine v_sub [2, 3, 4, 5, 1, 0] rfl ?_
          exact ih18 (o + 1) (by omega) (by omega)
        · refine v_iload (pc := 61) X dX2_byStrength_61 5 rfl ?_
          refine v_iload_n (pc := 63) X dX2_byStrength_63 rfl 3 rfl ?_
          refine v_ic_geN (pc := 64) X (by omega) (by omega) 71 dX2_byStrength_64 (by decide) (fun h64 => ?_) (fun h64 => ?_)
          · refine v_iconst (pc := 71) (v := nI 0) X dX2_byStrength_71 rfl ?_
            refine v_iaddN (pc := 72) X dX2_byStrength_72 ?_
            refine v_top (y := (nI (cntB (ahS st k) (o + 1)))) (ah_f (by rw [ahS_iff]; omega)) ?_
            refine v_istore (pc := 73) (loc' := [(4, .int (nI (cntB (ahS st k) (o + 1)))), (0, .ref x), (1, .int (nI q)), (2, .int (oI (lstH (fun c => decide (rnk st C c = q)) k))), (3, .int (nI k)), (5, .int (nI o))]) X dX2_byStrength_73 (by decide) rfl ?_
            refine v_iinc (pc := 75) (v := (nI (o + 1))) (loc' := [(5, .int (nI (o + 1))), (4, .int (nI (cntB (ahS st k) (o + 1)))), (0, .ref x), (1, .int (nI q)), (2, .int (oI (lstH (fun c => decide (rnk st C c = q)) k))), (3, .int (nI k))]) X dX2_byStrength_75 5 rfl (nI_add _ 1) (by decide) rfl ?_
            refine v_goto (pc := 78) X 18 dX2_byStrength_78 (by decide) ?_
            refine v_sub [2, 3, 4, 5, 1, 0] rfl ?_
            exact ih18 (o + 1) (by omega) (by omega)
          · refine v_iconst (pc := 67) (v := nI 1) X dX2_byStrength_67 rfl ?_
            refine v_goto (pc := 68) X 72 dX2_byStrength_68 (by decide) ?_
            refine v_iaddN (pc := 72) X dX2_byStrength_72 ?_
            refine v_top (y := (nI (cntB (ahS st k) (o + 1)))) (ah_t (by rw [ahS_iff]; omega)) ?_
            refine v_istore (pc := 73) (loc' := [(4, .int (nI (cntB (ahS st k) (o + 1)))), (0, .ref x), (1, .int (nI q)), (2, .int (oI (lstH (fun c => decide (rnk st C c = q)) k))), (3, .int (nI k)), (5, .int (nI o))]) X dX2_byStrength_73 (by decide) rfl ?_
            refine v_iinc (pc := 75) (v := (nI (o + 1))) (loc' := [(5, .int (nI (o + 1))), (4, .int (nI (cntB (ahS st k) (o + 1)))), (0, .ref x), (1, .int (nI q)), (2, .int (oI (lstH (fun c => decide (rnk st C c = q)) k))), (3, .int (nI k))]) X dX2_byStrength_75 5 rfl (nI_add _ 1) (by decide) rfl ?_
            refine v_goto (pc := 78) X 18 dX2_byStrength_78 (by decide) ?_
            refine v_sub [2, 3, 4, 5, 1, 0] rfl ?_
            exact ih18 (o + 1) (by omega) (by omega)
theorem hdX2_strongest : yX2_strongest.cls = RX2 ∧ yX2_strongest.cls ≠ "java/lang/invoke/MethodHandle" ∧ yX2_strongest.cls ≠ "java/lang/invoke/VarHandle" ∧ (parseMethodDescriptor yX2_strongest.desc).map (fun d => d.parameters.length) = some 0 := by decide +kernel
set_option maxHeartbeats 4000000 in
theorem c_X2_strongest {l_ : Launch} {D : va_G} {dd : Nat → ClassId} {x sa ca pa n C np : Nat} {ws : va_W} {cf : Nat → Int32} {st : Nat → Nat} (hx : (x, .inr (1, [.ref sa, .int (nI n), .ref ca, .int (nI C), .ref pa, .int (nI np)])) ∈ ws) (hca : (ca, .inl (dd 0, 4, .inl cf)) ∈ ws) (hS : ∀ k, k < 4 → cf k = nI (st k) ∧ st k ≤ 99999) (hC : C ≤ 4) : MW l_ D dd yX2_strongest cX2_strongest 1 (some .int) 1 0 0 30 [.ref x] (ws) (RI (fun r => nI (strM st C) = r) ws) := by
  refine MW.intro (by decide) (Nat.le_of_ble_eq_true rfl) (fun p_ e_ s_ m_ as_ bl_ me_ c_ A_ X hr hnm => ?_)
  have X : VX p_ s_ m_ as_ me_ c_ cX2_strongest 1 RX2 D dd A_ := X
  refine v_eq (loc' := [(0, .ref x)]) rfl rfl rfl ?_
  refine v_aload_n (pc := 0) X dX2_strongest_0 rfl 0 rfl ?_
  refine v_getM (pc := 1) X in_X2 hx rfl 3 (by decide) q156 (fun y h => h) rfl dX2_strongest_1 ?_
  refine v_if_neN (pc := 4) X (by omega) 11 dX2_strongest_4 (by decide) (fun h4 => ?_) (fun h4 => ?_)
  · obtain ⟨c0, ho0, hc0, -⟩ := ordC_ex (st := st) (C := C) (place := 0) (by omega)
    refine v_aload_n (pc := 11) X dX2_strongest_11 rfl 0 rfl ?_
    refine v_getM (pc := 12) X in_X2 hx rfl 2 (by decide) q153 (fun y h => h) rfl dX2_strongest_12 ?_
    refine v_aload_n (pc := 15) X dX2_strongest_15 rfl 0 rfl ?_
    refine v_iconst (pc := 16) (v := nI 0) X dX2_strongest_16 rfl ?_
    refine v_read (pc := 17) X ⟨[], perm_nil _⟩ (r_V X (c_X2_byStrength (q := 0) hx hca hS hC (by omega)) hx rfl rfl (lw_V q1510 q1511 q1512 q92 q1513) hdX2_byStrength ⟨Nat.le_of_ble_eq_true rfl, Nat.le_of_ble_eq_true rfl⟩ rfl rfl (Nat.le_of_ble_eq_true rfl) dX2_strongest_17 ⟨Nat.le_of_ble_eq_true rfl, Nat.le_of_ble_eq_true rfl⟩) (fun r17 h17 => ?_)
    subst h17
    refine v_top (y := nI c0) (by rw [ho0]; rfl) ?_
    refine v_iaM (pc := 20) X hca rfl (by omega) (by decide) dX2_strongest_20 ?_
    refine v_top (y := (nI (strM st C))) ((hS c0 (by omega)).1.trans (by unfold strM; rw [if_neg h4, ho0]; rfl)) ?_
    exact v_iret (pc := 21) X hr dX2_strongest_21 ⟨⟨_, rfl, rfl⟩, rfl⟩
  · refine v_iconst (pc := 7) (v := nI 0) X dX2_strongest_7 rfl ?_
    refine v_goto (pc := 8) X 21 dX2_strongest_8 (by decide) ?_
    refine v_top (y := (nI (strM st C))) (by unfold strM; rw [if_pos h4]) ?_
    exact v_iret (pc := 21) X hr dX2_strongest_21 ⟨⟨_, rfl, rfl⟩, rfl⟩
theorem hdX2_canPour : yX2_canPour.cls = RX2 ∧ yX2_canPour.cls ≠ "java/lang/invoke/MethodHandle" ∧ yX2_canPour.cls ≠ "java/lang/invoke/VarHandle" ∧ (parseMethodDescriptor yX2_canPour.desc).map (fun d => d.parameters.length) = some 1 := by decide +kernel
set_option maxHeartbeats 4000000 in
theorem c_X2_canPour {l_ : Launch} {D : va_G} {dd : Nat → ClassId} {x sa ca pa n C np : Nat} {ws : va_W} {i p : Nat} {pf : Nat → Option Nat} {T : Tr} {md : Int32} (hn : n ≤ 9) (hx : (x, .inr (1, [.ref sa, .int (nI n), .ref ca, .int (nI C), .ref pa, .int (nI np)])) ∈ ws) (hpa : (pa, .inl (dd 4, 4, .inr (.inr (.inr (.inr pf))))) ∈ ws) (hi : i < 4) (hpf : pf i = some p) (hpl : PlanIs dd ws p T md) (hok : TrOk T) : MW l_ D dd yX2_canPour cX2_canPour 2 (some .boolean) 12 0 0 240 [.ref x, .int (nI i)] (ws) (RI (fun r => bI (lsT T < n - 1) = r) ws) := by
  obtain ⟨ad, σ, hm, hT, h1, h7, hL, hK⟩ := hpl
  obtain ⟨hrow, hdp, hlv⟩ := id hok
  have hll := hok.len
  have hp0 : (p, .inr (10, [.ref (ad 0), .int (σ 99 1), .ref (ad 2), .ref (ad 3), .ref (ad 4), .ref (ad 5), .ref (ad 6), .int (σ 99 7)])) ∈ ws := hm _ (List.mem_of_getElem? (i := 0) rfl)
  have hv1000 : ∀ v ∈ lvs T, v < 1000 := fun v h => Nat.lt_trans (hlv v h) (by decide)
  have hp2 : (ad 2, .inl (dd 0, 8, .inl (σ 2))) ∈ ws := hm _ (List.mem_of_getElem? (i := 1) rfl)
  have hp3 : (ad 3, .inl (dd 0, 8, .inl (σ 3))) ∈ ws := hm _ (List.mem_of_getElem? (i := 2) rfl)
  have hp4 : (ad 4, .inl (dd 0, 8, .inl (σ 4))) ∈ ws := hm _ (List.mem_of_getElem? (i := 3) rfl)
  have hp5 : (ad 5, .inl (dd 0, 8, .inl (σ 5))) ∈ ws := hm _ (List.mem_of_getElem? (i := 4) rfl)
  have hp6 : (ad 6, .inl (dd 0, 8, .inl (σ 6))) ∈ ws := hm _ (List.mem_of_getElem? (i := 5) rfl)
  refine MW.intro (by decide) (Nat.le_of_ble_eq_true rfl) (fun p_ e_ s_ m_ as_ bl_ me_ c_ A_ X hr hnm => ?_)
  have X : VX p_ s_ m_ as_ me_ c_ cX2_canPour 2 RX2 D dd A_ := X
  refine v_eq (loc' := [(0, .ref x), (1, .int (nI i))]) rfl rfl rfl ?_
  refine v_aload_n (pc := 0) X dX2_canPour_0 rfl 0 rfl ?_
  refine v_getM (pc := 1) X in_X2 hx rfl 4 (by decide) q159 (fun y h => h) rfl dX2_canPour_1 ?_
  refine v_iload_n (pc := 4) X dX2_canPour_4 rfl 1 rfl ?_
  refine v_aaldS (pc := 5) X 4 rfl hpa rfl (by omega) (by decide) hpf dX2_canPour_5 ?_
  refine v_getN (pc := 6) X in_X12 hp0 rfl 0 (by decide) q1415 (fun y h => h) rfl dX2_canPour_6 ?_
  refine v_plast (pc := 9) X T ((ad 0)) hT (c_plast T ((ad 0)) hT) ⟨[], (by rw [List.append_nil])⟩ q904 ⟨by dsimp only; omega, by dsimp only; omega⟩ (Nat.le_of_ble_eq_true rfl) dX2_canPour_9 ⟨Nat.le_of_ble_eq_true rfl, Nat.le_of_ble_eq_true rfl⟩ (fun r9 h9 => ?_)
  subst h9
  refine v_aload_n (pc := 14) X dX2_canPour_14 rfl 0 rfl ?_
  refine v_read (pc := 15) X ⟨[], perm_nil _⟩ (r_V X (c_X2_vats (x := x) (n := n) (by omega) hx) hx rfl rfl (lw_V q921 q922 q923 q92 q924) hdX2_vats ⟨Nat.le_of_ble_eq_true rfl, Nat.le_of_ble_eq_true rfl⟩ rfl rfl (Nat.le_of_ble_eq_true rfl) dX2_canPour_15 ⟨Nat.le_of_ble_eq_true rfl, Nat.le_of_ble_eq_true rfl⟩) (fun r15 h15 => ?_)
  subst h15
  refine v_ic_geN (pc := 18) X (by omega) (by omega) 25 dX2_canPour_18 (by decide) (fun h18 => ?_) (fun h18 => ?_)
  · refine v_iconst (pc := 25) (v := nI 0) X dX2_canPour_25 rfl ?_
    exact v_zret (pc := 26) X hr rfl dX2_canPour_26 ⟨⟨_, rfl, bI_f (by omega)⟩, rfl⟩
  · refine v_iconst (pc := 21) (v := nI 1) X dX2_canPour_21 rfl ?_
    refine v_goto (pc := 22) X 26 dX2_canPour_22 (by decide) ?_
    exact v_zret (pc := 26) X hr rfl dX2_canPour_26 ⟨⟨_, rfl, bI_t (by omega)⟩, rfl⟩
theorem hdX2_cost : yX2_cost.cls = RX2 ∧ yX2_cost.cls ≠ "java/lang/invoke/MethodHandle" ∧ yX2_cost.cls ≠ "java/lang/invoke/VarHandle" ∧ (parseMethodDescriptor yX2_cost.desc).map (fun d => d.parameters.length) = some 1 := by decide +kernel
set_option maxHeartbeats 4000000 in
theorem c_X2_cost {l_ : Launch} {D : va_G} {dd : Nat → ClassId} {x sa ca pa n C np : Nat} {ws : va_W} {i p : Nat} {pf : Nat → Option Nat} {T : Tr} {md : Int32} {f : Nat → Int32} {sd : Nat → Nat} (hn : n ≤ 9) (hx : (x, .inr (1, [.ref sa, .int (nI n), .ref ca, .int (nI C), .ref pa, .int (nI np)])) ∈ ws) (hsa : (sa, .inl (dd 0, 9, .inl f)) ∈ ws) (hf : ∀ i, i < 9 → f i = nI (sd i)) (hpa : (pa, .inl (dd 4, 4, .inr (.inr (.inr (.inr pf))))) ∈ ws) (hi : i < 4) (hpf : pf i = some p) (hpl : PlanIs dd ws p T md) (hok : TrOk T) : MW l_ D dd yX2_cost cX2_cost 2 (some .int) 13 0 0 300 [.ref x, .int (nI i)] (ws) (RI (fun r => plCost n (lsT T) sd (plT T) = r) ws) := by
  obtain ⟨ad, σ, hm, hT, h1, h7, hL, hK⟩ := hpl
  obtain ⟨hrow, hdp, hlv⟩ := id hok
  have hll := hok.len
  have hp0 : (p, .inr (10, [.ref (ad 0), .int (σ 99 1), .ref (ad 2), .ref (ad 3), .ref (ad 4), .ref (ad 5), .ref (ad 6), .int (σ 99 7)])) ∈ ws := hm _ (List.mem_of_getElem? (i := 0) rfl)
  have hv1000 : ∀ v ∈ lvs T, v < 1000 := fun v h => Nat.lt_trans (hlv v h) (by decide)
  have hp2 : (ad 2, .inl (dd 0, 8, .inl (σ 2))) ∈ ws := hm _ (List.mem_of_getElem? (i := 1) rfl)
  have hp3 : (ad 3, .inl (dd 0, 8, .inl (σ 3))) ∈ ws := hm _ (List.mem_of_getElem? (i := 2) rfl)
  have hp4 : (ad 4, .inl (dd 0, 8, .inl (σ 4))) ∈ ws := hm _ (List.mem_of_getElem? (i := 3) rfl)
  have hp5 : (ad 5, .inl (dd 0, 8, .inl (σ 5))) ∈ ws := hm _ (List.mem_of_getElem? (i := 4) rfl)
  have hp6 : (ad 6, .inl (dd 0, 8, .inl (σ 6))) ∈ ws := hm _ (List.mem_of_getElem? (i := 5) rfl)
  refine MW.intro (by decide) (Nat.le_of_ble_eq_true rfl) (fun p_ e_ s_ m_ as_ bl_ me_ c_ A_ X hr hnm => ?_)
  have X : VX p_ s_ m_ as_ me_ c_ cX2_cost 2 RX2 D dd A_ := X
  refine v_eq (loc' := [(0, .ref x), (1, .int (nI i))]) rfl rfl rfl ?_
  refine v_aload_n (pc := 0) X dX2_cost_0 rfl 0 rfl ?_
  refine v_iload_n (pc := 1) X dX2_cost_1 rfl 1 rfl ?_
  refine v_read (pc := 2) X ⟨[], perm_nil _⟩ (r_V X (c_X2_canPour (i := i) (by omega) hx hpa hi hpf ⟨ad, σ, hm, hT, h1, h7, hL, hK⟩ hok) hx rfl rfl (lw_V q934 q900 q901 q92 q902) hdX2_canPour ⟨Nat.le_of_ble_eq_true rfl, Nat.le_of_ble_eq_true rfl⟩ rfl rfl (Nat.le_of_ble_eq_true rfl) dX2_cost_2 ⟨Nat.le_of_ble_eq_true rfl, Nat.le_of_ble_eq_true rfl⟩) (fun r2 h2 => ?_)
  subst h2
  refine v_if_eqB (pc := 5) X 29 dX2_cost_5 (by decide) (fun h5 => ?_) (fun h5 => ?_)
  · refine v_iconst (pc := 29) (v := -1) X dX2_cost_29 rfl ?_
    exact v_iret (pc := 30) X hr dX2_cost_30 ⟨⟨_, rfl, by unfold plCost; rw [if_neg h5]⟩, rfl⟩
  · refine v_aload_n (pc := 8) X dX2_cost_8 rfl 0 rfl ?_
    refine v_getM (pc := 9) X in_X2 hx rfl 4 (by decide) q159 (fun y h => h) rfl dX2_cost_9 ?_
    refine v_iload_n (pc := 12) X dX2_cost_12 rfl 1 rfl ?_
    refine v_aaldS (pc := 13) X 4 rfl hpa rfl (by omega) (by decide) hpf dX2_cost_13 ?_
    refine v_getN (pc := 14) X in_X12 hp0 rfl 0 (by decide) q1415 (fun y h => h) rfl dX2_cost_14 ?_
    refine v_aload_n (pc := 17) X dX2_cost_17 rfl 0 rfl ?_
    refine v_getM (pc := 18) X in_X2 hx rfl 0 (by decide) q147 (fun y h => h) rfl dX2_cost_18 ?_
    refine v_pcost (pc := 21) X T ((ad 0)) hT (c_pcost hsa hf T ((ad 0)) hT hlv) ⟨[], (by rw [List.append_nil])⟩ q936 ⟨by dsimp only; omega, by dsimp only; omega⟩ (Nat.le_of_ble_eq_true rfl) dX2_cost_21 ⟨Nat.le_of_ble_eq_true rfl, Nat.le_of_ble_eq_true rfl⟩ (fun r21 h21 => ?_)
    subst h21
    refine v_goto (pc := 26) X 30 dX2_cost_26 (by decide) ?_
    exact v_iret (pc := 30) X hr dX2_cost_30 ⟨⟨_, rfl, by unfold plCost; rw [if_pos h5, coT_sum]⟩, rfl⟩

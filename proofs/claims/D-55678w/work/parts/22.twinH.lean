theorem hdX6_here : yX6_here.cls = RX6 ∧ yX6_here.cls ≠ "java/lang/invoke/MethodHandle" ∧ yX6_here.cls ≠ "java/lang/invoke/VarHandle" ∧ (parseMethodDescriptor yX6_here.desc).map (fun d => d.parameters.length) = some 0 := by decide +kernel
set_option maxHeartbeats 4000000 in
theorem m_here {l_ : Launch} {D : va_G} {dd : Nat → ClassId} {x : Nat} {ad : Nat → Nat} {σ : Tw} {p : Nat} {t : List Nat} (hI : InIs σ t) (hp : σ 99 31 = nI p) (hp2 : p < 1000) : TM l_ D dd x ad yX6_here cX6_here 1 (some .int) 0 0 [.ref x] σ (TI (fun r σ' => hrI t p = r ∧ σ = σ')) := by
  obtain ⟨hI1, hI2, hI3, hI4⟩ := id hI
  refine MW.intro (by decide) (Nat.le_of_ble_eq_true rfl) (fun p_ e_ s_ m_ as_ bl_ me_ c_ A_ X hr hnm => ?_)
  have X : VX p_ s_ m_ as_ me_ c_ cX6_here 1 RX6 D dd A_ := X
  refine v_eq (loc' := [(0, .ref x)]) rfl rfl rfl ?_
  refine v_aload_n (pc := 0) X dX6_here_0 rfl 0 rfl ?_
  refine t_get (pc := 1) X 31 (by decide) q1987 rfl rfl dX6_here_1 ?_
  refine v_top (y := (nI p)) hp ?_
  refine v_aload_n (pc := 4) X dX6_here_4 rfl 0 rfl ?_
  refine t_get (pc := 5) X 7 (by decide) q1963 rfl rfl dX6_here_5 ?_
  refine v_top (y := (nI t.length)) hI2 ?_
  refine v_ic_geN (pc := 8) X (by omega) (by omega) 23 dX6_here_8 (by decide) (fun h8 => ?_) (fun h8 => ?_)
  · refine v_iconst (pc := 23) (v := -1) X dX6_here_23 rfl ?_
    exact t_iret (pc := 24) X hr dX6_here_24 ⟨_, rfl, by unfold hrI; rw [List.getElem?_eq_none h8], rfl⟩
  · obtain ⟨c, hc⟩ : ∃ c, t[p]? = some c := ⟨_, List.getElem?_eq_getElem h8⟩
    refine v_aload_n (pc := 11) X dX6_here_11 rfl 0 rfl ?_
    refine t_get (pc := 12) X 6 (by decide) q1962 rfl rfl dX6_here_12 ?_
    refine v_aload_n (pc := 15) X dX6_here_15 rfl 0 rfl ?_
    refine t_get (pc := 16) X 31 (by decide) q1987 rfl rfl dX6_here_16 ?_
    refine v_top (y := (nI p)) hp ?_
    refine v_cald (pc := 19) X 5 ta_6 rfl (by omega) (by decide) dX6_here_19 ?_
    refine v_top (y := (nI c)) (hI1 p c hc) ?_
    refine v_goto (pc := 20) X 24 dX6_here_20 (by decide) ?_
    exact t_iret (pc := 24) X hr dX6_here_24 ⟨_, rfl, hr_some hc, rfl⟩
theorem hdX6_needs : yX6_needs.cls = RX6 ∧ yX6_needs.cls ≠ "java/lang/invoke/MethodHandle" ∧ yX6_needs.cls ≠ "java/lang/invoke/VarHandle" ∧ (parseMethodDescriptor yX6_needs.desc).map (fun d => d.parameters.length) = some 1 := by decide +kernel
set_option maxHeartbeats 4000000 in
theorem m_needs {l_ : Launch} {D : va_G} {dd : Nat → ClassId} {x : Nat} {ad : Nat → Nat} {σ : Tw} {c : Nat} {t : List Nat} (hI : InIs σ t) {q : PS} (hR : RdIs σ q) (hq : q.1 ≤ t.length) (hc : c < 65536) : TM l_ D dd x ad yX6_needs cX6_needs 2 none 1 20 [.ref x, .int (nI c)] σ (TV (fun σ' => Ch [] rdN σ σ' ∧ RdIs σ' (needF t c q))) := by
  obtain ⟨hI1, hI2, hI3, hI4⟩ := id hI
  obtain ⟨hR1, hR2⟩ := id hR
  refine MW.intro (by decide) (Nat.le_of_ble_eq_true rfl) (fun p_ e_ s_ m_ as_ bl_ me_ c_ A_ X hr hnm => ?_)
  have X : VX p_ s_ m_ as_ me_ c_ cX6_needs 2 RX6 D dd A_ := X
  refine v_eq (loc' := [(0, .ref x), (1, .int (nI c))]) rfl rfl rfl ?_
  refine v_aload_n (pc := 0) X dX6_needs_0 rfl 0 rfl ?_
  refine v_aload_n (pc := 1) X dX6_needs_1 rfl 0 rfl ?_
  refine t_get (pc := 2) X 32 (by decide) q1988 rfl rfl dX6_needs_2 ?_
  refine v_top (y := (bI (q.2 = true))) hR2 ?_
  refine v_if_neB (pc := 5) X 16 dX6_needs_5 (by decide) (fun h5 => ?_) (fun h5 => ?_)
  · refine v_iconst (pc := 16) (v := nI 1) X dX6_needs_16 rfl ?_
    refine v_goto (pc := 17) X 21 dX6_needs_17 (by decide) ?_
    refine v_top (y := (bI ((needF t c q).2 = true))) (bI_t (by rw [need_t h5]; exact h5)).symm ?_
    refine t_put (pc := 21) X 32 (by decide) q1988 rfl rfl (nzb _) (ftb _) dX6_needs_21 (tf_32 _) ?_
    refine v_aload_n (pc := 24) X dX6_needs_24 rfl 0 rfl ?_
    refine v_dup (pc := 25) X dX6_needs_25 rfl ?_
    refine t_get (pc := 26) X 31 (by decide) q1987 rfl rfl dX6_needs_26 ?_
    refine v_top (y := (nI q.1)) hR1 ?_
    refine v_aload_n (pc := 29) X dX6_needs_29 rfl 0 rfl ?_
    refine t_get (pc := 30) X 32 (by decide) q1988 rfl rfl dX6_needs_30 ?_
    refine v_top (y := (bI ((needF t c q).2 = true))) rfl ?_
    refine v_if_eqB (pc := 33) X 40 dX6_needs_33 (by decide) (fun h33 => ?_) (fun h33 => ?_)
    · refine v_iconst (pc := 40) (v := nI 1) X dX6_needs_40 rfl ?_
      refine v_iaddN (pc := 41) X dX6_needs_41 ?_
      refine v_top (y := (nI ((needF t c q).1))) (absurd (by rw [need_t h5]; exact h5) h33) ?_
      refine t_put (pc := 42) X 31 (by decide) q1987 rfl rfl rfl rfl dX6_needs_42 (tf_31 _) ?_
      exact t_vret (pc := 45) X hr dX6_needs_45 ⟨rfl, ((Ch.rf _ _ _).num 32 _ (by decide)).num 31 _ (by decide), rfl, rfl⟩
    · refine v_iconst (pc := 36) (v := nI 0) X dX6_needs_36 rfl ?_
      refine v_goto (pc := 37) X 41 dX6_needs_37 (by decide) ?_
      refine v_iaddN (pc := 41) X dX6_needs_41 ?_
      refine v_top (y := (nI ((needF t c q).1))) (by rw [need_t h5]; rfl) ?_
      refine t_put (pc := 42) X 31 (by decide) q1987 rfl rfl rfl rfl dX6_needs_42 (tf_31 _) ?_
      exact t_vret (pc := 45) X hr dX6_needs_45 ⟨rfl, ((Ch.rf _ _ _).num 32 _ (by decide)).num 31 _ (by decide), rfl, rfl⟩
  · refine v_aload_n (pc := 8) X dX6_needs_8 rfl 0 rfl ?_
    refine t_callI (pc := 9) X (m_here hI hR1 (by omega)) (lw_V q2363 q2365 qs81 q109 q2366) hdX6_here ⟨Nat.le_of_ble_eq_true rfl, Nat.le_of_ble_eq_true rfl⟩ rfl rfl (Nat.le_of_ble_eq_true rfl) dX6_needs_9 ⟨Nat.le_refl _, Nat.le_refl _⟩ (fun r9 σ9 hp9 => ?_)
    obtain ⟨rfl, rfl⟩ := hp9
    refine v_iload_n (pc := 12) X dX6_needs_12 rfl 1 rfl ?_
    refine v_ic_eq (pc := 13) X 20 dX6_needs_13 (by decide) (fun h13 => ?_) (fun h13 => ?_)
    · refine v_iconst (pc := 20) (v := nI 0) X dX6_needs_20 rfl ?_
      refine v_top (y := (bI ((needF t c q).2 = true))) (bI_f (by rw [need_y h5 ((hr_eq hI4 hc).mp h13)]; simp)).symm ?_
      refine t_put (pc := 21) X 32 (by decide) q1988 rfl rfl (nzb _) (ftb _) dX6_needs_21 (tf_32 _) ?_
      refine v_aload_n (pc := 24) X dX6_needs_24 rfl 0 rfl ?_
      refine v_dup (pc := 25) X dX6_needs_25 rfl ?_
      refine t_get (pc := 26) X 31 (by decide) q1987 rfl rfl dX6_needs_26 ?_
      refine v_top (y := (nI q.1)) hR1 ?_
      refine v_aload_n (pc := 29) X dX6_needs_29 rfl 0 rfl ?_
      refine t_get (pc := 30) X 32 (by decide) q1988 rfl rfl dX6_needs_30 ?_
      refine v_top (y := (bI ((needF t c q).2 = true))) rfl ?_
      refine v_if_eqB (pc := 33) X 40 dX6_needs_33 (by decide) (fun h33 => ?_) (fun h33 => ?_)
      · refine v_iconst (pc := 40) (v := nI 1) X dX6_needs_40 rfl ?_
        refine v_iaddN (pc := 41) X dX6_needs_41 ?_
        refine v_top (y := (nI ((needF t c q).1))) (by rw [need_y h5 ((hr_eq hI4 hc).mp h13)]) ?_
        refine t_put (pc := 42) X 31 (by decide) q1987 rfl rfl rfl rfl dX6_needs_42 (tf_31 _) ?_
        exact t_vret (pc := 45) X hr dX6_needs_45 ⟨rfl, ((Ch.rf _ _ _).num 32 _ (by decide)).num 31 _ (by decide), rfl, rfl⟩
      · refine v_iconst (pc := 36) (v := nI 0) X dX6_needs_36 rfl ?_
        refine v_goto (pc := 37) X 41 dX6_needs_37 (by decide) ?_
        refine v_iaddN (pc := 41) X dX6_needs_41 ?_
        refine v_top (y := (nI ((needF t c q).1))) (absurd h33 (by rw [need_y h5 ((hr_eq hI4 hc).mp h13)]; simp)) ?_
        refine t_put (pc := 42) X 31 (by decide) q1987 rfl rfl rfl rfl dX6_needs_42 (tf_31 _) ?_
        exact t_vret (pc := 45) X hr dX6_needs_45 ⟨rfl, ((Ch.rf _ _ _).num 32 _ (by decide)).num 31 _ (by decide), rfl, rfl⟩
    · refine v_iconst (pc := 16) (v := nI 1) X dX6_needs_16 rfl ?_
      refine v_goto (pc := 17) X 21 dX6_needs_17 (by decide) ?_
      refine v_top (y := (bI ((needF t c q).2 = true))) (bI_t (by rw [need_n h5 (fun z => h13 ((hr_eq hI4 hc).mpr z))])).symm ?_
      refine t_put (pc := 21) X 32 (by decide) q1988 rfl rfl (nzb _) (ftb _) dX6_needs_21 (tf_32 _) ?_
      refine v_aload_n (pc := 24) X dX6_needs_24 rfl 0 rfl ?_
      refine v_dup (pc := 25) X dX6_needs_25 rfl ?_
      refine t_get (pc := 26) X 31 (by decide) q1987 rfl rfl dX6_needs_26 ?_
      refine v_top (y := (nI q.1)) hR1 ?_
      refine v_aload_n (pc := 29) X dX6_needs_29 rfl 0 rfl ?_
      refine t_get (pc := 30) X 32 (by decide) q1988 rfl rfl dX6_needs_30 ?_
      refine v_top (y := (bI ((needF t c q).2 = true))) rfl ?_
      refine v_if_eqB (pc := 33) X 40 dX6_needs_33 (by decide) (fun h33 => ?_) (fun h33 => ?_)
      · refine v_iconst (pc := 40) (v := nI 1) X dX6_needs_40 rfl ?_
        refine v_iaddN (pc := 41) X dX6_needs_41 ?_
        refine v_top (y := (nI ((needF t c q).1))) (absurd (by rw [need_n h5 (fun z => h13 ((hr_eq hI4 hc).mpr z))]) h33) ?_
        refine t_put (pc := 42) X 31 (by decide) q1987 rfl rfl rfl rfl dX6_needs_42 (tf_31 _) ?_
        exact t_vret (pc := 45) X hr dX6_needs_45 ⟨rfl, ((Ch.rf _ _ _).num 32 _ (by decide)).num 31 _ (by decide), rfl, rfl⟩
      · refine v_iconst (pc := 36) (v := nI 0) X dX6_needs_36 rfl ?_
        refine v_goto (pc := 37) X 41 dX6_needs_37 (by decide) ?_
        refine v_iaddN (pc := 41) X dX6_needs_41 ?_
        refine v_top (y := (nI ((needF t c q).1))) (by rw [need_n h5 (fun z => h13 ((hr_eq hI4 hc).mpr z))]; rfl) ?_
        refine t_put (pc := 42) X 31 (by decide) q1987 rfl rfl rfl rfl dX6_needs_42 (tf_31 _) ?_
        exact t_vret (pc := 45) X hr dX6_needs_45 ⟨rfl, ((Ch.rf _ _ _).num 32 _ (by decide)).num 31 _ (by decide), rfl, rfl⟩
theorem hdX6_needsThree : yX6_needsThree.cls = RX6 ∧ yX6_needsThree.cls ≠ "java/lang/invoke/MethodHandle" ∧ yX6_needsThree.cls ≠ "java/lang/invoke/VarHandle" ∧ (parseMethodDescriptor yX6_needsThree.desc).map (fun d => d.parameters.length) = some 3 := by decide +kernel
set_option maxHeartbeats 4000000 in
theorem m_needsThree {l_ : Launch} {D : va_G} {dd : Nat → ClassId} {x : Nat} {ad : Nat → Nat} {σ : Tw} {a b c : Nat} {t : List Nat} (hI : InIs σ t) {q : PS} (hR : RdIs σ q) (hq : q.1 ≤ t.length) (ha : a < 65536) (hb : b < 65536) (hc : c < 65536) : TM l_ D dd x ad yX6_needsThree cX6_needsThree 4 none 2 41 [.ref x, .int (nI a), .int (nI b), .int (nI c)] σ (TV (fun σ' => Ch [] rdN σ σ' ∧ RdIs σ' (needF t c (needF t b (needF t a q))))) := by
  refine MW.intro (by decide) (Nat.le_of_ble_eq_true rfl) (fun p_ e_ s_ m_ as_ bl_ me_ c_ A_ X hr hnm => ?_)
  have X : VX p_ s_ m_ as_ me_ c_ cX6_needsThree 4 RX6 D dd A_ := X
  refine v_eq (loc' := [(0, .ref x), (1, .int (nI a)), (2, .int (nI b)), (3, .int (nI c))]) rfl rfl rfl ?_
  refine v_aload_n (pc := 0) X dX6_needsThree_0 rfl 0 rfl ?_
  refine v_iload_n (pc := 1) X dX6_needsThree_1 rfl 1 rfl ?_
  refine t_callV (pc := 2) X (m_needs hI hR hq ha) (lw_V q2371 q2373 qs83 q109 q2374) hdX6_needs ⟨Nat.le_of_ble_eq_true rfl, Nat.le_of_ble_eq_true rfl⟩ rfl rfl (Nat.le_of_ble_eq_true rfl) dX6_needsThree_2 ⟨Nat.le_refl _, Nat.le_refl _⟩ (fun σ2 hp2 => ?_)
  obtain ⟨hC2, hR2⟩ := hp2
  refine v_aload_n (pc := 5) X dX6_needsThree_5 rfl 0 rfl ?_
  refine v_iload_n (pc := 6) X dX6_needsThree_6 rfl 2 rfl ?_
  refine t_callV (pc := 7) X (m_needs (hI.same (hC2.1 6 (by decide) (by decide)) (hC2.2 7 (by decide))) hR2 (need_le hq).2 hb) (lw_V q2371 q2373 qs83 q109 q2374) hdX6_needs ⟨Nat.le_of_ble_eq_true rfl, Nat.le_of_ble_eq_true rfl⟩ rfl rfl (Nat.le_of_ble_eq_true rfl) dX6_needsThree_7 ⟨Nat.le_refl _, Nat.le_refl _⟩ (fun σ7 hp7 => ?_)
  obtain ⟨hC7, hR7⟩ := hp7
  have hC7 := hC2.tr hC7
  refine v_aload_n (pc := 10) X dX6_needsThree_10 rfl 0 rfl ?_
  refine v_iload_n (pc := 11) X dX6_needsThree_11 rfl 3 rfl ?_
  refine t_callV (pc := 12) X (m_needs (hI.same (hC7.1 6 (by decide) (by decide)) (hC7.2 7 (by decide))) hR7 (need_le (need_le hq).2).2 hc) (lw_V q2371 q2373 qs83 q109 q2374) hdX6_needs ⟨Nat.le_of_ble_eq_true rfl, Nat.le_of_ble_eq_true rfl⟩ rfl rfl (Nat.le_of_ble_eq_true rfl) dX6_needsThree_12 ⟨Nat.le_refl _, Nat.le_refl _⟩ (fun σ12 hp12 => ?_)
  obtain ⟨hC12, hR12⟩ := hp12
  exact t_vret (pc := 15) X hr dX6_needsThree_15 ⟨rfl, hC7.tr hC12, hR12⟩
theorem hdX6_number : yX6_number.cls = RX6 ∧ yX6_number.cls ≠ "java/lang/invoke/MethodHandle" ∧ yX6_number.cls ≠ "java/lang/invoke/VarHandle" ∧ (parseMethodDescriptor yX6_number.desc).map (fun d => d.parameters.length) = some 1 := by decide +kernel
set_option maxHeartbeats 4000000 in
theorem m_number {l_ : Launch} {D : va_G} {dd : Nat → ClassId} {x : Nat} {ad : Nat → Nat} {σ : Tw} {m : Nat} {t : List Nat} (hI : InIs σ t) {q : PS} (hR : RdIs σ q) (hq : q.1 ≤ t.length) (hm : m ≤ 5) : TM l_ D dd x ad yX6_number cX6_number 4 (some .int) 2 41 [.ref x, .int (nI m)] σ (TI (fun r σ' => r = nI (numF t m q).2 ∧ Ch [] rdN σ σ' ∧ RdIs σ' (numF t m q).1)) := by
  obtain ⟨hI1, hI2, hI3, hI4⟩ := id hI
  refine MW.intro (by decide) (Nat.le_of_ble_eq_true rfl) (fun p_ e_ s_ m_ as_ bl_ me_ c_ A_ X hr hnm => ?_)
  have X : VX p_ s_ m_ as_ me_ c_ cX6_number 4 RX6 D dd A_ := X
  refine v_eq (loc' := [(0, .ref x), (1, .int (nI m))]) rfl rfl rfl ?_
  refine v_aload_n (pc := 0) X dX6_number_0 rfl 0 rfl ?_
  refine v_bipush (pc := 1) (v := nI 32) X dX6_number_1 rfl ?_
  refine t_callV (pc := 3) X (m_needs hI hR hq (by decide)) (lw_V q2371 q2373 qs83 q109 q2374) hdX6_needs ⟨Nat.le_of_ble_eq_true rfl, Nat.le_of_ble_eq_true rfl⟩ rfl rfl (Nat.le_of_ble_eq_true rfl) dX6_number_3 ⟨Nat.le_refl _, Nat.le_refl _⟩ (fun σ3 hp3 => ?_)
  obtain ⟨hC3, hR3⟩ := hp3
  obtain ⟨hR31, hR32⟩ := id hR3
  have hI3s := (hI.same (hC3.1 6 (by decide) (by decide)) (hC3.2 7 (by decide)))
  have hn1 := (need_le (c := 32) hq).2
  refine v_aload_n (pc := 6) X dX6_number_6 rfl 0 rfl ?_
  refine v_aload_n (pc := 7) X dX6_number_7 rfl 0 rfl ?_
  refine t_get (pc := 8) X 32 (by decide) q1988 rfl rfl dX6_number_8 ?_
  refine v_top (y := (bI ((needF t 32 q).2 = true))) hR3.2 ?_
  refine v_if_neB (pc := 11) X 28 dX6_number_11 (by decide) (fun h11 => ?_) (fun h11 => ?_)
  · refine v_iconst (pc := 28) (v := nI 1) X dX6_number_28 rfl ?_
    refine v_goto (pc := 29) X 33 dX6_number_29 (by decide) ?_
    refine v_top (y := (bI (¬ (needF t 32 q).2 = false ∨ ¬ digF t (needF t 32 q).1 = true))) (bI_t (by exact Or.inl (by rw [h11]; simp))).symm ?_
    refine t_put (pc := 33) X 32 (by decide) q1988 rfl rfl (nzb _) (ftb _) dX6_number_33 (tf_32 _) ?_
    refine v_iconst (pc := 36) (v := nI 0) X dX6_number_36 rfl ?_
    refine v_istore_n (pc := 37) (loc' := [(2, .int (nI 0)), (0, .ref x), (1, .int (nI m))]) X dX6_number_37 rfl (by decide) rfl ?_
    refine v_iconst (pc := 38) (v := nI 0) X dX6_number_38 rfl ?_
    refine v_istore_n (pc := 39) (loc' := [(3, .int (nI 0)), (2, .int (nI 0)), (0, .ref x), (1, .int (nI m))]) X dX6_number_39 rfl (by decide) rfl ?_
    refine v_sub [2, 3, 1, 0] rfl ?_
    refine v_loop4 (S := Nat) (T := Nat) (Z := Nat) (Y := Tw) (fun k p v τ => tw x ad dd τ) (fun k p v τ => [(0, .ref x), (1, .int (nI m)), (2, .int (nI v)), (3, .int (nI k))]) (fun k p v τ => k ≤ m ∧ p ≤ t.length ∧ Ch [] rdN σ τ ∧ τ 99 31 = nI p ∧ τ 99 32 = bI (¬ (needF t 32 q).2 = false ∨ ¬ digF t (needF t 32 q).1 = true) ∧ (k = 0 → p = (needF t 32 q).1 ∧ v = 0) ∧ (k ≠ 0 → ¬ (¬ (needF t 32 q).2 = false ∨ ¬ digF t (needF t 32 q).1 = true)) ∧ numL t (m - k) p v = numL t m (needF t 32 q).1 0) (fun k p v τ => m - k) (fun k p v τ hI40 ih40 => ?_) 0 ((needF t 32 q).1) 0 _ ⟨Nat.zero_le _, hn1, hC3.num 32 _ (by decide), hR31, rfl, fun _ => ⟨rfl, rfl⟩, fun z => absurd rfl z, rfl⟩
    obtain ⟨hk, hpl, hC, hp31, hp32, hk0, hkw, hnl⟩ := hI40
    have hIt := (hI.same (hC.1 6 (by decide) (by decide)) (hC.2 7 (by decide)))
    refine v_aload_n (pc := 40) X dX6_number_40 rfl 0 rfl ?_
    refine t_get (pc := 41) X 32 (by decide) q1988 rfl rfl dX6_number_41 ?_
    refine v_top (y := (bI (¬ (needF t 32 q).2 = false ∨ ¬ digF t (needF t 32 q).1 = true))) hp32 ?_
    refine v_if_neB (pc := 44) X 95 dX6_number_44 (by decide) (fun h44 => ?_) (fun h44 => ?_)
    · refine v_iload_n (pc := 95) X dX6_number_95 rfl 2 rfl ?_
      exact t_iret (pc := 96) X hr dX6_number_96 ⟨_, rfl, num_w hk0 hnl h44 hC hp31 hp32 (Classical.byContradiction fun z => hkw z h44)⟩
    · refine v_iload_n (pc := 47) X dX6_number_47 rfl 3 rfl ?_
      refine v_iload_n (pc := 48) X dX6_number_48 rfl 1 rfl ?_
      refine v_ic_geN (pc := 49) X (by omega) (by omega) 95 dX6_number_49 (by decide) (fun h49 => ?_) (fun h49 => ?_)
      · refine v_iload_n (pc := 95) X dX6_number_95 rfl 2 rfl ?_
        exact t_iret (pc := 96) X hr dX6_number_96 ⟨_, rfl, num_ok (num_m h49 hnl) h44 hC hp31 hp32⟩
      · refine v_aload_n (pc := 52) X dX6_number_52 rfl 0 rfl ?_
        refine t_callI (pc := 53) X (m_here hIt hp31 (by omega)) (lw_V q2363 q2365 qs81 q109 q2366) hdX6_here ⟨Nat.le_of_ble_eq_true rfl, Nat.le_of_ble_eq_true rfl⟩ rfl rfl (Nat.le_of_ble_eq_true rfl) dX6_number_53 ⟨Nat.le_refl _, Nat.le_refl _⟩ (fun r53 σ53 hp53 => ?_)
        obtain ⟨rfl, rfl⟩ := hp53
        refine v_bipush (pc := 56) (v := nI 48) X dX6_number_56 rfl ?_
        refine v_bipush (pc := 58) (v := nI 57) X dX6_number_58 rfl ?_
        refine t_callSI (pc := 60) X m_in (lw_S q2079 q2080 q109 q2081) hdX6_in ⟨Nat.le_of_ble_eq_true rfl, Nat.le_of_ble_eq_true rfl⟩ rfl rfl (Nat.le_of_ble_eq_true rfl) dX6_number_60 ⟨Nat.le_refl _, Nat.le_refl _⟩ (fun r60 σ60 hp60 => ?_)
        obtain ⟨rfl, rfl⟩ := hp60
        refine v_if_eqB (pc := 63) X 95 dX6_number_63 (by decide) (fun h63 => ?_) (fun h63 => ?_)
        · refine v_iload_n (pc := 95) X dX6_number_95 rfl 2 rfl ?_
          exact t_iret (pc := 96) X hr dX6_number_96 ⟨_, rfl, num_ok (num_d (fun z => h63 ((hr_dig hI4).mpr z)) h49 hnl) h44 hC hp31 hp32⟩
        · obtain ⟨c, hcs, hc48, hc57, hcg, hcp⟩ := dig_get ((hr_dig hI4).mp h63)
          refine v_bipush (pc := 66) (v := nI 10) X dX6_number_66 rfl ?_
          refine v_iload_n (pc := 68) X dX6_number_68 rfl 2 rfl ?_
          refine v_imulN (pc := 69) X dX6_number_69 ?_
          refine v_aload_n (pc := 70) X dX6_number_70 rfl 0 rfl ?_
          refine t_callI (pc := 71) X (m_here hIt hp31 (by omega)) (lw_V q2363 q2365 qs81 q109 q2366) hdX6_here ⟨Nat.le_of_ble_eq_true rfl, Nat.le_of_ble_eq_true rfl⟩ rfl rfl (Nat.le_of_ble_eq_true rfl) dX6_number_71 ⟨Nat.le_refl _, Nat.le_refl _⟩ (fun r71 σ71 hp71 => ?_)
          obtain ⟨rfl, rfl⟩ := hp71
          refine v_top (y := (nI c)) (hr_some hcs) ?_
          refine v_iaddN (pc := 74) X dX6_number_74 ?_
          refine v_bipush (pc := 75) (v := nI 48) X dX6_number_75 rfl ?_
          refine v_isubN (pc := 77) X (by omega) dX6_number_77 ?_
          refine v_top (y := nI (10 * v + (c - 48))) (by rw [Nat.add_sub_assoc hc48]) ?_
          refine v_istore_n (pc := 78) (loc' := [(2, .int (nI (10 * v + (c - 48)))), (0, .ref x), (1, .int (nI m)), (3, .int (nI k))]) X dX6_number_78 rfl (by decide) rfl ?_
          refine v_aload_n (pc := 79) X dX6_number_79 rfl 1 rfl ?_
          refine v_dup (pc := 80) X dX6_number_80 rfl ?_
          refine t_get (pc := 81) X 31 (by decide) q1987 rfl rfl dX6_number_81 ?_
          refine v_top (y := (nI p)) hp31 ?_
          refine v_iconst (pc := 84) (v := nI 1) X dX6_number_84 rfl ?_
          refine v_iaddN (pc := 85) X dX6_number_85 ?_
          refine t_put (pc := 86) X 31 (by decide) q1987 rfl rfl rfl rfl dX6_number_86 (tf_31 _) ?_
          refine v_iinc (pc := 89) (v := (nI (k + 1))) (loc' := [(3, .int (nI (k + 1))), (2, .int (nI (10 * v + (c - 48)))), (0, .ref x), (1, .int (nI m))]) X dX6_number_89 3 rfl (nI_add _ 1) (by decide) rfl ?_
          refine v_goto (pc := 92) X 40 dX6_number_92 (by decide) ?_
          refine v_sub [2, 3, 1, 0] rfl ?_
          exact ih40 (k + 1) (p + 1) (10 * v + (c - 48)) _ ⟨by omega, by omega, hC.num 31 _ (by decide), rfl, hp32, fun z => absurd z (by omega), fun _ => h44, by rw [← hnl, show m - k = (m - (k + 1)) + 1 by omega]; show _ = if _ then _ else _; rw [if_pos ((hr_dig hI4).mp h63), hcg]⟩ (by omega)
  · refine v_aload_n (pc := 14) X dX6_number_14 rfl 0 rfl ?_
    refine t_callI (pc := 15) X (m_here hI3s hR31 (by omega)) (lw_V q2363 q2365 qs81 q109 q2366) hdX6_here ⟨Nat.le_of_ble_eq_true rfl, Nat.le_of_ble_eq_true rfl⟩ rfl rfl (Nat.le_of_ble_eq_true rfl) dX6_number_15 ⟨Nat.le_refl _, Nat.le_refl _⟩ (fun r15 σ15 hp15 => ?_)
    obtain ⟨rfl, rfl⟩ := hp15
    refine v_bipush (pc := 18) (v := nI 48) X dX6_number_18 rfl ?_
    refine v_bipush (pc := 20) (v := nI 57) X dX6_number_20 rfl ?_
    refine t_callSI (pc := 22) X m_in (lw_S q2079 q2080 q109 q2081) hdX6_in ⟨Nat.le_of_ble_eq_true rfl, Nat.le_of_ble_eq_true rfl⟩ rfl rfl (Nat.le_of_ble_eq_true rfl) dX6_number_22 ⟨Nat.le_refl _, Nat.le_refl _⟩ (fun r22 σ22 hp22 => ?_)
    obtain ⟨rfl, rfl⟩ := hp22
    refine v_if_neB (pc := 25) X 32 dX6_number_25 (by decide) (fun h25 => ?_) (fun h25 => ?_)
    · refine v_iconst (pc := 32) (v := nI 0) X dX6_number_32 rfl ?_
      refine v_top (y := (bI (¬ (needF t 32 q).2 = false ∨ ¬ digF t (needF t 32 q).1 = true))) (bI_f (by exact fun z => z.elim (fun w => w (by simpa using h11)) (fun w => w ((hr_dig hI4).mp h25)))).symm ?_
      refine t_put (pc := 33) X 32 (by decide) q1988 rfl rfl (nzb _) (ftb _) dX6_number_33 (tf_32 _) ?_
      refine v_iconst (pc := 36) (v := nI 0) X dX6_number_36 rfl ?_
      refine v_istore_n (pc := 37) (loc' := [(2, .int (nI 0)), (0, .ref x), (1, .int (nI m))]) X dX6_number_37 rfl (by decide) rfl ?_
      refine v_iconst (pc := 38) (v := nI 0) X dX6_number_38 rfl ?_
      refine v_istore_n (pc := 39) (loc' := [(3, .int (nI 0)), (2, .int (nI 0)), (0, .ref x), (1, .int (nI m))]) X dX6_number_39 rfl (by decide) rfl ?_
      refine v_sub [2, 3, 1, 0] rfl ?_
      refine v_loop4 (S := Nat) (T := Nat) (Z := Nat) (Y := Tw) (fun k p v τ => tw x ad dd τ) (fun k p v τ => [(0, .ref x), (1, .int (nI m)), (2, .int (nI v)), (3, .int (nI k))]) (fun k p v τ => k ≤ m ∧ p ≤ t.length ∧ Ch [] rdN σ τ ∧ τ 99 31 = nI p ∧ τ 99 32 = bI (¬ (needF t 32 q).2 = false ∨ ¬ digF t (needF t 32 q).1 = true) ∧ (k = 0 → p = (needF t 32 q).1 ∧ v = 0) ∧ (k ≠ 0 → ¬ (¬ (needF t 32 q).2 = false ∨ ¬ digF t (needF t 32 q).1 = true)) ∧ numL t (m - k) p v = numL t m (needF t 32 q).1 0) (fun k p v τ => m - k) (fun k p v τ hI40 ih40 => ?_) 0 ((needF t 32 q).1) 0 _ ⟨Nat.zero_le _, hn1, hC3.num 32 _ (by decide), hR31, rfl, fun _ => ⟨rfl, rfl⟩, fun z => absurd rfl z, rfl⟩
      obtain ⟨hk, hpl, hC, hp31, hp32, hk0, hkw, hnl⟩ := hI40
      have hIt := (hI.same (hC.1 6 (by decide) (by decide)) (hC.2 7 (by decide)))
      refine v_aload_n (pc := 40) X dX6_number_40 rfl 0 rfl ?_
      refine t_get (pc := 41) X 32 (by decide) q1988 rfl rfl dX6_number_41 ?_
      refine v_top (y := (bI (¬ (needF t 32 q).2 = false ∨ ¬ digF t (needF t 32 q).1 = true))) hp32 ?_
      refine v_if_neB (pc := 44) X 95 dX6_number_44 (by decide) (fun h44 => ?_) (fun h44 => ?_)
      · refine v_iload_n (pc := 95) X dX6_number_95 rfl 2 rfl ?_
        exact t_iret (pc := 96) X hr dX6_number_96 ⟨_, rfl, num_w hk0 hnl h44 hC hp31 hp32 (Classical.byContradiction fun z => hkw z h44)⟩
      · refine v_iload_n (pc := 47) X dX6_number_47 rfl 3 rfl ?_
        refine v_iload_n (pc := 48) X dX6_number_48 rfl 1 rfl ?_
        refine v_ic_geN (pc := 49) X (by omega) (by omega) 95 dX6_number_49 (by decide) (fun h49 => ?_) (fun h49 => ?_)
        · refine v_iload_n (pc := 95) X dX6_number_95 rfl 2 rfl ?_
          exact t_iret (pc := 96) X hr dX6_number_96 ⟨_, rfl, num_ok (num_m h49 hnl) h44 hC hp31 hp32⟩
        · refine v_aload_n (pc := 52) X dX6_number_52 rfl 0 rfl ?_
          refine t_callI (pc := 53) X (m_here hIt hp31 (by omega)) (lw_V q2363 q2365 qs81 q109 q2366) hdX6_here ⟨Nat.le_of_ble_eq_true rfl, Nat.le_of_ble_eq_true rfl⟩ rfl rfl (Nat.le_of_ble_eq_true rfl) dX6_number_53 ⟨Nat.le_refl _, Nat.le_refl _⟩ (fun r53 σ53 hp53 => ?_)
          obtain ⟨rfl, rfl⟩ := hp53
          refine v_bipush (pc := 56) (v := nI 48) X dX6_number_56 rfl ?_
          refine v_bipush (pc := 58) (v := nI 57) X dX6_number_58 rfl ?_
          refine t_callSI (pc := 60) X m_in (lw_S q2079 q2080 q109 q2081) hdX6_in ⟨Nat.le_of_ble_eq_true rfl, Nat.le_of_ble_eq_true rfl⟩ rfl rfl (Nat.le_of_ble_eq_true rfl) dX6_number_60 ⟨Nat.le_refl _, Nat.le_refl _⟩ (fun r60 σ60 hp60 => ?_)
          obtain ⟨rfl, rfl⟩ := hp60
          refine v_if_eqB (pc := 63) X 95 dX6_number_63 (by decide) (fun h63 => ?_) (fun h63 => ?_)
          · refine v_iload_n (pc := 95) X dX6_number_95 rfl 2 rfl ?_
            exact t_iret (pc := 96) X hr dX6_number_96 ⟨_, rfl, num_ok (num_d (fun z => h63 ((hr_dig hI4).mpr z)) h49 hnl) h44 hC hp31 hp32⟩
          · obtain ⟨c, hcs, hc48, hc57, hcg, hcp⟩ := dig_get ((hr_dig hI4).mp h63)
            refine v_bipush (pc := 66) (v := nI 10) X dX6_number_66 rfl ?_
            refine v_iload_n (pc := 68) X dX6_number_68 rfl 2 rfl ?_
            refine v_imulN (pc := 69) X dX6_number_69 ?_
            refine v_aload_n (pc := 70) X dX6_number_70 rfl 0 rfl ?_
            refine t_callI (pc := 71) X (m_here hIt hp31 (by omega)) (lw_V q2363 q2365 qs81 q109 q2366) hdX6_here ⟨Nat.le_of_ble_eq_true rfl, Nat.le_of_ble_eq_true rfl⟩ rfl rfl (Nat.le_of_ble_eq_true rfl) dX6_number_71 ⟨Nat.le_refl _, Nat.le_refl _⟩ (fun r71 σ71 hp71 => ?_)
            obtain ⟨rfl, rfl⟩ := hp71
            refine v_top (y := (nI c)) (hr_some hcs) ?_
            refine v_iaddN (pc := 74) X dX6_number_74 ?_
            refine v_bipush (pc := 75) (v := nI 48) X dX6_number_75 rfl ?_
            refine v_isubN (pc := 77) X (by omega) dX6_number_77 ?_
            refine v_top (y := nI (10 * v + (c - 48))) (by rw [Nat.add_sub_assoc hc48]) ?_
            refine v_istore_n (pc := 78) (loc' := [(2, .int (nI (10 * v + (c - 48)))), (0, .ref x), (1, .int (nI m)), (3, .int (nI k))]) X dX6_number_78 rfl (by decide) rfl ?_
            refine v_aload_n (pc := 79) X dX6_number_79 rfl 1 rfl ?_
            refine v_dup (pc := 80) X dX6_number_80 rfl ?_
            refine t_get (pc := 81) X 31 (by decide) q1987 rfl rfl dX6_number_81 ?_
            refine v_top (y := (nI p)) hp31 ?_
            refine v_iconst (pc := 84) (v := nI 1) X dX6_number_84 rfl ?_
            refine v_iaddN (pc := 85) X dX6_number_85 ?_
            refine t_put (pc := 86) X 31 (by decide) q1987 rfl rfl rfl rfl dX6_number_86 (tf_31 _) ?_
            refine v_iinc (pc := 89) (v := (nI (k + 1))) (loc' := [(3, .int (nI (k + 1))), (2, .int (nI (10 * v + (c - 48)))), (0, .ref x), (1, .int (nI m))]) X dX6_number_89 3 rfl (nI_add _ 1) (by decide) rfl ?_
            refine v_goto (pc := 92) X 40 dX6_number_92 (by decide) ?_
            refine v_sub [2, 3, 1, 0] rfl ?_
            exact ih40 (k + 1) (p + 1) (10 * v + (c - 48)) _ ⟨by omega, by omega, hC.num 31 _ (by decide), rfl, hp32, fun z => absurd z (by omega), fun _ => h44, by rw [← hnl, show m - k = (m - (k + 1)) + 1 by omega]; show _ = if _ then _ else _; rw [if_pos ((hr_dig hI4).mp h63), hcg]⟩ (by omega)
    · refine v_iconst (pc := 28) (v := nI 1) X dX6_number_28 rfl ?_
      refine v_goto (pc := 29) X 33 dX6_number_29 (by decide) ?_
      refine v_top (y := (bI (¬ (needF t 32 q).2 = false ∨ ¬ digF t (needF t 32 q).1 = true))) (bI_t (by exact Or.inr (fun z => h25 ((hr_dig hI4).mpr z)))).symm ?_
      refine t_put (pc := 33) X 32 (by decide) q1988 rfl rfl (nzb _) (ftb _) dX6_number_33 (tf_32 _) ?_
      refine v_iconst (pc := 36) (v := nI 0) X dX6_number_36 rfl ?_
      refine v_istore_n (pc := 37) (loc' := [(2, .int (nI 0)), (0, .ref x), (1, .int (nI m))]) X dX6_number_37 rfl (by decide) rfl ?_
      refine v_iconst (pc := 38) (v := nI 0) X dX6_number_38 rfl ?_
      refine v_istore_n (pc := 39) (loc' := [(3, .int (nI 0)), (2, .int (nI 0)), (0, .ref x), (1, .int (nI m))]) X dX6_number_39 rfl (by decide) rfl ?_
      refine v_sub [2, 3, 1, 0] rfl ?_
      refine v_loop4 (S := Nat) (T := Nat) (Z := Nat) (Y := Tw) (fun k p v τ => tw x ad dd τ) (fun k p v τ => [(0, .ref x), (1, .int (nI m)), (2, .int (nI v)), (3, .int (nI k))]) (fun k p v τ => k ≤ m ∧ p ≤ t.length ∧ Ch [] rdN σ τ ∧ τ 99 31 = nI p ∧ τ 99 32 = bI (¬ (needF t 32 q).2 = false ∨ ¬ digF t (needF t 32 q).1 = true) ∧ (k = 0 → p = (needF t 32 q).1 ∧ v = 0) ∧ (k ≠ 0 → ¬ (¬ (needF t 32 q).2 = false ∨ ¬ digF t (needF t 32 q).1 = true)) ∧ numL t (m - k) p v = numL t m (needF t 32 q).1 0) (fun k p v τ => m - k) (fun k p v τ hI40 ih40 => ?_) 0 ((needF t 32 q).1) 0 _ ⟨Nat.zero_le _, hn1, hC3.num 32 _ (by decide), hR31, rfl, fun _ => ⟨rfl, rfl⟩, fun z => absurd rfl z, rfl⟩
      obtain ⟨hk, hpl, hC, hp31, hp32, hk0, hkw, hnl⟩ := hI40
      have hIt := (hI.same (hC.1 6 (by decide) (by decide)) (hC.2 7 (by decide)))
      refine v_aload_n (pc := 40) X dX6_number_40 rfl 0 rfl ?_
      refine t_get (pc := 41) X 32 (by decide) q1988 rfl rfl dX6_number_41 ?_
      refine v_top (y := (bI (¬ (needF t 32 q).2 = false ∨ ¬ digF t (needF t 32 q).1 = true))) hp32 ?_
      refine v_if_neB (pc := 44) X 95 dX6_number_44 (by decide) (fun h44 => ?_) (fun h44 => ?_)
      · refine v_iload_n (pc := 95) X dX6_number_95 rfl 2 rfl ?_
        exact t_iret (pc := 96) X hr dX6_number_96 ⟨_, rfl, num_w hk0 hnl h44 hC hp31 hp32 (Classical.byContradiction fun z => hkw z h44)⟩
      · refine v_iload_n (pc := 47) X dX6_number_47 rfl 3 rfl ?_
        refine v_iload_n (pc := 48) X dX6_number_48 rfl 1 rfl ?_
        refine v_ic_geN (pc := 49) X (by omega) (by omega) 95 dX6_number_49 (by decide) (fun h49 => ?_) (fun h49 => ?_)
        · refine v_iload_n (pc := 95) X dX6_number_95 rfl 2 rfl ?_
          exact t_iret (pc := 96) X hr dX6_number_96 ⟨_, rfl, num_ok (num_m h49 hnl) h44 hC hp31 hp32⟩
        · refine v_aload_n (pc := 52) X dX6_number_52 rfl 0 rfl ?_
          refine t_callI (pc := 53) X (m_here hIt hp31 (by omega)) (lw_V q2363 q2365 qs81 q109 q2366) hdX6_here ⟨Nat.le_of_ble_eq_true rfl, Nat.le_of_ble_eq_true rfl⟩ rfl rfl (Nat.le_of_ble_eq_true rfl) dX6_number_53 ⟨Nat.le_refl _, Nat.le_refl _⟩ (fun r53 σ53 hp53 => ?_)
          obtain ⟨rfl, rfl⟩ := hp53
          refine v_bipush (pc := 56) (v := nI 48) X dX6_number_56 rfl ?_
          refine v_bipush (pc := 58) (v := nI 57) X dX6_number_58 rfl ?_
          refine t_callSI (pc := 60) X m_in (lw_S q2079 q2080 q109 q2081) hdX6_in ⟨Nat.le_of_ble_eq_true rfl, Nat.le_of_ble_eq_true rfl⟩ rfl rfl (Nat.le_of_ble_eq_true rfl) dX6_number_60 ⟨Nat.le_refl _, Nat.le_refl _⟩ (fun r60 σ60 hp60 => ?_)
          obtain ⟨rfl, rfl⟩ := hp60
          refine v_if_eqB (pc := 63) X 95 dX6_number_63 (by decide) (fun h63 => ?_) (fun h63 => ?_)
          · refine v_iload_n (pc := 95) X dX6_number_95 rfl 2 rfl ?_
            exact t_iret (pc := 96) X hr dX6_number_96 ⟨_, rfl, num_ok (num_d (fun z => h63 ((hr_dig hI4).mpr z)) h49 hnl) h44 hC hp31 hp32⟩
          · obtain ⟨c, hcs, hc48, hc57, hcg, hcp⟩ := dig_get ((hr_dig hI4).mp h63)
            refine v_bipush (pc := 66) (v := nI 10) X dX6_number_66 rfl ?_
            refine v_iload_n (pc := 68) X dX6_number_68 rfl 2 rfl ?_
            refine v_imulN (pc := 69) X dX6_number_69 ?_
            refine v_aload_n (pc := 70) X dX6_number_70 rfl 0 rfl ?_
            refine t_callI (pc := 71) X (m_here hIt hp31 (by omega)) (lw_V q2363 q2365 qs81 q109 q2366) hdX6_here ⟨Nat.le_of_ble_eq_true rfl, Nat.le_of_ble_eq_true rfl⟩ rfl rfl (Nat.le_of_ble_eq_true rfl) dX6_number_71 ⟨Nat.le_refl _, Nat.le_refl _⟩ (fun r71 σ71 hp71 => ?_)
            obtain ⟨rfl, rfl⟩ := hp71
            refine v_top (y := (nI c)) (hr_some hcs) ?_
            refine v_iaddN (pc := 74) X dX6_number_74 ?_
            refine v_bipush (pc := 75) (v := nI 48) X dX6_number_75 rfl ?_
            refine v_isubN (pc := 77) X (by omega) dX6_number_77 ?_
            refine v_top (y := nI (10 * v + (c - 48))) (by rw [Nat.add_sub_assoc hc48]) ?_
            refine v_istore_n (pc := 78) (loc' := [(2, .int (nI (10 * v + (c - 48)))), (0, .ref x), (1, .int (nI m)), (3, .int (nI k))]) X dX6_number_78 rfl (by decide) rfl ?_
            refine v_aload_n (pc := 79) X dX6_number_79 rfl 1 rfl ?_
            refine v_dup (pc := 80) X dX6_number_80 rfl ?_
            refine t_get (pc := 81) X 31 (by decide) q1987 rfl rfl dX6_number_81 ?_
            refine v_top (y := (nI p)) hp31 ?_
            refine v_iconst (pc := 84) (v := nI 1) X dX6_number_84 rfl ?_
            refine v_iaddN (pc := 85) X dX6_number_85 ?_
            refine t_put (pc := 86) X 31 (by decide) q1987 rfl rfl rfl rfl dX6_number_86 (tf_31 _) ?_
            refine v_iinc (pc := 89) (v := (nI (k + 1))) (loc' := [(3, .int (nI (k + 1))), (2, .int (nI (10 * v + (c - 48)))), (0, .ref x), (1, .int (nI m))]) X dX6_number_89 3 rfl (nI_add _ 1) (by decide) rfl ?_
            refine v_goto (pc := 92) X 40 dX6_number_92 (by decide) ?_
            refine v_sub [2, 3, 1, 0] rfl ?_
            exact ih40 (k + 1) (p + 1) (10 * v + (c - 48)) _ ⟨by omega, by omega, hC.num 31 _ (by decide), rfl, hp32, fun z => absurd z (by omega), fun _ => h44, by rw [← hnl, show m - k = (m - (k + 1)) + 1 by omega]; show _ = if _ then _ else _; rw [if_pos ((hr_dig hI4).mp h63), hcg]⟩ (by omega)

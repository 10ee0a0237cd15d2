theorem PuI.one {σ : Tw} {m : Nat} (h : σ 99 7 = nI m) (a b c : Nat) (d e : Int32) : PuI σ (ws1 (wa1 (wa1 (wa1 (wa1 (wa1 σ 2 m (nI a)) 3 m (nI b)) 4 m (nI c)) 5 m d) 6 m e) 7 (nI (m + 1))) m [(a, b, c)] [(d, e)] := by
  refine ⟨((((((Ch.rf _ _ _).row 2 _ (by decide) (by decide)).row 3 _ (by decide) (by decide)).row 4 _ (by decide) (by decide)).row 5 _ (by decide) (by decide)).row 6 _ (by decide) (by decide)).num 7 _ (by decide), rfl, fun k q hq => ?_, fun k q hq => ?_, fun r hr k hk => ?_⟩
  · have : k < 1 := (List.getElem?_eq_some_iff.mp hq).1
    have e : k = 0 := by omega
    subst e
    cases hq
    exact ⟨upd_s _ _ _, upd_s _ _ _, upd_s _ _ _⟩
  · have : k < 1 := (List.getElem?_eq_some_iff.mp hq).1
    have e : k = 0 := by omega
    subst e
    cases hq
    exact ⟨upd_s _ _ _, upd_s _ _ _⟩
  · simp only [List.mem_cons, List.not_mem_nil, or_false] at hr
    rcases hr with rfl | rfl | rfl | rfl | rfl <;> exact upd_n (by omega)
theorem plT_pos (x z : Tr) : (plT (.append x z)).length = (plT x).length + (plT z).length + 1 := by
  show (plT x ++ (plT z ++ [_])).length = _
  rw [List.length_append, List.length_append]
  show _ + (_ + 1) = _
  omega
theorem hdX12_puts : yX12_puts.cls = RX12 ∧ yX12_puts.cls ≠ "java/lang/invoke/MethodHandle" ∧ yX12_puts.cls ≠ "java/lang/invoke/VarHandle" ∧ (parseMethodDescriptor yX12_puts.desc).map (fun d => d.parameters.length) = some 1 := by decide +kernel
theorem pl_sz (a b : Nat) : nI (a + (b + 1)) - nI a + nI 1 = nI (b + 2) := by
  rw [pk_sub (by omega), nI_add]
  congr 1; omega
set_option maxHeartbeats 4000000 in
theorem c_puts {l_ : Launch} {D : va_G} {dd : Nat → ClassId} {px : Nat} {ad : Nat → Nat} {tl : va_W} : ∀ (T : Tr) (a : Nat), PartIs tl T a → rowB T = true → (∀ v ∈ lvs T, v < 1000) → ∀ (m : Nat) {σ : Tw}, σ 99 7 = nI m → m + (plT T).length ≤ 8 → MW l_ D dd yX12_puts cX12_puts 5 (some .int) (dep T + 3) 0 0 (24 * dep T + 80) [.ref px, .ref a] (pw px ad dd σ ++ tl) (fun v w => ∃ σ', v = some (.int (rtT m T)) ∧ w = pw px ad dd σ' ++ tl ∧ PuI σ σ' m (plT T) (kdT m T))
  | .append x z, a, hp, hb, hv => by
    intro m σ hm hroom
    have hT := hp
    obtain ⟨b, c, h1, h2, h3⟩ := hp
    have hb' : (rowB x && rowB z && decide (lsT x + 1 = fsT z)) = true := hb
    simp only [Bool.and_eq_true] at hb'
    have hbx := hb'.1.1
    have hbz := hb'.1.2
    have hvx : ∀ v ∈ lvs x, v < 1000 := fun v h => hv v (List.mem_append_left _ h)
    have hvz : ∀ v ∈ lvs z, v < 1000 := fun v h => hv v (List.mem_append_right _ h)
    have hdep : dep (.append x z) = max (dep x) (dep z) + 1 := rfl
    have hroom2 := hroom
    rw [plT_pos] at hroom2
    refine MW.intro (by decide) (Nat.le_of_ble_eq_true rfl) (fun p_ e_ s_ m_ as_ bl_ me_ c_ A_ X hr hnm => ?_)
    have X : VX p_ s_ m_ as_ me_ c_ cX12_puts 5 RX12 D dd A_ := X
    refine v_eq (ws' := fl [[(px, .inr (10, [.ref (ad 0), .int (σ 99 1), .ref (ad 2), .ref (ad 3), .ref (ad 4), .ref (ad 5), .ref (ad 6), .int (σ 99 7)]))], [(ad 2, .inl (dd 0, 8, .inl (σ 2)))], [(ad 3, .inl (dd 0, 8, .inl (σ 3)))], [(ad 4, .inl (dd 0, 8, .inl (σ 4)))], [(ad 5, .inl (dd 0, 8, .inl (σ 5)))], [(ad 6, .inl (dd 0, 8, .inl (σ 6)))], tl]) (loc' := [(0, .ref px), (1, .ref a)]) rfl rfl rfl ?_
    refine v_aload_n (pc := 0) X dX12_puts_0 rfl 1 rfl ?_
    refine v_psize (pc := 1) X ((.append x z)) a hT ⟨_, ((fl_perm (mv_perm 6 _)).trans (fl_split 1 _))⟩ q1397 ⟨by dsimp only; omega, by dsimp only; omega⟩ (Nat.le_of_ble_eq_true rfl) dX12_puts_1 ⟨Nat.le_of_ble_eq_true rfl, Nat.le_of_ble_eq_true rfl⟩ ?_
    refine v_top (y := (nI ((plT x).length + (plT z).length + 2))) (by show nI (lsT z) - nI (fsT x) + nI 1 = _; have := row_ls _ hb; rw [plT_pos] at this; have e1 : lsT z = fsT x + ((plT x).length + (plT z).length + 1) := this; rw [e1]; exact pl_sz _ _) ?_
    refine v_iconst (pc := 6) (v := nI 1) X dX12_puts_6 rfl ?_
    refine v_ic_neN (pc := 7) X (by omega) (by omega) 12 dX12_puts_7 (by decide) (fun h7 => ?_) (fun h7 => absurd h7 (by omega))
    refine v_aload_n (pc := 12) X dX12_puts_12 rfl 1 rfl ?_
    refine v_castS (pc := 13) X (mem_fl 6 rfl h1) rfl q1409 dX12_puts_13 ?_
    refine v_astore_n (pc := 16) (loc' := [(2, .ref a), (0, .ref px), (1, .ref a)]) X dX12_puts_16 rfl (by decide) rfl ?_
    refine v_aload_n (pc := 17) X dX12_puts_17 rfl 1 rfl ?_
    refine v_aload_n (pc := 18) X dX12_puts_18 rfl 0 rfl ?_
    refine v_getN (pc := 19) X in_X10 (mem_fl 6 rfl h1) rfl 0 (by decide) q1322 (fun y h => h) rfl dX12_puts_19 ?_
    refine v_frame (pc := 22) X (wr := []) (perm_nil _) (r_V X (c_puts x b h2 hbx hvx m (σ := σ) hm (by omega)) (List.mem_of_getElem? (i := 0) rfl) rfl rfl (lw_V q1392 q1394 qs22 q126 q1395) hdX12_puts ⟨by dsimp only; omega, by dsimp only; omega⟩ rfl rfl (Nat.le_of_ble_eq_true rfl) dX12_puts_22 ⟨Nat.le_of_ble_eq_true rfl, Nat.le_of_ble_eq_true rfl⟩) (fun v22 w22 h22 => ?_)
    obtain ⟨σ22, rfl, rfl, hP22⟩ := h22
    refine v_eq (ws' := fl [[(px, .inr (10, [.ref (ad 0), .int (σ22 99 1), .ref (ad 2), .ref (ad 3), .ref (ad 4), .ref (ad 5), .ref (ad 6), .int (σ22 99 7)]))], [(ad 2, .inl (dd 0, 8, .inl (σ22 2)))], [(ad 3, .inl (dd 0, 8, .inl (σ22 3)))], [(ad 4, .inl (dd 0, 8, .inl (σ22 4)))], [(ad 5, .inl (dd 0, 8, .inl (σ22 5)))], [(ad 6, .inl (dd 0, 8, .inl (σ22 6)))], tl]) (List.append_nil _) rfl rfl ?_
    refine v_istore_n (pc := 25) (loc' := [(3, .int (rtT m x)), (2, .ref a), (0, .ref px), (1, .ref a)]) X dX12_puts_25 rfl (by decide) rfl ?_
    refine v_aload_n (pc := 26) X dX12_puts_26 rfl 2 rfl ?_
    refine v_aload_n (pc := 27) X dX12_puts_27 rfl 1 rfl ?_
    refine v_getN (pc := 28) X in_X10 (mem_fl 6 rfl h1) rfl 1 (by decide) q1324 (fun y h => h) rfl dX12_puts_28 ?_
    refine v_frame (pc := 31) X (wr := []) (perm_nil _) (r_V X (c_puts z c h3 hbz hvz (m + (plT x).length) (σ := σ22) hP22.2.1 (by omega)) (List.mem_of_getElem? (i := 0) rfl) rfl rfl (lw_V q1392 q1394 qs22 q126 q1395) hdX12_puts ⟨by dsimp only; omega, by dsimp only; omega⟩ rfl rfl (Nat.le_of_ble_eq_true rfl) dX12_puts_31 ⟨Nat.le_of_ble_eq_true rfl, Nat.le_of_ble_eq_true rfl⟩) (fun v31 w31 h31 => ?_)
    obtain ⟨σ31, rfl, rfl, hP31⟩ := h31
    refine v_eq (ws' := fl [[(px, .inr (10, [.ref (ad 0), .int (σ31 99 1), .ref (ad 2), .ref (ad 3), .ref (ad 4), .ref (ad 5), .ref (ad 6), .int (σ31 99 7)]))], [(ad 2, .inl (dd 0, 8, .inl (σ31 2)))], [(ad 3, .inl (dd 0, 8, .inl (σ31 3)))], [(ad 4, .inl (dd 0, 8, .inl (σ31 4)))], [(ad 5, .inl (dd 0, 8, .inl (σ31 5)))], [(ad 6, .inl (dd 0, 8, .inl (σ31 6)))], tl]) (List.append_nil _) rfl rfl ?_
    refine v_istore (pc := 34) (loc' := [(4, .int (rtT (m + (plT x).length) z)), (3, .int (rtT m x)), (2, .ref a), (0, .ref px), (1, .ref a)]) X dX12_puts_34 (by decide) rfl ?_
    refine v_aload_n (pc := 36) X dX12_puts_36 rfl 3 rfl ?_
    refine v_getM (pc := 37) X in_X12 (mem_fl 0 rfl List.mem_cons_self) rfl 2 (by decide) q1419 (fun y h => h) rfl dX12_puts_37 ?_
    refine v_aload_n (pc := 40) X dX12_puts_40 rfl 3 rfl ?_
    refine v_getM (pc := 41) X in_X12 (mem_fl 0 rfl List.mem_cons_self) rfl 7 (by decide) q1429 (fun y h => h) rfl dX12_puts_41 ?_
    refine v_top (y := (nI (m + (plT x).length + (plT z).length))) hP31.2.1 ?_
    refine v_aload_n (pc := 44) X dX12_puts_44 rfl 4 rfl ?_
    refine v_pfirst (pc := 45) X ((.append x z)) a hT (c_pfirst ((.append x z)) a hT) ⟨_, ((fl_perm (mv_perm 6 _)).trans (fl_split 1 _))⟩ q1411 ⟨by dsimp only; omega, by dsimp only; omega⟩ (Nat.le_of_ble_eq_true rfl) dX12_puts_45 ⟨Nat.le_of_ble_eq_true rfl, Nat.le_of_ble_eq_true rfl⟩ (fun r45 h45 => ?_)
    subst h45
    refine v_iast (pc := 50) X 1 rfl rfl (by omega) (by decide) dX12_puts_50 (ws' := fl [[(px, .inr (10, [.ref (ad 0), .int (σ31 99 1), .ref (ad 2), .ref (ad 3), .ref (ad 4), .ref (ad 5), .ref (ad 6), .int (σ31 99 7)]))], [(ad 2, .inl (dd 0, 8, .inl (upd (σ31 2) (m + (plT x).length + (plT z).length) ((nI (fsT ((.append x z))))))))], [(ad 3, .inl (dd 0, 8, .inl (σ31 3)))], [(ad 4, .inl (dd 0, 8, .inl (σ31 4)))], [(ad 5, .inl (dd 0, 8, .inl (σ31 5)))], [(ad 6, .inl (dd 0, 8, .inl (σ31 6)))], tl]) rfl ?_
    refine v_aload_n (pc := 51) X dX12_puts_51 rfl 3 rfl ?_
    refine v_getM (pc := 52) X in_X12 (mem_fl 0 rfl List.mem_cons_self) rfl 3 (by decide) q1421 (fun y h => h) rfl dX12_puts_52 ?_
    refine v_aload_n (pc := 55) X dX12_puts_55 rfl 3 rfl ?_
    refine v_getM (pc := 56) X in_X12 (mem_fl 0 rfl List.mem_cons_self) rfl 7 (by decide) q1429 (fun y h => h) rfl dX12_puts_56 ?_
    refine v_top (y := (nI (m + (plT x).length + (plT z).length))) hP31.2.1 ?_
    refine v_aload_n (pc := 59) X dX12_puts_59 rfl 4 rfl ?_
    refine v_plast (pc := 60) X ((.append x z)) a hT (c_plast ((.append x z)) a hT) ⟨_, ((fl_perm (mv_perm 6 _)).trans (fl_split 1 _))⟩ q1413 ⟨by dsimp only; omega, by dsimp only; omega⟩ (Nat.le_of_ble_eq_true rfl) dX12_puts_60 ⟨Nat.le_of_ble_eq_true rfl, Nat.le_of_ble_eq_true rfl⟩ (fun r60 h60 => ?_)
    subst h60
    refine v_iast (pc := 65) X 2 rfl rfl (by omega) (by decide) dX12_puts_65 (ws' := fl [[(px, .inr (10, [.ref (ad 0), .int (σ31 99 1), .ref (ad 2), .ref (ad 3), .ref (ad 4), .ref (ad 5), .ref (ad 6), .int (σ31 99 7)]))], [(ad 2, .inl (dd 0, 8, .inl (upd (σ31 2) (m + (plT x).length + (plT z).length) ((nI (fsT ((.append x z))))))))], [(ad 3, .inl (dd 0, 8, .inl (upd (σ31 3) (m + (plT x).length + (plT z).length) ((nI (lsT ((.append x z))))))))], [(ad 4, .inl (dd 0, 8, .inl (σ31 4)))], [(ad 5, .inl (dd 0, 8, .inl (σ31 5)))], [(ad 6, .inl (dd 0, 8, .inl (σ31 6)))], tl]) rfl ?_
    refine v_aload_n (pc := 66) X dX12_puts_66 rfl 3 rfl ?_
    refine v_getM (pc := 67) X in_X12 (mem_fl 0 rfl List.mem_cons_self) rfl 4 (by decide) q1423 (fun y h => h) rfl dX12_puts_67 ?_
    refine v_aload_n (pc := 70) X dX12_puts_70 rfl 3 rfl ?_
    refine v_getM (pc := 71) X in_X12 (mem_fl 0 rfl List.mem_cons_self) rfl 7 (by decide) q1429 (fun y h => h) rfl dX12_puts_71 ?_
    refine v_top (y := (nI (m + (plT x).length + (plT z).length))) hP31.2.1 ?_
    refine v_aload_n (pc := 74) X dX12_puts_74 rfl 2 rfl ?_
    refine v_getN (pc := 75) X in_X10 (mem_fl 6 rfl h1) rfl 0 (by decide) q1322 (fun y h => h) rfl dX12_puts_75 ?_
    refine v_plast (pc := 78) X x b h2 (c_plast x b h2) ⟨_, ((fl_perm (mv_perm 6 _)).trans (fl_split 1 _))⟩ q1413 ⟨by dsimp only; omega, by dsimp only; omega⟩ (Nat.le_of_ble_eq_true rfl) dX12_puts_78 ⟨Nat.le_of_ble_eq_true rfl, Nat.le_of_ble_eq_true rfl⟩ (fun r78 h78 => ?_)
    subst h78
    refine v_iast (pc := 83) X 3 rfl rfl (by omega) (by decide) dX12_puts_83 (ws' := fl [[(px, .inr (10, [.ref (ad 0), .int (σ31 99 1), .ref (ad 2), .ref (ad 3), .ref (ad 4), .ref (ad 5), .ref (ad 6), .int (σ31 99 7)]))], [(ad 2, .inl (dd 0, 8, .inl (upd (σ31 2) (m + (plT x).length + (plT z).length) ((nI (fsT ((.append x z))))))))], [(ad 3, .inl (dd 0, 8, .inl (upd (σ31 3) (m + (plT x).length + (plT z).length) ((nI (lsT ((.append x z))))))))], [(ad 4, .inl (dd 0, 8, .inl (upd (σ31 4) (m + (plT x).length + (plT z).length) ((nI (lsT x))))))], [(ad 5, .inl (dd 0, 8, .inl (σ31 5)))], [(ad 6, .inl (dd 0, 8, .inl (σ31 6)))], tl]) rfl ?_
    refine v_aload_n (pc := 84) X dX12_puts_84 rfl 3 rfl ?_
    refine v_getM (pc := 85) X in_X12 (mem_fl 0 rfl List.mem_cons_self) rfl 5 (by decide) q1425 (fun y h => h) rfl dX12_puts_85 ?_
    refine v_aload_n (pc := 88) X dX12_puts_88 rfl 3 rfl ?_
    refine v_getM (pc := 89) X in_X12 (mem_fl 0 rfl List.mem_cons_self) rfl 7 (by decide) q1429 (fun y h => h) rfl dX12_puts_89 ?_
    refine v_top (y := (nI (m + (plT x).length + (plT z).length))) hP31.2.1 ?_
    refine v_iload_n (pc := 92) X dX12_puts_92 rfl 1 rfl ?_
    refine v_iast (pc := 93) X 4 rfl rfl (by omega) (by decide) dX12_puts_93 (ws' := fl [[(px, .inr (10, [.ref (ad 0), .int (σ31 99 1), .ref (ad 2), .ref (ad 3), .ref (ad 4), .ref (ad 5), .ref (ad 6), .int (σ31 99 7)]))], [(ad 2, .inl (dd 0, 8, .inl (upd (σ31 2) (m + (plT x).length + (plT z).length) ((nI (fsT ((.append x z))))))))], [(ad 3, .inl (dd 0, 8, .inl (upd (σ31 3) (m + (plT x).length + (plT z).length) ((nI (lsT ((.append x z))))))))], [(ad 4, .inl (dd 0, 8, .inl (upd (σ31 4) (m + (plT x).length + (plT z).length) ((nI (lsT x))))))], [(ad 5, .inl (dd 0, 8, .inl (upd (σ31 5) (m + (plT x).length + (plT z).length) ((rtT m x)))))], [(ad 6, .inl (dd 0, 8, .inl (σ31 6)))], tl]) rfl ?_
    refine v_aload_n (pc := 94) X dX12_puts_94 rfl 3 rfl ?_
    refine v_getM (pc := 95) X in_X12 (mem_fl 0 rfl List.mem_cons_self) rfl 6 (by decide) q1427 (fun y h => h) rfl dX12_puts_95 ?_
    refine v_aload_n (pc := 98) X dX12_puts_98 rfl 3 rfl ?_
    refine v_getM (pc := 99) X in_X12 (mem_fl 0 rfl List.mem_cons_self) rfl 7 (by decide) q1429 (fun y h => h) rfl dX12_puts_99 ?_
    refine v_top (y := (nI (m + (plT x).length + (plT z).length))) hP31.2.1 ?_
    refine v_iload (pc := 102) X dX12_puts_102 0 rfl ?_
    refine v_iast (pc := 104) X 5 rfl rfl (by omega) (by decide) dX12_puts_104 (ws' := fl [[(px, .inr (10, [.ref (ad 0), .int (σ31 99 1), .ref (ad 2), .ref (ad 3), .ref (ad 4), .ref (ad 5), .ref (ad 6), .int (σ31 99 7)]))], [(ad 2, .inl (dd 0, 8, .inl (upd (σ31 2) (m + (plT x).length + (plT z).length) ((nI (fsT ((.append x z))))))))], [(ad 3, .inl (dd 0, 8, .inl (upd (σ31 3) (m + (plT x).length + (plT z).length) ((nI (lsT ((.append x z))))))))], [(ad 4, .inl (dd 0, 8, .inl (upd (σ31 4) (m + (plT x).length + (plT z).length) ((nI (lsT x))))))], [(ad 5, .inl (dd 0, 8, .inl (upd (σ31 5) (m + (plT x).length + (plT z).length) ((rtT m x)))))], [(ad 6, .inl (dd 0, 8, .inl (upd (σ31 6) (m + (plT x).length + (plT z).length) ((rtT (m + (plT x).length) z)))))], tl]) rfl ?_
    refine v_aload_n (pc := 105) X dX12_puts_105 rfl 3 rfl ?_
    refine v_dup (pc := 106) X dX12_puts_106 rfl ?_
    refine v_getM (pc := 107) X in_X12 (mem_fl 0 rfl List.mem_cons_self) rfl 7 (by decide) q1429 (fun y h => h) rfl dX12_puts_107 ?_
    refine v_top (y := (nI (m + (plT x).length + (plT z).length))) hP31.2.1 ?_
    refine v_iconst (pc := 110) (v := nI 1) X dX12_puts_110 rfl ?_
    refine v_iaddN (pc := 111) X dX12_puts_111 ?_
    refine v_put (pc := 112) X in_X12 tyX12 tyX12_ok nmX12 0 rfl rfl 7 (by decide) q1429 (fun y h => h) rfl rfl rfl (Nat.le_of_ble_eq_true rfl) dX12_puts_112 (ws' := fl [[(px, .inr (10, [.ref (ad 0), .int (σ31 99 1), .ref (ad 2), .ref (ad 3), .ref (ad 4), .ref (ad 5), .ref (ad 6), .int (nI ((m + (plT x).length + (plT z).length) + 1))]))], [(ad 2, .inl (dd 0, 8, .inl (upd (σ31 2) (m + (plT x).length + (plT z).length) ((nI (fsT ((.append x z))))))))], [(ad 3, .inl (dd 0, 8, .inl (upd (σ31 3) (m + (plT x).length + (plT z).length) ((nI (lsT ((.append x z))))))))], [(ad 4, .inl (dd 0, 8, .inl (upd (σ31 4) (m + (plT x).length + (plT z).length) ((nI (lsT x))))))], [(ad 5, .inl (dd 0, 8, .inl (upd (σ31 5) (m + (plT x).length + (plT z).length) ((rtT m x)))))], [(ad 6, .inl (dd 0, 8, .inl (upd (σ31 6) (m + (plT x).length + (plT z).length) ((rtT (m + (plT x).length) z)))))], tl]) rfl ?_
    refine v_aload_n (pc := 115) X dX12_puts_115 rfl 3 rfl ?_
    refine v_getM (pc := 116) X in_X12 (mem_fl 0 rfl List.mem_cons_self) rfl 7 (by decide) q1429 (fun y h => h) rfl dX12_puts_116 ?_
    refine v_iconst (pc := 119) (v := nI 1) X dX12_puts_119 rfl ?_
    refine v_isubN (pc := 120) X (by omega) dX12_puts_120 ?_
    exact v_iret (pc := 121) X hr dX12_puts_121 ⟨_, (by show some (Value.int (nI (m + (plT x).length + (plT z).length + 1 - 1))) = _; unfold rtT; rw [plT_pos, if_neg (by omega)]; congr 3; omega), rfl, PuI.tr hP22 (kdT_len x m) (PuI.tr hP31 (kdT_len z _) (PuI.one hP31.2.1 _ _ _ _ _))⟩
  | .tag v y, a, hp, hb, hv => by
    intro m σ hm hroom
    refine MW.intro (by decide) (Nat.le_of_ble_eq_true rfl) (fun p_ e_ s_ m_ as_ bl_ me_ c_ A_ X hr hnm => ?_)
    have X : VX p_ s_ m_ as_ me_ c_ cX12_puts 5 RX12 D dd A_ := X
    refine v_eq (ws' := fl [[(px, .inr (10, [.ref (ad 0), .int (σ 99 1), .ref (ad 2), .ref (ad 3), .ref (ad 4), .ref (ad 5), .ref (ad 6), .int (σ 99 7)]))], [(ad 2, .inl (dd 0, 8, .inl (σ 2)))], [(ad 3, .inl (dd 0, 8, .inl (σ 3)))], [(ad 4, .inl (dd 0, 8, .inl (σ 4)))], [(ad 5, .inl (dd 0, 8, .inl (σ 5)))], [(ad 6, .inl (dd 0, 8, .inl (σ 6)))], tl]) (loc' := [(0, .ref px), (1, .ref a)]) rfl rfl rfl ?_
    refine v_aload_n (pc := 0) X dX12_puts_0 rfl 1 rfl ?_
    refine v_psize (pc := 1) X (.tag v y) a hp ⟨_, ((fl_perm (mv_perm 6 _)).trans (fl_split 1 _))⟩ q1397 ⟨by dsimp only; omega, by dsimp only; omega⟩ (Nat.le_of_ble_eq_true rfl) dX12_puts_1 ⟨Nat.le_of_ble_eq_true rfl, Nat.le_of_ble_eq_true rfl⟩ ?_
    refine v_top (y := nI 1) (by show nI v - nI v + nI 1 = nI 1; rw [Int32.sub_self]; rfl) ?_
    refine v_iconst (pc := 6) (v := nI 1) X dX12_puts_6 rfl ?_
    refine v_ic_neN (pc := 7) X (by omega) (by omega) 12 dX12_puts_7 (by decide) (fun h7 => absurd rfl h7) (fun h7 => ?_)
    refine v_iconst (pc := 10) (v := -1) X dX12_puts_10 rfl ?_
    exact v_iret (pc := 11) X hr dX12_puts_11 ⟨_, rfl, rfl, PuI.rf hm⟩
  | .nil, _, hp, _, _ => hp.elim
  | .line, _, hp, _, _ => hp.elim
  | .align _, _, hp, _, _ => hp.elim
  | .text _, _, hp, _, _ => hp.elim
  | .nest _ _, _, hp, _, _ => hp.elim
  | .group _ _, _, hp, _, _ => hp.elim
theorem hdX12_cost : yX12_cost.cls = RX12 ∧ yX12_cost.cls ≠ "java/lang/invoke/MethodHandle" ∧ yX12_cost.cls ≠ "java/lang/invoke/VarHandle" ∧ (parseMethodDescriptor yX12_cost.desc).map (fun d => d.parameters.length) = some 2 := by decide +kernel
set_option maxHeartbeats 4000000 in
theorem c_X12_cost {l_ : Launch} {D : va_G} {dd : Nat → ClassId} {ws : va_W} {px od a2 a3 a4 a5 a6 y k fi la sp : Nat} {md mn : Int32} {f g2 g3 g4 : Nat → Int32} {sd : Nat → Nat} (hf : ∀ i, i < 9 → f i = nI (sd i)) (hy : (y, .inl (dd 0, 9, .inl f)) ∈ ws) (hp : (px, .inr (10, [.ref od, .int md, .ref a2, .ref a3, .ref a4, .ref a5, .ref a6, .int mn])) ∈ ws) (h2 : (a2, .inl (dd 0, 8, .inl g2)) ∈ ws) (h3 : (a3, .inl (dd 0, 8, .inl g3)) ∈ ws) (h4 : (a4, .inl (dd 0, 8, .inl g4)) ∈ ws) (hk : k < 8) (e2 : g2 k = nI fi) (e3 : g3 k = nI la) (e4 : g4 k = nI sp) (b2 : fi < 9) (b3 : la < 8) (b4 : sp < 8) : MW l_ D dd yX12_cost cX12_cost 3 (some .int) 1 0 0 23 [.ref px, .ref y, .int (nI k)] (ws) (RI (fun r => nI (prN sd fi sp la) = r) ws) := by
  refine MW.intro (by decide) (Nat.le_of_ble_eq_true rfl) (fun p_ e_ s_ m_ as_ bl_ me_ c_ A_ X hr hnm => ?_)
  have X : VX p_ s_ m_ as_ me_ c_ cX12_cost 3 RX12 D dd A_ := X
  refine v_eq (loc' := [(0, .ref px), (1, .ref y), (2, .int (nI k))]) rfl rfl rfl ?_
  refine v_aload_n (pc := 0) X dX12_cost_0 rfl 1 rfl ?_
  refine v_aload_n (pc := 1) X dX12_cost_1 rfl 0 rfl ?_
  refine v_getM (pc := 2) X in_X12 hp rfl 2 (by decide) q1419 (fun y h => h) rfl dX12_cost_2 ?_
  refine v_iload_n (pc := 5) X dX12_cost_5 rfl 2 rfl ?_
  refine v_iaM (pc := 6) X h2 rfl (by omega) (by decide) dX12_cost_6 ?_
  refine v_top (y := (nI fi)) e2 ?_
  refine v_aload_n (pc := 7) X dX12_cost_7 rfl 0 rfl ?_
  refine v_getM (pc := 8) X in_X12 hp rfl 4 (by decide) q1423 (fun y h => h) rfl dX12_cost_8 ?_
  refine v_iload_n (pc := 11) X dX12_cost_11 rfl 2 rfl ?_
  refine v_iaM (pc := 12) X h4 rfl (by omega) (by decide) dX12_cost_12 ?_
  refine v_top (y := (nI sp)) e4 ?_
  refine v_aload_n (pc := 13) X dX12_cost_13 rfl 0 rfl ?_
  refine v_getM (pc := 14) X in_X12 hp rfl 3 (by decide) q1421 (fun y h => h) rfl dX12_cost_14 ?_
  refine v_iload_n (pc := 17) X dX12_cost_17 rfl 2 rfl ?_
  refine v_iaM (pc := 18) X h3 rfl (by omega) (by decide) dX12_cost_18 ?_
  refine v_top (y := (nI la)) e3 ?_
  refine v_read (pc := 19) X (mem1 hy) (r_SN X (c_X1_poured (a := fi) (b := sp) (c := la) hf (by omega) (by omega) (by omega)) q859 q91 q1487 q858 hdX1_poured ⟨Nat.le_of_ble_eq_true rfl, Nat.le_of_ble_eq_true rfl⟩ rfl rfl (Nat.le_of_ble_eq_true rfl) dX12_cost_19 ⟨Nat.le_of_ble_eq_true rfl, Nat.le_of_ble_eq_true rfl⟩) (fun r19 h19 => ?_)
  subst h19
  exact v_iret (pc := 22) X hr dX12_cost_22 ⟨⟨_, rfl, rfl⟩, rfl⟩

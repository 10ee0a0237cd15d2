theorem hdX6_drops : yX6_drops.cls = RX6 ∧ yX6_drops.cls ≠ "java/lang/invoke/MethodHandle" ∧ yX6_drops.cls ≠ "java/lang/invoke/VarHandle" ∧ (parseMethodDescriptor yX6_drops.desc).map (fun d => d.parameters.length) = some 1 := by decide +kernel
set_option maxHeartbeats 4000000 in
theorem m_drops {l_ : Launch} {D : va_G} {dd : Nat → ClassId} {x : Nat} {ad : Nat → Nat} {σ : Tw} {np : Nat} {q : Int32} (hp : σ 0 15 = nI np) (hp4 : np ≤ 4) : TM l_ D dd x ad yX6_drops cX6_drops 3 (some .int) 2 43 [.ref x, .int q] σ (TI (fun r σ' => Cr σ (opDrop (σ 0) np q) r σ')) := by
  refine MW.intro (by decide) (Nat.le_of_ble_eq_true rfl) (fun p_ e_ s_ m_ as_ bl_ me_ c_ A_ X hr hnm => ?_)
  have X : VX p_ s_ m_ as_ me_ c_ cX6_drops 3 RX6 D dd A_ := X
  refine v_eq (loc' := [(0, .ref x), (1, .int q)]) rfl rfl rfl ?_
  refine v_aload_n (pc := 0) X dX6_drops_0 rfl 0 rfl ?_
  refine v_iload_n (pc := 1) X dX6_drops_1 rfl 1 rfl ?_
  refine t_callI (pc := 2) X (m_isPlan hp) (lw_V q2235 q2237 qs61 q109 q2238) hdX6_isPlan ⟨Nat.le_of_ble_eq_true rfl, Nat.le_of_ble_eq_true rfl⟩ rfl rfl (Nat.le_of_ble_eq_true rfl) dX6_drops_2 ⟨Nat.le_refl _, Nat.le_refl _⟩ (fun r2 σ2 hp2 => ?_)
  obtain ⟨rfl, rfl⟩ := hp2
  refine v_if_neB (pc := 5) X 14 dX6_drops_5 (by decide) (fun h5 => ?_) (fun h5 => ?_)
  · obtain ⟨i, hii, rfl⟩ := inN_of (by omega) h5
    have hci : (nI i).toNatClampNeg = i := nI_clamp (by omega)
    refine v_aload_n (pc := 14) X dX6_drops_14 rfl 0 rfl ?_
    refine t_get (pc := 15) X 0 (by decide) q1956 rfl rfl dX6_drops_15 ?_
    refine v_bipush (pc := 18) (v := nI 15) X dX6_drops_18 rfl ?_
    refine v_dup2 (pc := 20) X dX6_drops_20 rfl rfl ?_
    refine v_iald (pc := 21) X 1 ta_0 rfl (by omega) (by decide) dX6_drops_21 ?_
    refine v_top (y := (nI np)) hp ?_
    refine v_iconst (pc := 22) (v := nI 1) X dX6_drops_22 rfl ?_
    refine v_isubN (pc := 23) X (by omega) dX6_drops_23 ?_
    refine v_iast (pc := 24) X 1 ta_0 rfl (by omega) (by decide) dX6_drops_24 (tb_0 _) ?_
    refine v_bipush (pc := 25) (v := nI 16) X dX6_drops_25 rfl ?_
    refine v_bipush (pc := 27) (v := nI 24) X dX6_drops_27 rfl ?_
    refine v_iload_n (pc := 29) X dX6_drops_29 rfl 1 rfl ?_
    refine v_imulN (pc := 30) X dX6_drops_30 ?_
    refine v_iaddN (pc := 31) X dX6_drops_31 ?_
    refine v_istore_n (pc := 32) (loc' := [(2, .int (nI (16 + (24 * i)))), (0, .ref x), (1, .int (nI i))]) X dX6_drops_32 rfl (by decide) rfl ?_
    refine v_sub [1, 2, 0] rfl ?_
    refine v_loop2 (S := Nat) (T := Tw) (fun k τ => tw x ad dd τ) (fun k τ => [(0, .ref x), (1, .int (nI i)), (2, .int (nI k))]) (fun k τ => 16 + 24 * i ≤ k ∧ k ≤ 16 + 24 * (np - 1) ∧ τ = rw2 σ 0 (drop1 (upd (σ 0) 15 (nI (np - 1))) i k)) (fun k τ => 112 - k) (fun k τ hI33 ih33 => ?_) (16 + 24 * i) _ ⟨Nat.le_refl _, by omega, by rw [drop1_0]⟩
    obtain ⟨hk1, hk2, rfl⟩ := hI33
    refine v_iload_n (pc := 33) X dX6_drops_33 rfl 2 rfl ?_
    refine v_bipush (pc := 34) (v := nI 16) X dX6_drops_34 rfl ?_
    refine v_bipush (pc := 36) (v := nI 24) X dX6_drops_36 rfl ?_
    refine v_aload_n (pc := 38) X dX6_drops_38 rfl 0 rfl ?_
    refine t_get (pc := 39) X 0 (by decide) q1956 rfl rfl dX6_drops_39 ?_
    refine v_bipush (pc := 42) (v := nI 15) X dX6_drops_42 rfl ?_
    refine v_iald (pc := 44) X 1 ta_0 rfl (by omega) (by decide) dX6_drops_44 ?_
    refine v_top (y := (nI (np - 1))) (by show drop1 _ _ _ 15 = _; unfold drop1; rw [if_neg (by omega)]; exact upd_s _ _ _) ?_
    refine v_imulN (pc := 45) X dX6_drops_45 ?_
    refine v_iaddN (pc := 46) X dX6_drops_46 ?_
    refine v_ic_geN (pc := 47) X (by omega) (by omega) 71 dX6_drops_47 (by decide) (fun h47 => ?_) (fun h47 => ?_)
    · have hke : k = 16 + 24 * (np - 1) := by omega
      subst hke
      refine v_iconst (pc := 71) (v := nI 0) X dX6_drops_71 rfl ?_
      refine v_istore_n (pc := 72) (loc' := [(2, .int (nI 0)), (0, .ref x), (1, .int (nI i))]) X dX6_drops_72 rfl (by decide) rfl ?_
      refine v_sub [1, 2, 0] rfl ?_
      refine v_loop2 (S := Nat) (T := Tw) (fun k τ => tw x ad dd τ) (fun k τ => [(0, .ref x), (1, .int (nI i)), (2, .int (nI k))]) (fun k τ => k ≤ 24 ∧ τ = rw2 σ 0 (drop2 (drop1 (upd (σ 0) 15 (nI (np - 1))) i (16 + 24 * (np - 1))) (np - 1) k)) (fun k τ => 24 - k) (fun k τ hI73 ih73 => ?_) 0 _ ⟨by omega, by rw [drop2_0]⟩
      obtain ⟨hk3, rfl⟩ := hI73
      have h15 : rw2 σ 0 (drop2 (drop1 (upd (σ 0) 15 (nI (np - 1))) i (16 + 24 * (np - 1))) (np - 1) k) 0 15 = nI (np - 1) := by show drop2 _ _ _ 15 = _; unfold drop2 drop1; rw [if_neg (by omega), if_neg (by omega)]; exact upd_s _ _ _
      refine v_iload_n (pc := 73) X dX6_drops_73 rfl 2 rfl ?_
      refine v_bipush (pc := 74) (v := nI 24) X dX6_drops_74 rfl ?_
      refine v_ic_geN (pc := 76) X (by omega) (by omega) 106 dX6_drops_76 (by decide) (fun h76 => ?_) (fun h76 => ?_)
      · refine v_aload_n (pc := 106) X dX6_drops_106 rfl 0 rfl ?_
        refine v_aload_n (pc := 107) X dX6_drops_107 rfl 0 rfl ?_
        refine t_get (pc := 108) X 0 (by decide) q1956 rfl rfl dX6_drops_108 ?_
        refine v_bipush (pc := 111) (v := nI 15) X dX6_drops_111 rfl ?_
        refine v_iald (pc := 113) X 1 ta_0 rfl (by omega) (by decide) dX6_drops_113 ?_
        refine v_top (y := (nI (np - 1))) h15 ?_
        refine t_callI (pc := 114) X m_done (lw_V q2094 q2096 qs41 q109 q2097) hdX6_done ⟨Nat.le_of_ble_eq_true rfl, Nat.le_of_ble_eq_true rfl⟩ rfl rfl (Nat.le_of_ble_eq_true rfl) dX6_drops_114 ⟨Nat.le_refl _, Nat.le_refl _⟩ (fun r114 σ114 hp114 => ?_)
        obtain ⟨rfl, rfl⟩ := hp114
        exact t_iret (pc := 117) X hr dX6_drops_117 ⟨_, rfl, Cr.ok (by unfold opDrop; rw [if_pos h5, hci]) rfl (by show BEq (drop2 _ _ k) _; rw [show k = 24 by omega, drop12 (by omega)]; exact BEq.rf _) ((Ch.rf _ _ _).row 0 _ (by decide) (by decide)) rfl rfl⟩
      · refine v_aload_n (pc := 79) X dX6_drops_79 rfl 0 rfl ?_
        refine t_get (pc := 80) X 0 (by decide) q1956 rfl rfl dX6_drops_80 ?_
        refine v_bipush (pc := 83) (v := nI 16) X dX6_drops_83 rfl ?_
        refine v_bipush (pc := 85) (v := nI 24) X dX6_drops_85 rfl ?_
        refine v_aload_n (pc := 87) X dX6_drops_87 rfl 0 rfl ?_
        refine t_get (pc := 88) X 0 (by decide) q1956 rfl rfl dX6_drops_88 ?_
        refine v_bipush (pc := 91) (v := nI 15) X dX6_drops_91 rfl ?_
        refine v_iald (pc := 93) X 1 ta_0 rfl (by omega) (by decide) dX6_drops_93 ?_
        refine v_top (y := (nI (np - 1))) h15 ?_
        refine v_imulN (pc := 94) X dX6_drops_94 ?_
        refine v_iaddN (pc := 95) X dX6_drops_95 ?_
        refine v_iload_n (pc := 96) X dX6_drops_96 rfl 2 rfl ?_
        refine v_iaddN (pc := 97) X dX6_drops_97 ?_
        refine v_iconst (pc := 98) (v := nI 0) X dX6_drops_98 rfl ?_
        refine v_iast (pc := 99) X 1 ta_0 rfl (by omega) (by decide) dX6_drops_99 (tb_0 _) ?_
        refine v_iinc (pc := 100) (v := (nI (k + 1))) (loc' := [(2, .int (nI (k + 1))), (0, .ref x), (1, .int (nI i))]) X dX6_drops_100 2 rfl (nI_add _ 1) (by decide) rfl ?_
        refine v_goto (pc := 103) X 73 dX6_drops_103 (by decide) ?_
        refine v_sub [1, 2, 0] rfl ?_
        exact ih73 _ _ ⟨by omega, by rw [rw2_rw2]; exact congrArg _ (drop2_s _ _ _)⟩ (by omega)
    · refine v_aload_n (pc := 50) X dX6_drops_50 rfl 0 rfl ?_
      refine t_get (pc := 51) X 0 (by decide) q1956 rfl rfl dX6_drops_51 ?_
      refine v_iload_n (pc := 54) X dX6_drops_54 rfl 2 rfl ?_
      refine v_aload_n (pc := 55) X dX6_drops_55 rfl 0 rfl ?_
      refine t_get (pc := 56) X 0 (by decide) q1956 rfl rfl dX6_drops_56 ?_
      refine v_iload_n (pc := 59) X dX6_drops_59 rfl 2 rfl ?_
      refine v_bipush (pc := 60) (v := nI 24) X dX6_drops_60 rfl ?_
      refine v_iaddN (pc := 62) X dX6_drops_62 ?_
      refine v_iald (pc := 63) X 1 ta_0 rfl (by omega) (by decide) dX6_drops_63 ?_
      refine v_iast (pc := 64) X 1 ta_0 rfl (by omega) (by decide) dX6_drops_64 (tb_0 _) ?_
      refine v_iinc (pc := 65) (v := (nI (k + 1))) (loc' := [(2, .int (nI (k + 1))), (0, .ref x), (1, .int (nI i))]) X dX6_drops_65 2 rfl (nI_add _ 1) (by decide) rfl ?_
      refine v_goto (pc := 68) X 33 dX6_drops_68 (by decide) ?_
      refine v_sub [1, 2, 0] rfl ?_
      exact ih33 _ _ ⟨by omega, by omega, by rw [rw2_rw2]; exact congrArg _ (drop1_s hk1)⟩ (by omega)
  · refine v_aload_n (pc := 8) X dX6_drops_8 rfl 0 rfl ?_
    refine v_iconst (pc := 9) (v := nI 1) X dX6_drops_9 rfl ?_
    refine t_callI (pc := 10) X m_fails (lw_V q2082 q2084 qs38 q109 q2085) hdX6_fails ⟨Nat.le_of_ble_eq_true rfl, Nat.le_of_ble_eq_true rfl⟩ rfl rfl (Nat.le_of_ble_eq_true rfl) dX6_drops_10 ⟨Nat.le_refl _, Nat.le_refl _⟩ (fun r10 σ10 hp10 => ?_)
    obtain ⟨rfl, rfl⟩ := hp10
    exact t_iret (pc := 13) X hr dX6_drops_13 ⟨_, rfl, Cr.fail (by unfold opDrop; rw [if_neg h5]) (by decide) (Ch.rf _ _ _) rfl rfl⟩
theorem hdX6_canBePoured : yX6_canBePoured.cls = RX6 ∧ yX6_canBePoured.cls ≠ "java/lang/invoke/MethodHandle" ∧ yX6_canBePoured.cls ≠ "java/lang/invoke/VarHandle" ∧ (parseMethodDescriptor yX6_canBePoured.desc).map (fun d => d.parameters.length) = some 1 := by decide +kernel
set_option maxHeartbeats 4000000 in
theorem m_canBePoured {l_ : Launch} {D : va_G} {dd : Nat → ClassId} {x : Nat} {ad : Nat → Nat} {σ : Tw} {n : Nat} {i l : Nat} (hn : σ 0 0 = nI n) (h9 : n ≤ 9) (hi : i < 4) (hl8 : l < 8) (hpl : σ 0 (16 + 24 * i + 1) = nI l) : TM l_ D dd x ad yX6_canBePoured cX6_canBePoured 2 (some .boolean) 1 22 [.ref x, .int (nI i)] σ (TI (fun r σ' => bI (l < n - 1) = r ∧ σ = σ')) := by
  refine MW.intro (by decide) (Nat.le_of_ble_eq_true rfl) (fun p_ e_ s_ m_ as_ bl_ me_ c_ A_ X hr hnm => ?_)
  have X : VX p_ s_ m_ as_ me_ c_ cX6_canBePoured 2 RX6 D dd A_ := X
  refine v_eq (loc' := [(0, .ref x), (1, .int (nI i))]) rfl rfl rfl ?_
  refine v_aload_n (pc := 0) X dX6_canBePoured_0 rfl 0 rfl ?_
  refine v_iload_n (pc := 1) X dX6_canBePoured_1 rfl 1 rfl ?_
  refine v_iconst (pc := 2) (v := nI 1) X dX6_canBePoured_2 rfl ?_
  refine t_callI (pc := 3) X (m_of (by omega) (by omega)) (lw_V q2243 q2245 qs62 q109 q2246) hdX6_of ⟨Nat.le_of_ble_eq_true rfl, Nat.le_of_ble_eq_true rfl⟩ rfl rfl (Nat.le_of_ble_eq_true rfl) dX6_canBePoured_3 ⟨Nat.le_refl _, Nat.le_refl _⟩ (fun r3 σ3 hp3 => ?_)
  obtain ⟨rfl, rfl⟩ := hp3
  refine v_top (y := (nI l)) hpl ?_
  refine v_aload_n (pc := 6) X dX6_canBePoured_6 rfl 0 rfl ?_
  refine t_callI (pc := 7) X (m_vats hn h9) (lw_V q2090 q2092 qs40 q109 q2093) hdX6_vats ⟨Nat.le_of_ble_eq_true rfl, Nat.le_of_ble_eq_true rfl⟩ rfl rfl (Nat.le_of_ble_eq_true rfl) dX6_canBePoured_7 ⟨Nat.le_refl _, Nat.le_refl _⟩ (fun r7 σ7 hp7 => ?_)
  obtain ⟨rfl, rfl⟩ := hp7
  refine v_ic_geN (pc := 10) X (by omega) (by omega) 17 dX6_canBePoured_10 (by decide) (fun h10 => ?_) (fun h10 => ?_)
  · refine v_iconst (pc := 17) (v := nI 0) X dX6_canBePoured_17 rfl ?_
    exact t_zret (pc := 18) X hr rfl dX6_canBePoured_18 ⟨_, rfl, bI_f (by omega), rfl⟩
  · refine v_iconst (pc := 13) (v := nI 1) X dX6_canBePoured_13 rfl ?_
    refine v_goto (pc := 14) X 18 dX6_canBePoured_14 (by decide) ?_
    exact t_zret (pc := 18) X hr rfl dX6_canBePoured_18 ⟨_, rfl, bI_t (by omega), rfl⟩
theorem hdX6_pouringCost : yX6_pouringCost.cls = RX6 ∧ yX6_pouringCost.cls ≠ "java/lang/invoke/MethodHandle" ∧ yX6_pouringCost.cls ≠ "java/lang/invoke/VarHandle" ∧ (parseMethodDescriptor yX6_pouringCost.desc).map (fun d => d.parameters.length) = some 2 := by decide +kernel
set_option maxHeartbeats 4000000 in
theorem m_pouringCost {l_ : Launch} {D : va_G} {dd : Nat → ClassId} {x : Nat} {ad : Nat → Nat} {σ : Tw} {n k : Nat} {sd : Nat → Nat} {e : Nat × Nat × Nat} (hn : σ 0 0 = nI n) (h9 : n ≤ 9) (hsd : SdOf (σ 0) sd) {i f l : Nat} {sp : Nat → Nat → Nat} (hi : i < 4) (hPl : PlanAt (σ 0) i f l sp) (hk : (pl sp f l)[k]? = some e) : TM l_ D dd x ad yX6_pouringCost cX6_pouringCost 3 (some .int) 2 45 [.ref x, .int (nI i), .int (nI k)] σ (TI (fun r σ' => pcost n sd e = r ∧ σ = σ')) := by
  have hfl := hPl.1
  have hl8 := hPl.2.1
  have hsp := hPl.2.2.1
  have hpf := hPl.2.2.2.1
  have hpl := hPl.2.2.2.2.1
  have hpe := hPl.2.2.2.2.2
  have hLn := pl_length hsp f l
  have hkl : k < (pl sp f l).length := (List.getElem?_eq_some_iff.mp hk).1
  have hee := pl_mem hsp (List.mem_of_getElem? hk)
  refine MW.intro (by decide) (Nat.le_of_ble_eq_true rfl) (fun p_ e_ s_ m_ as_ bl_ me_ c_ A_ X hr hnm => ?_)
  have X : VX p_ s_ m_ as_ me_ c_ cX6_pouringCost 3 RX6 D dd A_ := X
  refine v_eq (loc' := [(0, .ref x), (1, .int (nI i)), (2, .int (nI k))]) rfl rfl rfl ?_
  refine v_aload_n (pc := 0) X dX6_pouringCost_0 rfl 0 rfl ?_
  refine v_iload_n (pc := 1) X dX6_pouringCost_1 rfl 1 rfl ?_
  refine v_iload_n (pc := 2) X dX6_pouringCost_2 rfl 2 rfl ?_
  refine v_iconst (pc := 3) (v := nI 1) X dX6_pouringCost_3 rfl ?_
  refine t_callI (pc := 4) X (m_ofPouring (by omega) (by omega)) (lw_V q2263 q2265 qs67 q109 q2266) hdX6_ofPouring ⟨Nat.le_of_ble_eq_true rfl, Nat.le_of_ble_eq_true rfl⟩ rfl rfl (Nat.le_of_ble_eq_true rfl) dX6_pouringCost_4 ⟨Nat.le_refl _, Nat.le_refl _⟩ (fun r4 σ4 hp4 => ?_)
  obtain ⟨rfl, rfl⟩ := hp4
  refine v_top (y := (nI e.2.1)) (hpe k e hk).2.1 ?_
  refine v_aload_n (pc := 7) X dX6_pouringCost_7 rfl 0 rfl ?_
  refine t_callI (pc := 8) X (m_vats hn h9) (lw_V q2090 q2092 qs40 q109 q2093) hdX6_vats ⟨Nat.le_of_ble_eq_true rfl, Nat.le_of_ble_eq_true rfl⟩ rfl rfl (Nat.le_of_ble_eq_true rfl) dX6_pouringCost_8 ⟨Nat.le_refl _, Nat.le_refl _⟩ (fun r8 σ8 hp8 => ?_)
  obtain ⟨rfl, rfl⟩ := hp8
  refine v_ic_geN (pc := 11) X (by omega) (by omega) 42 dX6_pouringCost_11 (by decide) (fun h11 => ?_) (fun h11 => ?_)
  · refine v_iconst (pc := 42) (v := -1) X dX6_pouringCost_42 rfl ?_
    exact t_iret (pc := 43) X hr dX6_pouringCost_43 ⟨_, rfl, by unfold pcost; rw [if_neg (by omega)], rfl⟩
  · refine v_aload_n (pc := 14) X dX6_pouringCost_14 rfl 0 rfl ?_
    refine v_aload_n (pc := 15) X dX6_pouringCost_15 rfl 0 rfl ?_
    refine v_iload_n (pc := 16) X dX6_pouringCost_16 rfl 1 rfl ?_
    refine v_iload_n (pc := 17) X dX6_pouringCost_17 rfl 2 rfl ?_
    refine v_iconst (pc := 18) (v := nI 0) X dX6_pouringCost_18 rfl ?_
    refine t_callI (pc := 19) X (m_ofPouring (by omega) (by omega)) (lw_V q2263 q2265 qs67 q109 q2266) hdX6_ofPouring ⟨Nat.le_of_ble_eq_true rfl, Nat.le_of_ble_eq_true rfl⟩ rfl rfl (Nat.le_of_ble_eq_true rfl) dX6_pouringCost_19 ⟨Nat.le_refl _, Nat.le_refl _⟩ (fun r19 σ19 hp19 => ?_)
    obtain ⟨rfl, rfl⟩ := hp19
    refine v_top (y := (nI e.1)) (hpe k e hk).1 ?_
    refine v_aload_n (pc := 22) X dX6_pouringCost_22 rfl 0 rfl ?_
    refine v_iload_n (pc := 23) X dX6_pouringCost_23 rfl 1 rfl ?_
    refine v_iload_n (pc := 24) X dX6_pouringCost_24 rfl 2 rfl ?_
    refine v_iconst (pc := 25) (v := nI 2) X dX6_pouringCost_25 rfl ?_
    refine t_callI (pc := 26) X (m_ofPouring (by omega) (by omega)) (lw_V q2263 q2265 qs67 q109 q2266) hdX6_ofPouring ⟨Nat.le_of_ble_eq_true rfl, Nat.le_of_ble_eq_true rfl⟩ rfl rfl (Nat.le_of_ble_eq_true rfl) dX6_pouringCost_26 ⟨Nat.le_refl _, Nat.le_refl _⟩ (fun r26 σ26 hp26 => ?_)
    obtain ⟨rfl, rfl⟩ := hp26
    refine v_top (y := (nI e.2.2)) (hpe k e hk).2.2 ?_
    refine v_aload_n (pc := 29) X dX6_pouringCost_29 rfl 0 rfl ?_
    refine v_iload_n (pc := 30) X dX6_pouringCost_30 rfl 1 rfl ?_
    refine v_iload_n (pc := 31) X dX6_pouringCost_31 rfl 2 rfl ?_
    refine v_iconst (pc := 32) (v := nI 1) X dX6_pouringCost_32 rfl ?_
    refine t_callI (pc := 33) X (m_ofPouring (by omega) (by omega)) (lw_V q2263 q2265 qs67 q109 q2266) hdX6_ofPouring ⟨Nat.le_of_ble_eq_true rfl, Nat.le_of_ble_eq_true rfl⟩ rfl rfl (Nat.le_of_ble_eq_true rfl) dX6_pouringCost_33 ⟨Nat.le_refl _, Nat.le_refl _⟩ (fun r33 σ33 hp33 => ?_)
    obtain ⟨rfl, rfl⟩ := hp33
    refine v_top (y := (nI e.2.1)) (hpe k e hk).2.1 ?_
    refine t_callI (pc := 36) X (m_pour (by omega) (by omega) (by omega)) (lw_V q2171 q2173 qs53 q109 q2174) hdX6_pour ⟨Nat.le_of_ble_eq_true rfl, Nat.le_of_ble_eq_true rfl⟩ rfl rfl (Nat.le_of_ble_eq_true rfl) dX6_pouringCost_36 ⟨Nat.le_refl _, Nat.le_refl _⟩ (fun r36 σ36 hp36 => ?_)
    obtain ⟨rfl, rfl⟩ := hp36
    refine v_top (y := (nI (prN sd e.1 e.2.2 e.2.1))) (pour_nI hsd (by omega) (by omega) (by omega)) ?_
    refine v_goto (pc := 39) X 43 dX6_pouringCost_39 (by decide) ?_
    exact t_iret (pc := 43) X hr dX6_pouringCost_43 ⟨_, rfl, by unfold pcost; rw [if_pos h11], rfl⟩
theorem hdX6_planCost : yX6_planCost.cls = RX6 ∧ yX6_planCost.cls ≠ "java/lang/invoke/MethodHandle" ∧ yX6_planCost.cls ≠ "java/lang/invoke/VarHandle" ∧ (parseMethodDescriptor yX6_planCost.desc).map (fun d => d.parameters.length) = some 1 := by decide +kernel
set_option maxHeartbeats 4000000 in
theorem m_planCost {l_ : Launch} {D : va_G} {dd : Nat → ClassId} {x : Nat} {ad : Nat → Nat} {σ : Tw} {n : Nat} {sd : Nat → Nat} (hn : σ 0 0 = nI n) (h9 : n ≤ 9) (hsd : SdOf (σ 0) sd) (h50 : ∀ i, sd i ≤ 50) {i f l : Nat} {sp : Nat → Nat → Nat} (hi : i < 4) (hPl : PlanAt (σ 0) i f l sp) : TM l_ D dd x ad yX6_planCost cX6_planCost 4 (some .int) 3 67 [.ref x, .int (nI i)] σ (TI (fun r σ' => plCost n l sd (pl sp f l) = r ∧ σ = σ')) := by
  have hfl := hPl.1
  have hl8 := hPl.2.1
  have hsp := hPl.2.2.1
  have hpf := hPl.2.2.2.1
  have hpl := hPl.2.2.2.2.1
  have hpe := hPl.2.2.2.2.2
  have hLn := pl_length hsp f l
  refine MW.intro (by decide) (Nat.le_of_ble_eq_true rfl) (fun p_ e_ s_ m_ as_ bl_ me_ c_ A_ X hr hnm => ?_)
  have X : VX p_ s_ m_ as_ me_ c_ cX6_planCost 4 RX6 D dd A_ := X
  refine v_eq (loc' := [(0, .ref x), (1, .int (nI i))]) rfl rfl rfl ?_
  refine v_iconst (pc := 0) (v := nI 0) X dX6_planCost_0 rfl ?_
  refine v_istore_n (pc := 1) (loc' := [(2, .int (nI 0)), (0, .ref x), (1, .int (nI i))]) X dX6_planCost_1 rfl (by decide) rfl ?_
  refine v_iconst (pc := 2) (v := nI 0) X dX6_planCost_2 rfl ?_
  refine v_istore_n (pc := 3) (loc' := [(3, .int (nI 0)), (2, .int (nI 0)), (0, .ref x), (1, .int (nI i))]) X dX6_planCost_3 rfl (by decide) rfl ?_
  refine v_sub [2, 3, 1, 0] rfl ?_
  refine v_loop3 (S := Nat) (T := Int32) (Z := Tw) (fun k z τ => tw x ad dd τ) (fun k z τ => [(0, .ref x), (1, .int (nI i)), (2, .int z), (3, .int (nI k))]) (fun k z τ => k ≤ l - f ∧ (l < n - 1 → z = nI (sumL sd ((pl sp f l).take k))) ∧ (0 < k → l < n - 1) ∧ τ = σ) (fun k z τ => l - f - k) (fun k z τ hI4 ih4 => ?_) 0 _ _ ⟨by omega, fun _ => by rw [List.take_zero]; rfl, by omega, rfl⟩
  obtain ⟨hk1, hk2, hk3, rfl⟩ := hI4
  refine v_iload_n (pc := 4) X dX6_planCost_4 rfl 3 rfl ?_
  refine v_aload_n (pc := 5) X dX6_planCost_5 rfl 0 rfl ?_
  refine v_iload_n (pc := 6) X dX6_planCost_6 rfl 1 rfl ?_
  refine t_callI (pc := 7) X (m_pourings hi hpf hpl hfl) (lw_V q2247 q2249 qs63 q109 q2250) hdX6_pourings ⟨Nat.le_of_ble_eq_true rfl, Nat.le_of_ble_eq_true rfl⟩ rfl rfl (Nat.le_of_ble_eq_true rfl) dX6_planCost_7 ⟨Nat.le_refl _, Nat.le_refl _⟩ (fun r7 σ7 hp7 => ?_)
  obtain ⟨rfl, rfl⟩ := hp7
  refine v_ic_geN (pc := 10) X (by omega) (by omega) 36 dX6_planCost_10 (by decide) (fun h10 => ?_) (fun h10 => ?_)
  · refine v_aload_n (pc := 36) X dX6_planCost_36 rfl 0 rfl ?_
    refine v_iload_n (pc := 37) X dX6_planCost_37 rfl 1 rfl ?_
    refine t_callI (pc := 38) X (m_canBePoured hn h9 hi hl8 hpl) (lw_V q2255 q2257 qs65 q109 q2258) hdX6_canBePoured ⟨Nat.le_of_ble_eq_true rfl, Nat.le_of_ble_eq_true rfl⟩ rfl rfl (Nat.le_of_ble_eq_true rfl) dX6_planCost_38 ⟨Nat.le_refl _, Nat.le_refl _⟩ (fun r38 σ38 hp38 => ?_)
    obtain ⟨rfl, rfl⟩ := hp38
    refine v_if_eqB (pc := 41) X 48 dX6_planCost_41 (by decide) (fun h41 => ?_) (fun h41 => ?_)
    · refine v_iconst (pc := 48) (v := -1) X dX6_planCost_48 rfl ?_
      exact t_iret (pc := 49) X hr dX6_planCost_49 ⟨_, rfl, by unfold plCost; rw [if_neg h41], rfl⟩
    · refine v_iload_n (pc := 44) X dX6_planCost_44 rfl 2 rfl ?_
      refine v_goto (pc := 45) X 49 dX6_planCost_45 (by decide) ?_
      exact t_iret (pc := 49) X hr dX6_planCost_49 ⟨_, rfl, by unfold plCost; rw [if_pos h41, hk2 h41, show k = l - f by omega, ← hLn, List.take_length], rfl⟩
  · refine v_aload_n (pc := 13) X dX6_planCost_13 rfl 0 rfl ?_
    refine v_iload_n (pc := 14) X dX6_planCost_14 rfl 1 rfl ?_
    refine t_callI (pc := 15) X (m_canBePoured hn h9 hi hl8 hpl) (lw_V q2255 q2257 qs65 q109 q2258) hdX6_canBePoured ⟨Nat.le_of_ble_eq_true rfl, Nat.le_of_ble_eq_true rfl⟩ rfl rfl (Nat.le_of_ble_eq_true rfl) dX6_planCost_15 ⟨Nat.le_refl _, Nat.le_refl _⟩ (fun r15 σ15 hp15 => ?_)
    obtain ⟨rfl, rfl⟩ := hp15
    refine v_if_eqB (pc := 18) X 36 dX6_planCost_18 (by decide) (fun h18 => ?_) (fun h18 => ?_)
    · refine v_aload_n (pc := 36) X dX6_planCost_36 rfl 0 rfl ?_
      refine v_iload_n (pc := 37) X dX6_planCost_37 rfl 1 rfl ?_
      refine t_callI (pc := 38) X (m_canBePoured hn h9 hi hl8 hpl) (lw_V q2255 q2257 qs65 q109 q2258) hdX6_canBePoured ⟨Nat.le_of_ble_eq_true rfl, Nat.le_of_ble_eq_true rfl⟩ rfl rfl (Nat.le_of_ble_eq_true rfl) dX6_planCost_38 ⟨Nat.le_refl _, Nat.le_refl _⟩ (fun r38 σ38 hp38 => ?_)
      obtain ⟨rfl, rfl⟩ := hp38
      refine v_if_eqB (pc := 41) X 48 dX6_planCost_41 (by decide) (fun h41 => ?_) (fun h41 => ?_)
      · refine v_iconst (pc := 48) (v := -1) X dX6_planCost_48 rfl ?_
        exact t_iret (pc := 49) X hr dX6_planCost_49 ⟨_, rfl, by unfold plCost; rw [if_neg h41], rfl⟩
      · refine v_iload_n (pc := 44) X dX6_planCost_44 rfl 2 rfl ?_
        refine v_goto (pc := 45) X 49 dX6_planCost_45 (by decide) ?_
        exact t_iret (pc := 49) X hr dX6_planCost_49 ⟨_, rfl, absurd h41 h18, rfl⟩
    · obtain ⟨e, hke⟩ := get_lt (L := pl sp f l) (k := k) (by omega)
      have hee := pl_mem hsp (List.mem_of_getElem? hke)
      have hpcv : pcost n sd e = nI (prN sd e.1 e.2.2 e.2.1) := by unfold pcost; rw [if_pos (by omega)]
      refine v_iload_n (pc := 21) X dX6_planCost_21 rfl 2 rfl ?_
      refine v_aload_n (pc := 22) X dX6_planCost_22 rfl 0 rfl ?_
      refine v_iload_n (pc := 23) X dX6_planCost_23 rfl 1 rfl ?_
      refine v_iload_n (pc := 24) X dX6_planCost_24 rfl 3 rfl ?_
      refine t_callI (pc := 25) X (m_pouringCost hn h9 hsd hi hPl hke) (lw_V q2259 q2261 qs66 q109 q2262) hdX6_pouringCost ⟨Nat.le_of_ble_eq_true rfl, Nat.le_of_ble_eq_true rfl⟩ rfl rfl (Nat.le_of_ble_eq_true rfl) dX6_planCost_25 ⟨Nat.le_refl _, Nat.le_refl _⟩ (fun r25 σ25 hp25 => ?_)
      obtain ⟨rfl, rfl⟩ := hp25
      refine v_iadd (pc := 28) X dX6_planCost_28 ?_
      refine v_nm (fun z1 ez1 => ?_)
      refine v_istore_n (pc := 29) (loc' := [(2, .int z1), (0, .ref x), (1, .int (nI i)), (3, .int (nI k))]) X dX6_planCost_29 rfl (by decide) rfl ?_
      refine v_iinc (pc := 30) (v := (nI (k + 1))) (loc' := [(3, .int (nI (k + 1))), (2, .int z1), (0, .ref x), (1, .int (nI i))]) X dX6_planCost_30 3 rfl (nI_add _ 1) (by decide) rfl ?_
      refine v_goto (pc := 33) X 4 dX6_planCost_33 (by decide) ?_
      refine v_sub [2, 3, 1, 0] rfl ?_
      exact ih4 _ _ _ ⟨by omega, fun _ => by rw [ez1, hk2 h18, hpcv, nI_add, sumL_take hke], fun _ => h18, rfl⟩ (by omega)
theorem hdX6_isPouring : yX6_isPouring.cls = RX6 ∧ yX6_isPouring.cls ≠ "java/lang/invoke/MethodHandle" ∧ yX6_isPouring.cls ≠ "java/lang/invoke/VarHandle" ∧ (parseMethodDescriptor yX6_isPouring.desc).map (fun d => d.parameters.length) = some 2 := by decide +kernel
set_option maxHeartbeats 4000000 in
theorem m_isPouring {l_ : Launch} {D : va_G} {dd : Nat → ClassId} {x : Nat} {ad : Nat → Nat} {σ : Tw} {k : Int32} {i f l : Nat} {sp : Nat → Nat → Nat} (hi : i < 4) (hPl : PlanAt (σ 0) i f l sp) : TM l_ D dd x ad yX6_isPouring cX6_isPouring 3 (some .boolean) 2 43 [.ref x, .int (nI i), .int k] σ (TI (fun r σ' => bI (nI 0 ≤ k ∧ k ≤ nI (l - f) - nI 1) = r ∧ σ = σ')) := by
  have hfl := hPl.1
  have hl8 := hPl.2.1
  have hsp := hPl.2.2.1
  have hpf := hPl.2.2.2.1
  have hpl := hPl.2.2.2.2.1
  have hpe := hPl.2.2.2.2.2
  have hLn := pl_length hsp f l
  refine MW.intro (by decide) (Nat.le_of_ble_eq_true rfl) (fun p_ e_ s_ m_ as_ bl_ me_ c_ A_ X hr hnm => ?_)
  have X : VX p_ s_ m_ as_ me_ c_ cX6_isPouring 3 RX6 D dd A_ := X
  refine v_eq (loc' := [(0, .ref x), (1, .int (nI i)), (2, .int k)]) rfl rfl rfl ?_
  refine v_iload_n (pc := 0) X dX6_isPouring_0 rfl 2 rfl ?_
  refine v_iconst (pc := 1) (v := nI 0) X dX6_isPouring_1 rfl ?_
  refine v_aload_n (pc := 2) X dX6_isPouring_2 rfl 0 rfl ?_
  refine v_iload_n (pc := 3) X dX6_isPouring_3 rfl 1 rfl ?_
  refine t_callI (pc := 4) X (m_pourings hi hpf hpl hfl) (lw_V q2247 q2249 qs63 q109 q2250) hdX6_pourings ⟨Nat.le_of_ble_eq_true rfl, Nat.le_of_ble_eq_true rfl⟩ rfl rfl (Nat.le_of_ble_eq_true rfl) dX6_isPouring_4 ⟨Nat.le_refl _, Nat.le_refl _⟩ (fun r4 σ4 hp4 => ?_)
  obtain ⟨rfl, rfl⟩ := hp4
  refine v_iconst (pc := 7) (v := nI 1) X dX6_isPouring_7 rfl ?_
  refine v_isub (pc := 8) X dX6_isPouring_8 ?_
  refine t_callSI (pc := 9) X m_in (lw_S q2079 q2080 q109 q2081) hdX6_in ⟨Nat.le_of_ble_eq_true rfl, Nat.le_of_ble_eq_true rfl⟩ rfl rfl (Nat.le_of_ble_eq_true rfl) dX6_isPouring_9 ⟨Nat.le_refl _, Nat.le_refl _⟩ (fun r9 σ9 hp9 => ?_)
  obtain ⟨rfl, rfl⟩ := hp9
  exact t_zret (pc := 12) X hr (nzb _) dX6_isPouring_12 ⟨_, rfl, rfl, rfl⟩
theorem hdX6_planOf : yX6_planOf.cls = RX6 ∧ yX6_planOf.cls ≠ "java/lang/invoke/MethodHandle" ∧ yX6_planOf.cls ≠ "java/lang/invoke/VarHandle" ∧ (parseMethodDescriptor yX6_planOf.desc).map (fun d => d.parameters.length) = some 2 := by decide +kernel
set_option maxHeartbeats 4000000 in
theorem m_planOf {l_ : Launch} {D : va_G} {dd : Nat → ClassId} {x : Nat} {ad : Nat → Nat} {σ : Tw} {n : Nat} {sd : Nat → Nat} {np : Nat} {a w : Int32} (hn : σ 0 0 = nI n) (h9 : n ≤ 9) (hsd : SdOf (σ 0) sd) (h50 : ∀ i, sd i ≤ 50) (hp : σ 0 15 = nI np) (hp4 : np ≤ 4) (hPs : PlansOk (σ 0) np) : TM l_ D dd x ad yX6_planOf cX6_planOf 3 (some .int) 4 97 [.ref x, .int a, .int w] σ (TI (fun r σ' => Qy σ (qPlanOf (σ 0) n np sd a w) r σ')) := by
  refine MW.intro (by decide) (Nat.le_of_ble_eq_true rfl) (fun p_ e_ s_ m_ as_ bl_ me_ c_ A_ X hr hnm => ?_)
  have X : VX p_ s_ m_ as_ me_ c_ cX6_planOf 3 RX6 D dd A_ := X
  refine v_eq (loc' := [(0, .ref x), (1, .int a), (2, .int w)]) rfl rfl rfl ?_
  refine v_aload_n (pc := 0) X dX6_planOf_0 rfl 0 rfl ?_
  refine v_iload_n (pc := 1) X dX6_planOf_1 rfl 1 rfl ?_
  refine t_callI (pc := 2) X (m_isPlan hp) (lw_V q2235 q2237 qs61 q109 q2238) hdX6_isPlan ⟨Nat.le_of_ble_eq_true rfl, Nat.le_of_ble_eq_true rfl⟩ rfl rfl (Nat.le_of_ble_eq_true rfl) dX6_planOf_2 ⟨Nat.le_refl _, Nat.le_refl _⟩ (fun r2 σ2 hp2 => ?_)
  obtain ⟨rfl, rfl⟩ := hp2
  refine v_if_neB (pc := 5) X 14 dX6_planOf_5 (by decide) (fun h5 => ?_) (fun h5 => ?_)
  · obtain ⟨i, hii, rfl⟩ := inN_of (by omega) h5
    have hci : (nI i).toNatClampNeg = i := nI_clamp (by omega)
    have hi : i < 4 := by omega
    obtain ⟨f, l, sp, hPl⟩ := hPs i hii
    obtain ⟨hbf, hbe, hbL⟩ := hPl.eqs
    have hfl := hPl.1
    have hl8 := hPl.2.1
    have hsp := hPl.2.2.1
    have hpf := hPl.2.2.2.1
    have hpl := hPl.2.2.2.2.1
    have hpe := hPl.2.2.2.2.2
    have hLn := pl_length hsp f l
    refine v_iload_n (pc := 14) X dX6_planOf_14 rfl 2 rfl ?_
    rcases tab_of w 5 with ⟨j15, hj15, ht15⟩ | ht15
    · rcases (show j15 = 0 ∨ j15 = 1 ∨ j15 = 2 ∨ j15 = 3 ∨ j15 = 4 ∨ j15 = 5 by omega) with rfl | rfl | rfl | rfl | rfl | rfl
      · refine v_top (y := nI 0) ht15 ?_
        refine v_tabIn (pc := 15) X 52 dX6_planOf_15 (by decide) (by decide) rfl (by decide) ?_
        refine v_aload_n (pc := 52) X dX6_planOf_52 rfl 0 rfl ?_
        refine v_aload_n (pc := 53) X dX6_planOf_53 rfl 0 rfl ?_
        refine v_iload_n (pc := 54) X dX6_planOf_54 rfl 1 rfl ?_
        refine v_iconst (pc := 55) (v := nI 0) X dX6_planOf_55 rfl ?_
        refine t_callI (pc := 56) X (m_of (by omega) (by omega)) (lw_V q2243 q2245 qs62 q109 q2246) hdX6_of ⟨Nat.le_of_ble_eq_true rfl, Nat.le_of_ble_eq_true rfl⟩ rfl rfl (Nat.le_of_ble_eq_true rfl) dX6_planOf_56 ⟨Nat.le_refl _, Nat.le_refl _⟩ (fun r56 σ56 hp56 => ?_)
        obtain ⟨rfl, rfl⟩ := hp56
        refine v_top (y := (nI f)) hpf ?_
        refine t_callI (pc := 59) X m_done (lw_V q2094 q2096 qs41 q109 q2097) hdX6_done ⟨Nat.le_of_ble_eq_true rfl, Nat.le_of_ble_eq_true rfl⟩ rfl rfl (Nat.le_of_ble_eq_true rfl) dX6_planOf_59 ⟨Nat.le_refl _, Nat.le_refl _⟩ (fun r59 σ59 hp59 => ?_)
        obtain ⟨rfl, rfl⟩ := hp59
        exact t_iret (pc := 62) X hr dX6_planOf_62 ⟨_, rfl, Qy.ok (by unfold qPlanOf; rw [if_pos h5, hci, hbf, hbe, hbL]; rw [if_pos ht15]) rfl (Ch.rf _ _ _)⟩
      · refine v_top (y := nI 1) ht15 ?_
        refine v_tabIn (pc := 15) X 63 dX6_planOf_15 (by decide) (by decide) rfl (by decide) ?_
        refine v_aload_n (pc := 63) X dX6_planOf_63 rfl 0 rfl ?_
        refine v_aload_n (pc := 64) X dX6_planOf_64 rfl 0 rfl ?_
        refine v_iload_n (pc := 65) X dX6_planOf_65 rfl 1 rfl ?_
        refine v_iconst (pc := 66) (v := nI 1) X dX6_planOf_66 rfl ?_
        refine t_callI (pc := 67) X (m_of (by omega) (by omega)) (lw_V q2243 q2245 qs62 q109 q2246) hdX6_of ⟨Nat.le_of_ble_eq_true rfl, Nat.le_of_ble_eq_true rfl⟩ rfl rfl (Nat.le_of_ble_eq_true rfl) dX6_planOf_67 ⟨Nat.le_refl _, Nat.le_refl _⟩ (fun r67 σ67 hp67 => ?_)
        obtain ⟨rfl, rfl⟩ := hp67
        refine v_top (y := (nI l)) hpl ?_
        refine t_callI (pc := 70) X m_done (lw_V q2094 q2096 qs41 q109 q2097) hdX6_done ⟨Nat.le_of_ble_eq_true rfl, Nat.le_of_ble_eq_true rfl⟩ rfl rfl (Nat.le_of_ble_eq_true rfl) dX6_planOf_70 ⟨Nat.le_refl _, Nat.le_refl _⟩ (fun r70 σ70 hp70 => ?_)
        obtain ⟨rfl, rfl⟩ := hp70
        exact t_iret (pc := 73) X hr dX6_planOf_73 ⟨_, rfl, Qy.ok (by unfold qPlanOf; rw [if_pos h5, hci, hbf, hbe, hbL]; rw [if_neg (by rw [ht15]; decide), if_pos ht15]) rfl (Ch.rf _ _ _)⟩
      · refine v_top (y := nI 2) ht15 ?_
        refine v_tabIn (pc := 15) X 74 dX6_planOf_15 (by decide) (by decide) rfl (by decide) ?_
        refine v_aload_n (pc := 74) X dX6_planOf_74 rfl 0 rfl ?_
        refine v_aload_n (pc := 75) X dX6_planOf_75 rfl 0 rfl ?_
        refine v_iload_n (pc := 76) X dX6_planOf_76 rfl 1 rfl ?_
        refine t_callI (pc := 77) X (m_pourings hi hpf hpl hfl) (lw_V q2247 q2249 qs63 q109 q2250) hdX6_pourings ⟨Nat.le_of_ble_eq_true rfl, Nat.le_of_ble_eq_true rfl⟩ rfl rfl (Nat.le_of_ble_eq_true rfl) dX6_planOf_77 ⟨Nat.le_refl _, Nat.le_refl _⟩ (fun r77 σ77 hp77 => ?_)
        obtain ⟨rfl, rfl⟩ := hp77
        refine t_callI (pc := 80) X m_done (lw_V q2094 q2096 qs41 q109 q2097) hdX6_done ⟨Nat.le_of_ble_eq_true rfl, Nat.le_of_ble_eq_true rfl⟩ rfl rfl (Nat.le_of_ble_eq_true rfl) dX6_planOf_80 ⟨Nat.le_refl _, Nat.le_refl _⟩ (fun r80 σ80 hp80 => ?_)
        obtain ⟨rfl, rfl⟩ := hp80
        exact t_iret (pc := 83) X hr dX6_planOf_83 ⟨_, rfl, Qy.ok (by unfold qPlanOf; rw [if_pos h5, hci, hbf, hbe, hbL]; rw [if_neg (by rw [ht15]; decide), if_neg (by rw [ht15]; decide), if_pos ht15]) rfl (Ch.rf _ _ _)⟩
      · refine v_top (y := nI 3) ht15 ?_
        refine v_tabIn (pc := 15) X 84 dX6_planOf_15 (by decide) (by decide) rfl (by decide) ?_
        refine v_aload_n (pc := 84) X dX6_planOf_84 rfl 0 rfl ?_
        refine v_aload_n (pc := 85) X dX6_planOf_85 rfl 0 rfl ?_
        refine v_iload_n (pc := 86) X dX6_planOf_86 rfl 1 rfl ?_
        refine v_iconst (pc := 87) (v := nI 2) X dX6_planOf_87 rfl ?_
        refine t_callI (pc := 88) X (m_of (by omega) (by omega)) (lw_V q2243 q2245 qs62 q109 q2246) hdX6_of ⟨Nat.le_of_ble_eq_true rfl, Nat.le_of_ble_eq_true rfl⟩ rfl rfl (Nat.le_of_ble_eq_true rfl) dX6_planOf_88 ⟨Nat.le_refl _, Nat.le_refl _⟩ (fun r88 σ88 hp88 => ?_)
        obtain ⟨rfl, rfl⟩ := hp88
        refine v_nm (fun z3 ez3 => ?_)
        refine t_callI (pc := 91) X m_done (lw_V q2094 q2096 qs41 q109 q2097) hdX6_done ⟨Nat.le_of_ble_eq_true rfl, Nat.le_of_ble_eq_true rfl⟩ rfl rfl (Nat.le_of_ble_eq_true rfl) dX6_planOf_91 ⟨Nat.le_refl _, Nat.le_refl _⟩ (fun r91 σ91 hp91 => ?_)
        obtain ⟨rfl, rfl⟩ := hp91
        exact t_iret (pc := 94) X hr dX6_planOf_94 ⟨_, rfl, Qy.ok (by unfold qPlanOf; rw [if_pos h5, hci, hbf, hbe, hbL]; rw [if_neg (by rw [ht15]; decide), if_neg (by rw [ht15]; decide), if_neg (by rw [ht15]; decide), if_pos ht15]) ez3 (Ch.rf _ _ _)⟩
      · refine v_top (y := nI 4) ht15 ?_
        refine v_tabIn (pc := 15) X 95 dX6_planOf_15 (by decide) (by decide) rfl (by decide) ?_
        refine v_aload_n (pc := 95) X dX6_planOf_95 rfl 0 rfl ?_
        refine v_aload_n (pc := 96) X dX6_planOf_96 rfl 0 rfl ?_
        refine v_iload_n (pc := 97) X dX6_planOf_97 rfl 1 rfl ?_
        refine t_callI (pc := 98) X (m_planCost hn h9 hsd h50 hi hPl) (lw_V q2251 q2253 qs64 q109 q2254) hdX6_planCost ⟨Nat.le_of_ble_eq_true rfl, Nat.le_of_ble_eq_true rfl⟩ rfl rfl (Nat.le_of_ble_eq_true rfl) dX6_planOf_98 ⟨Nat.le_refl _, Nat.le_refl _⟩ (fun r98 σ98 hp98 => ?_)
        obtain ⟨rfl, rfl⟩ := hp98
        refine v_nm (fun z4 ez4 => ?_)
        refine t_callI (pc := 101) X m_done (lw_V q2094 q2096 qs41 q109 q2097) hdX6_done ⟨Nat.le_of_ble_eq_true rfl, Nat.le_of_ble_eq_true rfl⟩ rfl rfl (Nat.le_of_ble_eq_true rfl) dX6_planOf_101 ⟨Nat.le_refl _, Nat.le_refl _⟩ (fun r101 σ101 hp101 => ?_)
        obtain ⟨rfl, rfl⟩ := hp101
        exact t_iret (pc := 104) X hr dX6_planOf_104 ⟨_, rfl, Qy.ok (by unfold qPlanOf; rw [if_pos h5, hci, hbf, hbe, hbL]; rw [if_neg (by rw [ht15]; decide), if_neg (by rw [ht15]; decide), if_neg (by rw [ht15]; decide), if_neg (by rw [ht15]; decide), if_pos ht15]) ez4 (Ch.rf _ _ _)⟩
      · refine v_top (y := nI 5) ht15 ?_
        refine v_tabIn (pc := 15) X 105 dX6_planOf_15 (by decide) (by decide) rfl (by decide) ?_
        refine v_aload_n (pc := 105) X dX6_planOf_105 rfl 0 rfl ?_
        refine v_aload_n (pc := 106) X dX6_planOf_106 rfl 0 rfl ?_
        refine v_iload_n (pc := 107) X dX6_planOf_107 rfl 1 rfl ?_
        refine t_callI (pc := 108) X (m_canBePoured hn h9 hi hl8 hpl) (lw_V q2255 q2257 qs65 q109 q2258) hdX6_canBePoured ⟨Nat.le_of_ble_eq_true rfl, Nat.le_of_ble_eq_true rfl⟩ rfl rfl (Nat.le_of_ble_eq_true rfl) dX6_planOf_108 ⟨Nat.le_refl _, Nat.le_refl _⟩ (fun r108 σ108 hp108 => ?_)
        obtain ⟨rfl, rfl⟩ := hp108
        refine v_if_eqB (pc := 111) X 139 dX6_planOf_111 (by decide) (fun h111 => ?_) (fun h111 => ?_)
        · refine v_iconst (pc := 139) (v := -1) X dX6_planOf_139 rfl ?_
          refine t_callI (pc := 140) X m_done (lw_V q2094 q2096 qs41 q109 q2097) hdX6_done ⟨Nat.le_of_ble_eq_true rfl, Nat.le_of_ble_eq_true rfl⟩ rfl rfl (Nat.le_of_ble_eq_true rfl) dX6_planOf_140 ⟨Nat.le_refl _, Nat.le_refl _⟩ (fun r140 σ140 hp140 => ?_)
          obtain ⟨rfl, rfl⟩ := hp140
          exact t_iret (pc := 143) X hr dX6_planOf_143 ⟨_, rfl, Qy.ok (by unfold qPlanOf; rw [if_pos h5, hci, hbf, hbe, hbL]; rw [if_neg (by rw [ht15]; decide), if_neg (by rw [ht15]; decide), if_neg (by rw [ht15]; decide), if_neg (by rw [ht15]; decide), if_neg (by rw [ht15]; decide), if_pos ht15, if_neg h111]) rfl (Ch.rf _ _ _)⟩
        · refine v_aload_n (pc := 114) X dX6_planOf_114 rfl 0 rfl ?_
          refine v_iload_n (pc := 115) X dX6_planOf_115 rfl 1 rfl ?_
          refine t_callI (pc := 116) X (m_planCost hn h9 hsd h50 hi hPl) (lw_V q2251 q2253 qs64 q109 q2254) hdX6_planCost ⟨Nat.le_of_ble_eq_true rfl, Nat.le_of_ble_eq_true rfl⟩ rfl rfl (Nat.le_of_ble_eq_true rfl) dX6_planOf_116 ⟨Nat.le_refl _, Nat.le_refl _⟩ (fun r116 σ116 hp116 => ?_)
          obtain ⟨rfl, rfl⟩ := hp116
          refine v_nm (fun z5 ez5 => ?_)
          refine v_aload_n (pc := 119) X dX6_planOf_119 rfl 0 rfl ?_
          refine v_aload_n (pc := 120) X dX6_planOf_120 rfl 0 rfl ?_
          refine v_iload_n (pc := 121) X dX6_planOf_121 rfl 1 rfl ?_
          refine v_iconst (pc := 122) (v := nI 0) X dX6_planOf_122 rfl ?_
          refine t_callI (pc := 123) X (m_of (by omega) (by omega)) (lw_V q2243 q2245 qs62 q109 q2246) hdX6_of ⟨Nat.le_of_ble_eq_true rfl, Nat.le_of_ble_eq_true rfl⟩ rfl rfl (Nat.le_of_ble_eq_true rfl) dX6_planOf_123 ⟨Nat.le_refl _, Nat.le_refl _⟩ (fun r123 σ123 hp123 => ?_)
          obtain ⟨rfl, rfl⟩ := hp123
          refine v_top (y := (nI f)) hpf ?_
          refine v_aload_n (pc := 126) X dX6_planOf_126 rfl 0 rfl ?_
          refine v_iload_n (pc := 127) X dX6_planOf_127 rfl 1 rfl ?_
          refine v_iconst (pc := 128) (v := nI 1) X dX6_planOf_128 rfl ?_
          refine t_callI (pc := 129) X (m_of (by omega) (by omega)) (lw_V q2243 q2245 qs62 q109 q2246) hdX6_of ⟨Nat.le_of_ble_eq_true rfl, Nat.le_of_ble_eq_true rfl⟩ rfl rfl (Nat.le_of_ble_eq_true rfl) dX6_planOf_129 ⟨Nat.le_refl _, Nat.le_refl _⟩ (fun r129 σ129 hp129 => ?_)
          obtain ⟨rfl, rfl⟩ := hp129
          refine v_top (y := (nI l)) hpl ?_
          refine t_callI (pc := 132) X (m_leastOf hn h9 hsd h50 hfl h111) (lw_V q2159 q2161 qs50 q109 q2162) hdX6_leastOf ⟨Nat.le_of_ble_eq_true rfl, Nat.le_of_ble_eq_true rfl⟩ rfl rfl (Nat.le_of_ble_eq_true rfl) dX6_planOf_132 ⟨Nat.le_refl _, Nat.le_refl _⟩ (fun r132 σ132 hp132 => ?_)
          obtain ⟨hr132, hp132⟩ := hp132
          refine v_isub (pc := 135) X dX6_planOf_135 ?_
          refine v_goto (pc := 136) X 140 dX6_planOf_136 (by decide) ?_
          refine t_callI (pc := 140) X m_done (lw_V q2094 q2096 qs41 q109 q2097) hdX6_done ⟨Nat.le_of_ble_eq_true rfl, Nat.le_of_ble_eq_true rfl⟩ rfl rfl (Nat.le_of_ble_eq_true rfl) dX6_planOf_140 ⟨Nat.le_refl _, Nat.le_refl _⟩ (fun r140 σ140 hp140 => ?_)
          obtain ⟨rfl, rfl⟩ := hp140
          exact t_iret (pc := 143) X hr dX6_planOf_143 ⟨_, rfl, Qy.ok (by unfold qPlanOf; rw [if_pos h5, hci, hbf, hbe, hbL]; rw [if_neg (by rw [ht15]; decide), if_neg (by rw [ht15]; decide), if_neg (by rw [ht15]; decide), if_neg (by rw [ht15]; decide), if_neg (by rw [ht15]; decide), if_pos ht15, if_pos h111]) (by rw [hr132, ez5]; unfold plCost; rw [if_pos h111]) (sc5Q hp132.1)⟩
    · refine v_tabOut (pc := 15) X 144 dX6_planOf_15 ht15 (by decide) ?_
      refine v_aload_n (pc := 144) X dX6_planOf_144 rfl 0 rfl ?_
      refine v_iconst (pc := 145) (v := nI 2) X dX6_planOf_145 rfl ?_
      refine t_callI (pc := 146) X m_fails (lw_V q2082 q2084 qs38 q109 q2085) hdX6_fails ⟨Nat.le_of_ble_eq_true rfl, Nat.le_of_ble_eq_true rfl⟩ rfl rfl (Nat.le_of_ble_eq_true rfl) dX6_planOf_146 ⟨Nat.le_refl _, Nat.le_refl _⟩ (fun r146 σ146 hp146 => ?_)
      obtain ⟨rfl, rfl⟩ := hp146
      exact t_iret (pc := 149) X hr dX6_planOf_149 ⟨_, rfl, Qy.fail (by unfold qPlanOf; rw [if_pos h5, hci, hbf, hbe, hbL]; rw [if_neg (out_ne ht15 (by decide) (by decide)), if_neg (out_ne ht15 (by decide) (by decide)), if_neg (out_ne ht15 (by decide) (by decide)), if_neg (out_ne ht15 (by decide) (by decide)), if_neg (out_ne ht15 (by decide) (by decide)), if_neg (out_ne ht15 (by decide) (by decide))]) (by decide) (Ch.rf _ _ _)⟩
  · refine v_aload_n (pc := 8) X dX6_planOf_8 rfl 0 rfl ?_
    refine v_iconst (pc := 9) (v := nI 1) X dX6_planOf_9 rfl ?_
    refine t_callI (pc := 10) X m_fails (lw_V q2082 q2084 qs38 q109 q2085) hdX6_fails ⟨Nat.le_of_ble_eq_true rfl, Nat.le_of_ble_eq_true rfl⟩ rfl rfl (Nat.le_of_ble_eq_true rfl) dX6_planOf_10 ⟨Nat.le_refl _, Nat.le_refl _⟩ (fun r10 σ10 hp10 => ?_)
    obtain ⟨rfl, rfl⟩ := hp10
    exact t_iret (pc := 13) X hr dX6_planOf_13 ⟨_, rfl, Qy.fail (by unfold qPlanOf; rw [if_neg h5]) (by decide) (Ch.rf _ _ _)⟩
theorem hdX6_pouring : yX6_pouring.cls = RX6 ∧ yX6_pouring.cls ≠ "java/lang/invoke/MethodHandle" ∧ yX6_pouring.cls ≠ "java/lang/invoke/VarHandle" ∧ (parseMethodDescriptor yX6_pouring.desc).map (fun d => d.parameters.length) = some 3 := by decide +kernel
set_option maxHeartbeats 4000000 in
theorem m_pouring {l_ : Launch} {D : va_G} {dd : Nat → ClassId} {x : Nat} {ad : Nat → Nat} {σ : Tw} {n : Nat} {sd : Nat → Nat} {np : Nat} {a k w : Int32} (hn : σ 0 0 = nI n) (h9 : n ≤ 9) (hsd : SdOf (σ 0) sd) (hp : σ 0 15 = nI np) (hp4 : np ≤ 4) (hPs : PlansOk (σ 0) np) : TM l_ D dd x ad yX6_pouring cX6_pouring 4 (some .int) 3 67 [.ref x, .int a, .int k, .int w] σ (TI (fun r σ' => Qy σ (qPouring (σ 0) n np sd a k w) r σ')) := by
  refine MW.intro (by decide) (Nat.le_of_ble_eq_true rfl) (fun p_ e_ s_ m_ as_ bl_ me_ c_ A_ X hr hnm => ?_)
  have X : VX p_ s_ m_ as_ me_ c_ cX6_pouring 4 RX6 D dd A_ := X
  refine v_eq (loc' := [(0, .ref x), (1, .int a), (2, .int k), (3, .int w)]) rfl rfl rfl ?_
  refine v_aload_n (pc := 0) X dX6_pouring_0 rfl 0 rfl ?_
  refine v_iload_n (pc := 1) X dX6_pouring_1 rfl 1 rfl ?_
  refine t_callI (pc := 2) X (m_isPlan hp) (lw_V q2235 q2237 qs61 q109 q2238) hdX6_isPlan ⟨Nat.le_of_ble_eq_true rfl, Nat.le_of_ble_eq_true rfl⟩ rfl rfl (Nat.le_of_ble_eq_true rfl) dX6_pouring_2 ⟨Nat.le_refl _, Nat.le_refl _⟩ (fun r2 σ2 hp2 => ?_)
  obtain ⟨rfl, rfl⟩ := hp2
  refine v_if_neB (pc := 5) X 14 dX6_pouring_5 (by decide) (fun h5 => ?_) (fun h5 => ?_)
  · obtain ⟨i, hii, rfl⟩ := inN_of (by omega) h5
    have hci : (nI i).toNatClampNeg = i := nI_clamp (by omega)
    have hi : i < 4 := by omega
    obtain ⟨f, l, sp, hPl⟩ := hPs i hii
    obtain ⟨hbf, hbe, hbL⟩ := hPl.eqs
    have hfl := hPl.1
    have hl8 := hPl.2.1
    have hsp := hPl.2.2.1
    have hpf := hPl.2.2.2.1
    have hpl := hPl.2.2.2.2.1
    have hpe := hPl.2.2.2.2.2
    have hLn := pl_length hsp f l
    refine v_aload_n (pc := 14) X dX6_pouring_14 rfl 0 rfl ?_
    refine v_iload_n (pc := 15) X dX6_pouring_15 rfl 1 rfl ?_
    refine v_iload_n (pc := 16) X dX6_pouring_16 rfl 2 rfl ?_
    refine t_callI (pc := 17) X (m_isPouring hi hPl) (lw_V q2271 q2273 qs68 q109 q2274) hdX6_isPouring ⟨Nat.le_of_ble_eq_true rfl, Nat.le_of_ble_eq_true rfl⟩ rfl rfl (Nat.le_of_ble_eq_true rfl) dX6_pouring_17 ⟨Nat.le_refl _, Nat.le_refl _⟩ (fun r17 σ17 hp17 => ?_)
    obtain ⟨rfl, rfl⟩ := hp17
    refine v_if_neB (pc := 20) X 29 dX6_pouring_20 (by decide) (fun h20 => ?_) (fun h20 => ?_)
    · obtain ⟨j, hj, rfl⟩ := inN_of (by omega) h20
      have hcj : (nI j).toNatClampNeg = j := nI_clamp (by omega)
      obtain ⟨e, hke⟩ := get_lt (L := pl sp f l) (k := j) (by omega)
      refine v_iload_n (pc := 29) X dX6_pouring_29 rfl 3 rfl ?_
      refine v_iconst (pc := 30) (v := nI 0) X dX6_pouring_30 rfl ?_
      refine v_iconst (pc := 31) (v := nI 3) X dX6_pouring_31 rfl ?_
      refine t_callSI (pc := 32) X m_in (lw_S q2079 q2080 q109 q2081) hdX6_in ⟨Nat.le_of_ble_eq_true rfl, Nat.le_of_ble_eq_true rfl⟩ rfl rfl (Nat.le_of_ble_eq_true rfl) dX6_pouring_32 ⟨Nat.le_refl _, Nat.le_refl _⟩ (fun r32 σ32 hp32 => ?_)
      obtain ⟨rfl, rfl⟩ := hp32
      refine v_if_neB (pc := 35) X 44 dX6_pouring_35 (by decide) (fun h35 => ?_) (fun h35 => ?_)
      · obtain ⟨v, hv0, hv3, rfl⟩ := rng_of (by omega) (by omega) h35
        have hcv : (nI v).toNatClampNeg = v := nI_clamp (by omega)
        refine v_aload_n (pc := 44) X dX6_pouring_44 rfl 0 rfl ?_
        refine v_iload_n (pc := 45) X dX6_pouring_45 rfl 3 rfl ?_
        refine v_iconst (pc := 46) (v := nI 3) X dX6_pouring_46 rfl ?_
        refine v_ic_neN (pc := 47) X (by omega) (by omega) 59 dX6_pouring_47 (by decide) (fun h47 => ?_) (fun h47 => ?_)
        · refine v_aload_n (pc := 59) X dX6_pouring_59 rfl 0 rfl ?_
          refine v_iload_n (pc := 60) X dX6_pouring_60 rfl 1 rfl ?_
          refine v_iload_n (pc := 61) X dX6_pouring_61 rfl 2 rfl ?_
          refine v_iload_n (pc := 62) X dX6_pouring_62 rfl 3 rfl ?_
          refine t_callI (pc := 63) X (m_ofPouring (by omega) (by omega)) (lw_V q2263 q2265 qs67 q109 q2266) hdX6_ofPouring ⟨Nat.le_of_ble_eq_true rfl, Nat.le_of_ble_eq_true rfl⟩ rfl rfl (Nat.le_of_ble_eq_true rfl) dX6_pouring_63 ⟨Nat.le_refl _, Nat.le_refl _⟩ (fun r63 σ63 hp63 => ?_)
          obtain ⟨rfl, rfl⟩ := hp63
          refine v_nm (fun z ez => ?_)
          refine t_callI (pc := 66) X m_done (lw_V q2094 q2096 qs41 q109 q2097) hdX6_done ⟨Nat.le_of_ble_eq_true rfl, Nat.le_of_ble_eq_true rfl⟩ rfl rfl (Nat.le_of_ble_eq_true rfl) dX6_pouring_66 ⟨Nat.le_refl _, Nat.le_refl _⟩ (fun r66 σ66 hp66 => ?_)
          obtain ⟨rfl, rfl⟩ := hp66
          exact t_iret (pc := 69) X hr dX6_pouring_69 ⟨_, rfl, Qy.ok (by unfold qPouring; rw [if_pos h5, hci, hbf, hbe, if_pos h20, if_pos h35, if_neg (nI_dne (by omega) (by omega) h47), hcj, hcv]) ez (Ch.rf _ _ _)⟩
        · subst h47
          refine v_aload_n (pc := 50) X dX6_pouring_50 rfl 0 rfl ?_
          refine v_iload_n (pc := 51) X dX6_pouring_51 rfl 1 rfl ?_
          refine v_iload_n (pc := 52) X dX6_pouring_52 rfl 2 rfl ?_
          refine t_callI (pc := 53) X (m_pouringCost hn h9 hsd hi hPl hke) (lw_V q2259 q2261 qs66 q109 q2262) hdX6_pouringCost ⟨Nat.le_of_ble_eq_true rfl, Nat.le_of_ble_eq_true rfl⟩ rfl rfl (Nat.le_of_ble_eq_true rfl) dX6_pouring_53 ⟨Nat.le_refl _, Nat.le_refl _⟩ (fun r53 σ53 hp53 => ?_)
          obtain ⟨rfl, rfl⟩ := hp53
          refine v_nm (fun z1 ez1 => ?_)
          refine v_goto (pc := 56) X 66 dX6_pouring_56 (by decide) ?_
          refine v_nm (fun z ez => ?_)
          refine t_callI (pc := 66) X m_done (lw_V q2094 q2096 qs41 q109 q2097) hdX6_done ⟨Nat.le_of_ble_eq_true rfl, Nat.le_of_ble_eq_true rfl⟩ rfl rfl (Nat.le_of_ble_eq_true rfl) dX6_pouring_66 ⟨Nat.le_refl _, Nat.le_refl _⟩ (fun r66 σ66 hp66 => ?_)
          obtain ⟨rfl, rfl⟩ := hp66
          exact t_iret (pc := 69) X hr dX6_pouring_69 ⟨_, rfl, Qy.ok (by unfold qPouring; rw [if_pos h5, hci, hbf, hbe, if_pos h20, if_pos h35, if_pos rfl, hbL, hcj, List.getD_eq_getElem?_getD, hke]; rfl) (ez.trans ez1) (Ch.rf _ _ _)⟩
      · refine v_aload_n (pc := 38) X dX6_pouring_38 rfl 0 rfl ?_
        refine v_iconst (pc := 39) (v := nI 3) X dX6_pouring_39 rfl ?_
        refine t_callI (pc := 40) X m_fails (lw_V q2082 q2084 qs38 q109 q2085) hdX6_fails ⟨Nat.le_of_ble_eq_true rfl, Nat.le_of_ble_eq_true rfl⟩ rfl rfl (Nat.le_of_ble_eq_true rfl) dX6_pouring_40 ⟨Nat.le_refl _, Nat.le_refl _⟩ (fun r40 σ40 hp40 => ?_)
        obtain ⟨rfl, rfl⟩ := hp40
        exact t_iret (pc := 43) X hr dX6_pouring_43 ⟨_, rfl, Qy.fail (by unfold qPouring; rw [if_pos h5, hci, hbf, hbe, if_pos h20, if_neg h35]) (by decide) (Ch.rf _ _ _)⟩
    · refine v_aload_n (pc := 23) X dX6_pouring_23 rfl 0 rfl ?_
      refine v_iconst (pc := 24) (v := nI 2) X dX6_pouring_24 rfl ?_
      refine t_callI (pc := 25) X m_fails (lw_V q2082 q2084 qs38 q109 q2085) hdX6_fails ⟨Nat.le_of_ble_eq_true rfl, Nat.le_of_ble_eq_true rfl⟩ rfl rfl (Nat.le_of_ble_eq_true rfl) dX6_pouring_25 ⟨Nat.le_refl _, Nat.le_refl _⟩ (fun r25 σ25 hp25 => ?_)
      obtain ⟨rfl, rfl⟩ := hp25
      exact t_iret (pc := 28) X hr dX6_pouring_28 ⟨_, rfl, Qy.fail (by unfold qPouring; rw [if_pos h5, hci, hbf, hbe, if_neg h20]) (by decide) (Ch.rf _ _ _)⟩
  · refine v_aload_n (pc := 8) X dX6_pouring_8 rfl 0 rfl ?_
    refine v_iconst (pc := 9) (v := nI 1) X dX6_pouring_9 rfl ?_
    refine t_callI (pc := 10) X m_fails (lw_V q2082 q2084 qs38 q109 q2085) hdX6_fails ⟨Nat.le_of_ble_eq_true rfl, Nat.le_of_ble_eq_true rfl⟩ rfl rfl (Nat.le_of_ble_eq_true rfl) dX6_pouring_10 ⟨Nat.le_refl _, Nat.le_refl _⟩ (fun r10 σ10 hp10 => ?_)
    obtain ⟨rfl, rfl⟩ := hp10
    exact t_iret (pc := 13) X hr dX6_pouring_13 ⟨_, rfl, Qy.fail (by unfold qPouring; rw [if_neg h5]) (by decide) (Ch.rf _ _ _)⟩

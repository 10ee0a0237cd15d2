theorem hdX6_isPlan : yX6_isPlan.cls = RX6 ∧ yX6_isPlan.cls ≠ "java/lang/invoke/MethodHandle" ∧ yX6_isPlan.cls ≠ "java/lang/invoke/VarHandle" ∧ (parseMethodDescriptor yX6_isPlan.desc).map (fun d => d.parameters.length) = some 1 := by decide +kernel
set_option maxHeartbeats 4000000 in
theorem m_isPlan {l_ : Launch} {D : va_G} {dd : Nat → ClassId} {x : Nat} {ad : Nat → Nat} {σ : Tw} {n : Nat} {a : Int32} (hp : σ 0 15 = nI n) : TM l_ D dd x ad yX6_isPlan cX6_isPlan 2 (some .boolean) 1 22 [.ref x, .int a] σ (TI (fun r σ' => bI (nI 0 ≤ a ∧ a ≤ nI n - nI 1) = r ∧ σ = σ')) := by
  refine MW.intro (by decide) (Nat.le_of_ble_eq_true rfl) (fun p_ e_ s_ m_ as_ bl_ me_ c_ A_ X hr hnm => ?_)
  have X : VX p_ s_ m_ as_ me_ c_ cX6_isPlan 2 RX6 D dd A_ := X
  refine v_eq (loc' := [(0, .ref x), (1, .int a)]) rfl rfl rfl ?_
  refine v_iload_n (pc := 0) X dX6_isPlan_0 rfl 1 rfl ?_
  refine v_iconst (pc := 1) (v := nI 0) X dX6_isPlan_1 rfl ?_
  refine v_aload_n (pc := 2) X dX6_isPlan_2 rfl 0 rfl ?_
  refine t_get (pc := 3) X 0 (by decide) q1956 rfl rfl dX6_isPlan_3 ?_
  refine v_bipush (pc := 6) (v := nI 15) X dX6_isPlan_6 rfl ?_
  refine v_iald (pc := 8) X 1 ta_0 rfl (by omega) (by decide) dX6_isPlan_8 ?_
  refine v_top (y := (nI n)) hp ?_
  refine v_iconst (pc := 9) (v := nI 1) X dX6_isPlan_9 rfl ?_
  refine v_isub (pc := 10) X dX6_isPlan_10 ?_
  refine t_callSI (pc := 11) X m_in (lw_S q2079 q2080 q109 q2081) hdX6_in ⟨Nat.le_of_ble_eq_true rfl, Nat.le_of_ble_eq_true rfl⟩ rfl rfl (Nat.le_of_ble_eq_true rfl) dX6_isPlan_11 ⟨Nat.le_refl _, Nat.le_refl _⟩ (fun r11 σ11 hp11 => ?_)
  obtain ⟨rfl, rfl⟩ := hp11
  exact t_zret (pc := 14) X hr (nzb _) dX6_isPlan_14 ⟨_, rfl, rfl, rfl⟩
theorem hdX6_of : yX6_of.cls = RX6 ∧ yX6_of.cls ≠ "java/lang/invoke/MethodHandle" ∧ yX6_of.cls ≠ "java/lang/invoke/VarHandle" ∧ (parseMethodDescriptor yX6_of.desc).map (fun d => d.parameters.length) = some 2 := by decide +kernel
set_option maxHeartbeats 4000000 in
theorem m_of {l_ : Launch} {D : va_G} {dd : Nat → ClassId} {x : Nat} {ad : Nat → Nat} {σ : Tw} {i j : Nat} (hi : i < 4) (hj : j < 24) : TM l_ D dd x ad yX6_of cX6_of 3 (some .int) 0 0 [.ref x, .int (nI i), .int (nI j)] σ (TI (fun r σ' => σ 0 (16 + 24 * i + j) = r ∧ σ = σ')) := by
  refine MW.intro (by decide) (Nat.le_of_ble_eq_true rfl) (fun p_ e_ s_ m_ as_ bl_ me_ c_ A_ X hr hnm => ?_)
  have X : VX p_ s_ m_ as_ me_ c_ cX6_of 3 RX6 D dd A_ := X
  refine v_eq (loc' := [(0, .ref x), (1, .int (nI i)), (2, .int (nI j))]) rfl rfl rfl ?_
  refine v_aload_n (pc := 0) X dX6_of_0 rfl 0 rfl ?_
  refine t_get (pc := 1) X 0 (by decide) q1956 rfl rfl dX6_of_1 ?_
  refine v_bipush (pc := 4) (v := nI 16) X dX6_of_4 rfl ?_
  refine v_bipush (pc := 6) (v := nI 24) X dX6_of_6 rfl ?_
  refine v_iload_n (pc := 8) X dX6_of_8 rfl 1 rfl ?_
  refine v_imulN (pc := 9) X dX6_of_9 ?_
  refine v_iaddN (pc := 10) X dX6_of_10 ?_
  refine v_iload_n (pc := 11) X dX6_of_11 rfl 2 rfl ?_
  refine v_iaddN (pc := 12) X dX6_of_12 ?_
  refine v_iald (pc := 13) X 1 ta_0 rfl (by omega) (by decide) dX6_of_13 ?_
  exact t_iret (pc := 14) X hr dX6_of_14 ⟨_, rfl, rfl, rfl⟩
theorem hdX6_pourings : yX6_pourings.cls = RX6 ∧ yX6_pourings.cls ≠ "java/lang/invoke/MethodHandle" ∧ yX6_pourings.cls ≠ "java/lang/invoke/VarHandle" ∧ (parseMethodDescriptor yX6_pourings.desc).map (fun d => d.parameters.length) = some 1 := by decide +kernel
set_option maxHeartbeats 4000000 in
theorem m_pourings {l_ : Launch} {D : va_G} {dd : Nat → ClassId} {x : Nat} {ad : Nat → Nat} {σ : Tw} {i f l : Nat} (hi : i < 4) (hf : σ 0 (16 + 24 * i + 0) = nI f) (hl : σ 0 (16 + 24 * i + 1) = nI l) (hfl : f ≤ l) : TM l_ D dd x ad yX6_pourings cX6_pourings 2 (some .int) 1 22 [.ref x, .int (nI i)] σ (TI (fun r σ' => nI (l - f) = r ∧ σ = σ')) := by
  refine MW.intro (by decide) (Nat.le_of_ble_eq_true rfl) (fun p_ e_ s_ m_ as_ bl_ me_ c_ A_ X hr hnm => ?_)
  have X : VX p_ s_ m_ as_ me_ c_ cX6_pourings 2 RX6 D dd A_ := X
  refine v_eq (loc' := [(0, .ref x), (1, .int (nI i))]) rfl rfl rfl ?_
  refine v_aload_n (pc := 0) X dX6_pourings_0 rfl 0 rfl ?_
  refine v_iload_n (pc := 1) X dX6_pourings_1 rfl 1 rfl ?_
  refine v_iconst (pc := 2) (v := nI 1) X dX6_pourings_2 rfl ?_
  refine t_callI (pc := 3) X (m_of (by omega) (by omega)) (lw_V q2243 q2245 qs62 q109 q2246) hdX6_of ⟨Nat.le_of_ble_eq_true rfl, Nat.le_of_ble_eq_true rfl⟩ rfl rfl (Nat.le_of_ble_eq_true rfl) dX6_pourings_3 ⟨Nat.le_refl _, Nat.le_refl _⟩ (fun r3 σ3 hp3 => ?_)
  obtain ⟨rfl, rfl⟩ := hp3
  refine v_top (y := (nI l)) hl ?_
  refine v_aload_n (pc := 6) X dX6_pourings_6 rfl 0 rfl ?_
  refine v_iload_n (pc := 7) X dX6_pourings_7 rfl 1 rfl ?_
  refine v_iconst (pc := 8) (v := nI 0) X dX6_pourings_8 rfl ?_
  refine t_callI (pc := 9) X (m_of (by omega) (by omega)) (lw_V q2243 q2245 qs62 q109 q2246) hdX6_of ⟨Nat.le_of_ble_eq_true rfl, Nat.le_of_ble_eq_true rfl⟩ rfl rfl (Nat.le_of_ble_eq_true rfl) dX6_pourings_9 ⟨Nat.le_refl _, Nat.le_refl _⟩ (fun r9 σ9 hp9 => ?_)
  obtain ⟨rfl, rfl⟩ := hp9
  refine v_top (y := (nI f)) hf ?_
  refine v_isubN (pc := 12) X (by omega) dX6_pourings_12 ?_
  exact t_iret (pc := 13) X hr dX6_pourings_13 ⟨_, rfl, rfl, rfl⟩
theorem hdX6_ofPouring : yX6_ofPouring.cls = RX6 ∧ yX6_ofPouring.cls ≠ "java/lang/invoke/MethodHandle" ∧ yX6_ofPouring.cls ≠ "java/lang/invoke/VarHandle" ∧ (parseMethodDescriptor yX6_ofPouring.desc).map (fun d => d.parameters.length) = some 3 := by decide +kernel
set_option maxHeartbeats 4000000 in
theorem m_ofPouring {l_ : Launch} {D : va_G} {dd : Nat → ClassId} {x : Nat} {ad : Nat → Nat} {σ : Tw} {i k j : Nat} (hi : i < 4) (hk : 3 * k + j < 21) : TM l_ D dd x ad yX6_ofPouring cX6_ofPouring 4 (some .int) 1 22 [.ref x, .int (nI i), .int (nI k), .int (nI j)] σ (TI (fun r σ' => σ 0 (16 + 24 * i + (3 + 3 * k + j)) = r ∧ σ = σ')) := by
  refine MW.intro (by decide) (Nat.le_of_ble_eq_true rfl) (fun p_ e_ s_ m_ as_ bl_ me_ c_ A_ X hr hnm => ?_)
  have X : VX p_ s_ m_ as_ me_ c_ cX6_ofPouring 4 RX6 D dd A_ := X
  refine v_eq (loc' := [(0, .ref x), (1, .int (nI i)), (2, .int (nI k)), (3, .int (nI j))]) rfl rfl rfl ?_
  refine v_aload_n (pc := 0) X dX6_ofPouring_0 rfl 0 rfl ?_
  refine v_iload_n (pc := 1) X dX6_ofPouring_1 rfl 1 rfl ?_
  refine v_iconst (pc := 2) (v := nI 3) X dX6_ofPouring_2 rfl ?_
  refine v_iconst (pc := 3) (v := nI 3) X dX6_ofPouring_3 rfl ?_
  refine v_iload_n (pc := 4) X dX6_ofPouring_4 rfl 2 rfl ?_
  refine v_imulN (pc := 5) X dX6_ofPouring_5 ?_
  refine v_iaddN (pc := 6) X dX6_ofPouring_6 ?_
  refine v_iload_n (pc := 7) X dX6_ofPouring_7 rfl 3 rfl ?_
  refine v_iaddN (pc := 8) X dX6_ofPouring_8 ?_
  refine t_callI (pc := 9) X (m_of (by omega) (by omega)) (lw_V q2243 q2245 qs62 q109 q2246) hdX6_of ⟨Nat.le_of_ble_eq_true rfl, Nat.le_of_ble_eq_true rfl⟩ rfl rfl (Nat.le_of_ble_eq_true rfl) dX6_ofPouring_9 ⟨Nat.le_refl _, Nat.le_refl _⟩ (fun r9 σ9 hp9 => ?_)
  obtain ⟨rfl, rfl⟩ := hp9
  exact t_iret (pc := 12) X hr dX6_ofPouring_12 ⟨_, rfl, rfl, rfl⟩
theorem hdX6_pushes : yX6_pushes.cls = RX6 ∧ yX6_pushes.cls ≠ "java/lang/invoke/MethodHandle" ∧ yX6_pushes.cls ≠ "java/lang/invoke/VarHandle" ∧ (parseMethodDescriptor yX6_pushes.desc).map (fun d => d.parameters.length) = some 2 := by decide +kernel
set_option maxHeartbeats 4000000 in
theorem m_pushes {l_ : Launch} {D : va_G} {dd : Nat → ClassId} {x : Nat} {ad : Nat → Nat} {σ : Tw} {t a c : Nat} (ht : σ 99 21 = nI t) (ht9 : t < 100) : TM l_ D dd x ad yX6_pushes cX6_pushes 3 none 0 0 [.ref x, .int (nI a), .int (nI c)] σ (TV (fun σ' => ws1 (wa1 σ 20 t (nI (8 * a + c))) 21 (nI (t + 1)) = σ')) := by
  refine MW.intro (by decide) (Nat.le_of_ble_eq_true rfl) (fun p_ e_ s_ m_ as_ bl_ me_ c_ A_ X hr hnm => ?_)
  have X : VX p_ s_ m_ as_ me_ c_ cX6_pushes 3 RX6 D dd A_ := X
  refine v_eq (loc' := [(0, .ref x), (1, .int (nI a)), (2, .int (nI c))]) rfl rfl rfl ?_
  refine v_aload_n (pc := 0) X dX6_pushes_0 rfl 0 rfl ?_
  refine t_get (pc := 1) X 20 (by decide) q1976 rfl rfl dX6_pushes_1 ?_
  refine v_aload_n (pc := 4) X dX6_pushes_4 rfl 0 rfl ?_
  refine t_get (pc := 5) X 21 (by decide) q1977 rfl rfl dX6_pushes_5 ?_
  refine v_top (y := (nI t)) ht ?_
  refine v_bipush (pc := 8) (v := nI 8) X dX6_pushes_8 rfl ?_
  refine v_iload_n (pc := 10) X dX6_pushes_10 rfl 1 rfl ?_
  refine v_imulN (pc := 11) X dX6_pushes_11 ?_
  refine v_iload_n (pc := 12) X dX6_pushes_12 rfl 2 rfl ?_
  refine v_iaddN (pc := 13) X dX6_pushes_13 ?_
  refine v_iast (pc := 14) X 12 ta_20 rfl (by omega) (by decide) dX6_pushes_14 (tb_20 _) ?_
  refine v_aload_n (pc := 15) X dX6_pushes_15 rfl 0 rfl ?_
  refine v_dup (pc := 16) X dX6_pushes_16 rfl ?_
  refine t_get (pc := 17) X 21 (by decide) q1977 rfl rfl dX6_pushes_17 ?_
  refine v_top (y := (nI t)) ht ?_
  refine v_iconst (pc := 20) (v := nI 1) X dX6_pushes_20 rfl ?_
  refine v_iaddN (pc := 21) X dX6_pushes_21 ?_
  refine t_put (pc := 22) X 21 (by decide) q1977 rfl rfl rfl rfl dX6_pushes_22 (tf_21 _) ?_
  exact t_vret (pc := 25) X hr dX6_pushes_25 ⟨rfl, rfl⟩
theorem hdX6_planComes : yX6_planComes.cls = RX6 ∧ yX6_planComes.cls ≠ "java/lang/invoke/MethodHandle" ∧ yX6_planComes.cls ≠ "java/lang/invoke/VarHandle" ∧ (parseMethodDescriptor yX6_planComes.desc).map (fun d => d.parameters.length) = some 2 := by decide +kernel
set_option maxHeartbeats 4000000 in
theorem m_planComes {l_ : Launch} {D : va_G} {dd : Nat → ClassId} {x : Nat} {ad : Nat → Nat} {σ : Tw} {n np : Nat} {sd : Nat → Nat} {a b : Int32} (hn : σ 0 0 = nI n) (h9 : n ≤ 9) (hsd : SdOf (σ 0) sd) (h50 : ∀ i, sd i ≤ 50) (hp : σ 0 15 = nI np) (hp4 : np ≤ 4) : TM l_ D dd x ad yX6_planComes cX6_planComes 9 (some .int) 3 75 [.ref x, .int a, .int b] σ (TI (fun r σ' => Cr σ (opPlan (σ 0) n np sd a b) r σ')) := by
  refine MW.intro (by decide) (Nat.le_of_ble_eq_true rfl) (fun p_ e_ s_ m_ as_ bl_ me_ c_ A_ X hr hnm => ?_)
  have X : VX p_ s_ m_ as_ me_ c_ cX6_planComes 9 RX6 D dd A_ := X
  refine v_eq (loc' := [(0, .ref x), (1, .int a), (2, .int b)]) rfl rfl rfl ?_
  refine v_aload_n (pc := 0) X dX6_planComes_0 rfl 0 rfl ?_
  refine v_iload_n (pc := 1) X dX6_planComes_1 rfl 1 rfl ?_
  refine v_iload_n (pc := 2) X dX6_planComes_2 rfl 2 rfl ?_
  refine t_callI (pc := 3) X (m_isRun hn h9) (lw_V q2155 q2157 qs49 q109 q2158) hdX6_isRun ⟨Nat.le_of_ble_eq_true rfl, Nat.le_of_ble_eq_true rfl⟩ rfl rfl (Nat.le_of_ble_eq_true rfl) dX6_planComes_3 ⟨Nat.le_refl _, Nat.le_refl _⟩ (fun r3 σ3 hp3 => ?_)
  obtain ⟨rfl, rfl⟩ := hp3
  refine v_if_neB (pc := 6) X 15 dX6_planComes_6 (by decide) (fun h6 => ?_) (fun h6 => ?_)
  · refine v_aload_n (pc := 15) X dX6_planComes_15 rfl 0 rfl ?_
    refine t_get (pc := 16) X 0 (by decide) q1956 rfl rfl dX6_planComes_16 ?_
    refine v_bipush (pc := 19) (v := nI 15) X dX6_planComes_19 rfl ?_
    refine v_iald (pc := 21) X 1 ta_0 rfl (by omega) (by decide) dX6_planComes_21 ?_
    refine v_top (y := (nI np)) hp ?_
    refine v_istore_n (pc := 22) (loc' := [(3, .int (nI np)), (0, .ref x), (1, .int a), (2, .int b)]) X dX6_planComes_22 rfl (by decide) rfl ?_
    refine v_iload_n (pc := 23) X dX6_planComes_23 rfl 0 rfl ?_
    refine v_iconst (pc := 24) (v := nI 4) X dX6_planComes_24 rfl ?_
    refine v_ic_neN (pc := 25) X (by omega) (by omega) 36 dX6_planComes_25 (by decide) (fun h25 => ?_) (fun h25 => ?_)
    · refine v_aload_n (pc := 36) X dX6_planComes_36 rfl 1 rfl ?_
      obtain ⟨f, l, hfl, hl, rfl, rfl⟩ := isRun_of h9 h6
      have hcf : (nI f).toNatClampNeg = f := nI_clamp (by omega)
      have hcl : (nI l).toNatClampNeg = l := nI_clamp (by omega)
      have hsp := spD_ok sd
      generalize hLL : pl (spD sd) f l = L
      have hLn : L.length = l - f := by rw [← hLL]; exact pl_length hsp f l
      refine t_callV (pc := 37) X (m_reckons hn h9 hsd h50) (lw_V q2163 q2165 qs51 q109 q2166) hdX6_reckons ⟨Nat.le_of_ble_eq_true rfl, Nat.le_of_ble_eq_true rfl⟩ rfl rfl (Nat.le_of_ble_eq_true rfl) dX6_planComes_37 ⟨Nat.le_refl _, Nat.le_refl _⟩ (fun σ37 hp37 => ?_)
      refine v_bipush (pc := 40) (v := nI 16) X dX6_planComes_40 rfl ?_
      refine v_bipush (pc := 42) (v := nI 24) X dX6_planComes_42 rfl ?_
      refine v_iload_n (pc := 44) X dX6_planComes_44 rfl 0 rfl ?_
      refine v_imulN (pc := 45) X dX6_planComes_45 ?_
      refine v_iaddN (pc := 46) X dX6_planComes_46 ?_
      refine v_istore (pc := 47) (loc' := [(4, .int (nI (16 + (24 * np)))), (3, .int (nI np)), (0, .ref x), (1, .int (nI f)), (2, .int (nI l))]) X dX6_planComes_47 (by decide) rfl ?_
      refine v_aload_n (pc := 49) X dX6_planComes_49 rfl 2 rfl ?_
      refine t_get (pc := 50) X 0 (by decide) q1956 rfl rfl dX6_planComes_50 ?_
      have ht0 := hp37.1.1 0 (by decide) (by decide)
      have hr17 : ∀ a c : Nat, a ≤ c → c ≤ l → σ37 17 (8 * a + c) = nI (spD sd a c) := fun a c h1 h2 => (hp37.2 a c h1 (by omega)).2.2.1
      refine v_iload (pc := 53) X dX6_planComes_53 0 rfl ?_
      refine v_iconst (pc := 55) (v := nI 0) X dX6_planComes_55 rfl ?_
      refine v_iaddN (pc := 56) X dX6_planComes_56 ?_
      refine v_iload_n (pc := 57) X dX6_planComes_57 rfl 3 rfl ?_
      refine v_iast (pc := 58) X 1 ta_0 rfl (by omega) (by decide) dX6_planComes_58 (tb_0 _) ?_
      refine v_aload_n (pc := 59) X dX6_planComes_59 rfl 2 rfl ?_
      refine t_get (pc := 60) X 0 (by decide) q1956 rfl rfl dX6_planComes_60 ?_
      refine v_iload (pc := 63) X dX6_planComes_63 0 rfl ?_
      refine v_iconst (pc := 65) (v := nI 1) X dX6_planComes_65 rfl ?_
      refine v_iaddN (pc := 66) X dX6_planComes_66 ?_
      refine v_iload_n (pc := 67) X dX6_planComes_67 rfl 4 rfl ?_
      refine v_iast (pc := 68) X 1 ta_0 rfl (by omega) (by decide) dX6_planComes_68 (tb_0 _) ?_
      refine v_aload_n (pc := 69) X dX6_planComes_69 rfl 2 rfl ?_
      refine t_get (pc := 70) X 0 (by decide) q1956 rfl rfl dX6_planComes_70 ?_
      refine v_iload (pc := 73) X dX6_planComes_73 0 rfl ?_
      refine v_iconst (pc := 75) (v := nI 2) X dX6_planComes_75 rfl ?_
      refine v_iaddN (pc := 76) X dX6_planComes_76 ?_
      refine v_aload_n (pc := 77) X dX6_planComes_77 rfl 2 rfl ?_
      refine t_get (pc := 78) X 15 (by decide) q1971 rfl rfl dX6_planComes_78 ?_
      refine v_bipush (pc := 81) (v := nI 8) X dX6_planComes_81 rfl ?_
      refine v_iload_n (pc := 83) X dX6_planComes_83 rfl 3 rfl ?_
      refine v_imulN (pc := 84) X dX6_planComes_84 ?_
      refine v_iload_n (pc := 85) X dX6_planComes_85 rfl 4 rfl ?_
      refine v_iaddN (pc := 86) X dX6_planComes_86 ?_
      refine v_iald (pc := 87) X 7 ta_15 rfl (by omega) (by decide) dX6_planComes_87 ?_
      refine v_top (y := (nI ((Dv sd f l).1))) (hp37.2 f l hfl hl).1 ?_
      refine v_iast (pc := 88) X 1 ta_0 rfl (by omega) (by decide) dX6_planComes_88 (tb_0 _) ?_
      refine v_iload_n (pc := 89) X dX6_planComes_89 rfl 4 rfl ?_
      refine v_iload_n (pc := 90) X dX6_planComes_90 rfl 3 rfl ?_
      refine v_isubN (pc := 91) X (by omega) dX6_planComes_91 ?_
      refine v_istore (pc := 92) (loc' := [(5, .int (nI (l - f))), (4, .int (nI (16 + (24 * np)))), (3, .int (nI np)), (0, .ref x), (1, .int (nI f)), (2, .int (nI l))]) X dX6_planComes_92 (by decide) rfl ?_
      refine v_aload_n (pc := 94) X dX6_planComes_94 rfl 3 rfl ?_
      refine v_iconst (pc := 95) (v := nI 0) X dX6_planComes_95 rfl ?_
      refine t_put (pc := 96) X 21 (by decide) q1977 rfl rfl rfl rfl dX6_planComes_96 (tf_21 _) ?_
      refine v_aload_n (pc := 99) X dX6_planComes_99 rfl 3 rfl ?_
      refine v_iload_n (pc := 100) X dX6_planComes_100 rfl 4 rfl ?_
      refine v_iload_n (pc := 101) X dX6_planComes_101 rfl 5 rfl ?_
      refine t_callV (pc := 102) X (m_pushes (t := 0) rfl (by omega)) (lw_V q2223 q2225 qs59 q109 q2226) hdX6_pushes ⟨Nat.le_of_ble_eq_true rfl, Nat.le_of_ble_eq_true rfl⟩ rfl rfl (Nat.le_of_ble_eq_true rfl) dX6_planComes_102 ⟨Nat.le_refl _, Nat.le_refl _⟩ (fun σ102 hp102 => ?_)
      subst hp102
      refine v_sub [3, 4, 5, 2, 1, 0] rfl ?_
      refine v_loop3 (S := List (Nat × Nat)) (T := Nat) (Z := Tw) (fun S k τ => tw x ad dd τ) (fun S k τ => [(0, .ref x), (1, .int (nI f)), (2, .int (nI l)), (3, .int (nI np)), (4, .int (nI (16 + 24 * np))), (5, .int (nI k))]) (fun S k τ => PcI σ σ37 sd np f l L S k τ) (fun S k τ => muS S) (fun S k τ hI105 ih105 => ?_) ([(f, l)]) (l - f) _ (pc_init hp37 hfl (by omega) hLL hLn)
      have hSl0 := muS_len S
      have hT := hI105.2.2.1
      have hkL := hI105.2.2.2.2.2.1
      have hM := hI105.2.2.2.2.2.2.1
      have h17 := hI105.2.2.2.2.2.2.2.2
      refine v_aload_n (pc := 105) X dX6_planComes_105 rfl 0 rfl ?_
      refine t_get (pc := 106) X 21 (by decide) q1977 rfl rfl dX6_planComes_106 ?_
      refine v_top (y := (nI S.length)) hT ?_
      refine v_if_leN (pc := 109) X (by omega) 245 dX6_planComes_109 (by decide) (fun h109 => ?_) (fun h109 => ?_)
      · refine v_aload_n (pc := 245) X dX6_planComes_245 rfl 0 rfl ?_
        refine t_get (pc := 246) X 0 (by decide) q1956 rfl rfl dX6_planComes_246 ?_
        refine v_bipush (pc := 249) (v := nI 15) X dX6_planComes_249 rfl ?_
        refine v_dup2 (pc := 251) X dX6_planComes_251 rfl rfl ?_
        refine v_iald (pc := 252) X 1 ta_0 rfl (by omega) (by decide) dX6_planComes_252 ?_
        refine v_top (y := (nI np)) (by rw [hI105.2.1]; exact Gp_15.trans hp) ?_
        refine v_iconst (pc := 253) (v := nI 1) X dX6_planComes_253 rfl ?_
        refine v_iaddN (pc := 254) X dX6_planComes_254 ?_
        refine v_iast (pc := 255) X 1 ta_0 rfl (by omega) (by decide) dX6_planComes_255 (tb_0 _) ?_
        refine v_aload_n (pc := 256) X dX6_planComes_256 rfl 0 rfl ?_
        refine v_iload_n (pc := 257) X dX6_planComes_257 rfl 3 rfl ?_
        refine t_callI (pc := 258) X m_done (lw_V q2094 q2096 qs41 q109 q2097) hdX6_done ⟨Nat.le_of_ble_eq_true rfl, Nat.le_of_ble_eq_true rfl⟩ rfl rfl (Nat.le_of_ble_eq_true rfl) dX6_planComes_258 ⟨Nat.le_refl _, Nat.le_refl _⟩ (fun r258 σ258 hp258 => ?_)
        obtain ⟨rfl, rfl⟩ := hp258
        exact t_iret (pc := 261) X hr dX6_planComes_261 ⟨_, rfl, pc_end hI105 h109 h6 h25 hcf hcl hLL rfl⟩
      · obtain ⟨S1, q, rfl⟩ : ∃ S1 q, S = S1 ++ [q] := ⟨S.dropLast, S.getLast (by rintro rfl; exact h109 rfl), (List.dropLast_concat_getLast _).symm⟩
        obtain ⟨hK1, hKt⟩ := hI105.2.2.2.1.pop
        have hql := hI105.2.2.2.2.2.2.2.1 q (by simp)
        have hSl : (S1 ++ [q]).length = S1.length + 1 := by simp
        have hMl := muS_len (S1 ++ [q])
        refine v_aload_n (pc := 112) X dX6_planComes_112 rfl 0 rfl ?_
        refine v_dup (pc := 113) X dX6_planComes_113 rfl ?_
        refine t_get (pc := 114) X 21 (by decide) q1977 rfl rfl dX6_planComes_114 ?_
        refine v_top (y := (nI (S1.length + 1))) (hT.trans (by rw [hSl])) ?_
        refine v_iconst (pc := 117) (v := nI 1) X dX6_planComes_117 rfl ?_
        refine v_isubN (pc := 118) X (by omega) dX6_planComes_118 ?_
        refine t_put (pc := 119) X 21 (by decide) q1977 rfl rfl rfl rfl dX6_planComes_119 (tf_21 _) ?_
        refine v_aload_n (pc := 122) X dX6_planComes_122 rfl 0 rfl ?_
        refine t_get (pc := 123) X 20 (by decide) q1976 rfl rfl dX6_planComes_123 ?_
        refine v_aload_n (pc := 126) X dX6_planComes_126 rfl 0 rfl ?_
        refine t_get (pc := 127) X 21 (by decide) q1977 rfl rfl dX6_planComes_127 ?_
        refine v_top (y := (nI ((S1.length + 1) - 1))) rfl ?_
        refine v_iald (pc := 130) X 12 ta_20 rfl (by omega) (by decide) dX6_planComes_130 ?_
        refine v_top (y := (nI (8 * q.1 + q.2))) (by rw [Nat.add_sub_cancel]; exact hKt) ?_
        refine v_istore (pc := 131) (loc' := [(6, .int (nI (8 * q.1 + q.2))), (0, .ref x), (1, .int (nI f)), (2, .int (nI l)), (3, .int (nI np)), (4, .int (nI (16 + 24 * np))), (5, .int (nI k))]) X dX6_planComes_131 (by decide) rfl ?_
        refine v_iload (pc := 133) X dX6_planComes_133 0 rfl ?_
        refine v_bipush (pc := 135) (v := nI 8) X dX6_planComes_135 rfl ?_
        refine v_idivN (pc := 137) X (by omega) (by omega) (by omega) dX6_planComes_137 ?_
        refine v_top (y := (nI q.1)) (by rw [show (8 * q.1 + q.2) / 8 = q.1 by omega]) ?_
        refine v_istore (pc := 138) (loc' := [(7, .int (nI q.1)), (6, .int (nI (8 * q.1 + q.2))), (0, .ref x), (1, .int (nI f)), (2, .int (nI l)), (3, .int (nI np)), (4, .int (nI (16 + 24 * np))), (5, .int (nI k))]) X dX6_planComes_138 (by decide) rfl ?_
        refine v_iload (pc := 140) X dX6_planComes_140 1 rfl ?_
        refine v_bipush (pc := 142) (v := nI 8) X dX6_planComes_142 rfl ?_
        refine v_iremN (pc := 144) X (by omega) (by omega) (by omega) dX6_planComes_144 ?_
        refine v_top (y := (nI q.2)) (by rw [show (8 * q.1 + q.2) % 8 = q.2 by omega]) ?_
        refine v_istore (pc := 145) (loc' := [(8, .int (nI q.2)), (7, .int (nI q.1)), (6, .int (nI (8 * q.1 + q.2))), (0, .ref x), (1, .int (nI f)), (2, .int (nI l)), (3, .int (nI np)), (4, .int (nI (16 + 24 * np))), (5, .int (nI k))]) X dX6_planComes_145 (by decide) rfl ?_
        refine v_iload (pc := 147) X dX6_planComes_147 1 rfl ?_
        refine v_iload (pc := 149) X dX6_planComes_149 0 rfl ?_
        refine v_ic_geN (pc := 151) X (by omega) (by omega) 242 dX6_planComes_151 (by decide) (fun h151 => ?_) (fun h151 => ?_)
        · refine v_goto (pc := 242) X 105 dX6_planComes_242 (by decide) ?_
          refine v_sub [3, 4, 5, 6, 7, 8] rfl ?_
          exact ih105 _ _ _ (pc_leaf hI105 h151) (by rw [muS_app]; simp only [muS, List.map, List.sum_cons, List.sum_nil]; omega)
        · obtain ⟨hk1, hLk⟩ := pc_last hI105 h151
          have hsq := hsp q.1 q.2 h151
          refine v_iinc (pc := 154) (v := (nI (k - 1))) (loc' := [(5, .int (nI (k - 1))), (8, .int (nI q.2)), (7, .int (nI q.1)), (6, .int (nI (8 * q.1 + q.2))), (0, .ref x), (1, .int (nI f)), (2, .int (nI l)), (3, .int (nI np)), (4, .int (nI (16 + 24 * np)))]) X dX6_planComes_154 8 rfl (nI_dec (by omega)) (by decide) rfl ?_
          refine v_aload_n (pc := 157) X dX6_planComes_157 rfl 4 rfl ?_
          refine t_get (pc := 158) X 0 (by decide) q1956 rfl rfl dX6_planComes_158 ?_
          refine v_iload (pc := 161) X dX6_planComes_161 8 rfl ?_
          refine v_iconst (pc := 163) (v := nI 3) X dX6_planComes_163 rfl ?_
          refine v_iaddN (pc := 164) X dX6_planComes_164 ?_
          refine v_iconst (pc := 165) (v := nI 3) X dX6_planComes_165 rfl ?_
          refine v_iload (pc := 166) X dX6_planComes_166 0 rfl ?_
          refine v_imulN (pc := 168) X dX6_planComes_168 ?_
          refine v_iaddN (pc := 169) X dX6_planComes_169 ?_
          refine v_iload (pc := 170) X dX6_planComes_170 2 rfl ?_
          refine v_iast (pc := 172) X 1 ta_0 rfl (by omega) (by decide) dX6_planComes_172 (tb_0 _) ?_
          refine v_aload_n (pc := 173) X dX6_planComes_173 rfl 4 rfl ?_
          refine t_get (pc := 174) X 0 (by decide) q1956 rfl rfl dX6_planComes_174 ?_
          refine v_iload (pc := 177) X dX6_planComes_177 8 rfl ?_
          refine v_iconst (pc := 179) (v := nI 3) X dX6_planComes_179 rfl ?_
          refine v_iaddN (pc := 180) X dX6_planComes_180 ?_
          refine v_iconst (pc := 181) (v := nI 3) X dX6_planComes_181 rfl ?_
          refine v_iload (pc := 182) X dX6_planComes_182 0 rfl ?_
          refine v_imulN (pc := 184) X dX6_planComes_184 ?_
          refine v_iaddN (pc := 185) X dX6_planComes_185 ?_
          refine v_iconst (pc := 186) (v := nI 1) X dX6_planComes_186 rfl ?_
          refine v_iaddN (pc := 187) X dX6_planComes_187 ?_
          refine v_iload (pc := 188) X dX6_planComes_188 1 rfl ?_
          refine v_iast (pc := 190) X 1 ta_0 rfl (by omega) (by decide) dX6_planComes_190 (tb_0 _) ?_
          refine v_aload_n (pc := 191) X dX6_planComes_191 rfl 4 rfl ?_
          refine t_get (pc := 192) X 0 (by decide) q1956 rfl rfl dX6_planComes_192 ?_
          refine v_iload (pc := 195) X dX6_planComes_195 8 rfl ?_
          refine v_iconst (pc := 197) (v := nI 3) X dX6_planComes_197 rfl ?_
          refine v_iaddN (pc := 198) X dX6_planComes_198 ?_
          refine v_iconst (pc := 199) (v := nI 3) X dX6_planComes_199 rfl ?_
          refine v_iload (pc := 200) X dX6_planComes_200 0 rfl ?_
          refine v_imulN (pc := 202) X dX6_planComes_202 ?_
          refine v_iaddN (pc := 203) X dX6_planComes_203 ?_
          refine v_iconst (pc := 204) (v := nI 2) X dX6_planComes_204 rfl ?_
          refine v_iaddN (pc := 205) X dX6_planComes_205 ?_
          refine v_aload_n (pc := 206) X dX6_planComes_206 rfl 4 rfl ?_
          refine t_get (pc := 207) X 17 (by decide) q1973 rfl rfl dX6_planComes_207 ?_
          refine v_iload (pc := 210) X dX6_planComes_210 3 rfl ?_
          refine v_iald (pc := 212) X 9 ta_17 rfl (by omega) (by decide) dX6_planComes_212 ?_
          refine v_top (y := (nI (spD sd q.1 q.2))) ((congrFun h17 _).trans (hr17 _ _ hql.2.1 hql.2.2)) ?_
          refine v_iast (pc := 213) X 1 ta_0 rfl (by omega) (by decide) dX6_planComes_213 (tb_0 _) ?_
          refine v_aload_n (pc := 214) X dX6_planComes_214 rfl 4 rfl ?_
          refine v_iload (pc := 215) X dX6_planComes_215 2 rfl ?_
          refine v_aload_n (pc := 217) X dX6_planComes_217 rfl 4 rfl ?_
          refine t_get (pc := 218) X 17 (by decide) q1973 rfl rfl dX6_planComes_218 ?_
          refine v_iload (pc := 221) X dX6_planComes_221 3 rfl ?_
          refine v_iald (pc := 223) X 9 ta_17 rfl (by omega) (by decide) dX6_planComes_223 ?_
          refine v_top (y := (nI (spD sd q.1 q.2))) ((congrFun h17 _).trans (hr17 _ _ hql.2.1 hql.2.2)) ?_
          refine t_callV (pc := 224) X (m_pushes (t := S1.length) (by rw [Nat.add_sub_cancel]; rfl) (by omega)) (lw_V q2223 q2225 qs59 q109 q2226) hdX6_pushes ⟨Nat.le_of_ble_eq_true rfl, Nat.le_of_ble_eq_true rfl⟩ rfl rfl (Nat.le_of_ble_eq_true rfl) dX6_planComes_224 ⟨Nat.le_refl _, Nat.le_refl _⟩ (fun σ224 hp224 => ?_)
          subst hp224
          refine v_aload_n (pc := 227) X dX6_planComes_227 rfl 4 rfl ?_
          refine v_aload_n (pc := 228) X dX6_planComes_228 rfl 4 rfl ?_
          refine t_get (pc := 229) X 17 (by decide) q1973 rfl rfl dX6_planComes_229 ?_
          refine v_iload (pc := 232) X dX6_planComes_232 3 rfl ?_
          refine v_iald (pc := 234) X 9 ta_17 rfl (by omega) (by decide) dX6_planComes_234 ?_
          refine v_top (y := (nI (spD sd q.1 q.2))) ((congrFun h17 _).trans (hr17 _ _ hql.2.1 hql.2.2)) ?_
          refine v_iconst (pc := 235) (v := nI 1) X dX6_planComes_235 rfl ?_
          refine v_iaddN (pc := 236) X dX6_planComes_236 ?_
          refine v_iload (pc := 237) X dX6_planComes_237 1 rfl ?_
          refine t_callV (pc := 239) X (m_pushes (t := S1.length + 1) rfl (by omega)) (lw_V q2223 q2225 qs59 q109 q2226) hdX6_pushes ⟨Nat.le_of_ble_eq_true rfl, Nat.le_of_ble_eq_true rfl⟩ rfl rfl (Nat.le_of_ble_eq_true rfl) dX6_planComes_239 ⟨Nat.le_refl _, Nat.le_refl _⟩ (fun σ239 hp239 => ?_)
          subst hp239
          refine v_goto (pc := 242) X 105 dX6_planComes_242 (by decide) ?_
          refine v_sub [4, 5, 6, 7, 8, 0] rfl ?_
          exact ih105 _ _ _ (pc_node hI105 h151) (by rw [muS_app, muS_app, muS_app]; simp only [muS, List.map, List.sum_cons, List.sum_nil]; omega)
    · refine v_aload_n (pc := 28) X dX6_planComes_28 rfl 1 rfl ?_
      refine v_iconst (pc := 29) (v := nI 1) X dX6_planComes_29 rfl ?_
      refine v_iconst (pc := 30) (v := nI 4) X dX6_planComes_30 rfl ?_
      refine v_iconst (pc := 31) (v := nI 2) X dX6_planComes_31 rfl ?_
      refine t_callI (pc := 32) X m_refused (lw_V q2086 q2088 qs39 q109 q2089) hdX6_refused ⟨Nat.le_of_ble_eq_true rfl, Nat.le_of_ble_eq_true rfl⟩ rfl rfl (Nat.le_of_ble_eq_true rfl) dX6_planComes_32 ⟨Nat.le_refl _, Nat.le_refl _⟩ (fun r32 σ32 hp32 => ?_)
      obtain ⟨rfl, rfl⟩ := hp32
      exact t_iret (pc := 35) X hr dX6_planComes_35 ⟨_, rfl, Cr.ref (by unfold opPlan; rw [if_pos h6, if_pos h25]) (by decide) (Ch.rf _ _ _)⟩
  · refine v_aload_n (pc := 9) X dX6_planComes_9 rfl 0 rfl ?_
    refine v_iconst (pc := 10) (v := nI 1) X dX6_planComes_10 rfl ?_
    refine t_callI (pc := 11) X m_fails (lw_V q2082 q2084 qs38 q109 q2085) hdX6_fails ⟨Nat.le_of_ble_eq_true rfl, Nat.le_of_ble_eq_true rfl⟩ rfl rfl (Nat.le_of_ble_eq_true rfl) dX6_planComes_11 ⟨Nat.le_refl _, Nat.le_refl _⟩ (fun r11 σ11 hp11 => ?_)
    obtain ⟨rfl, rfl⟩ := hp11
    exact t_iret (pc := 14) X hr dX6_planComes_14 ⟨_, rfl, Cr.fail (by unfold opPlan; rw [if_neg h6]) (by decide) (Ch.rf _ _ _) rfl rfl⟩

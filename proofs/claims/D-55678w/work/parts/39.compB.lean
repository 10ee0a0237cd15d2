def kwF0 (x : Nat) (ad : Nat → Nat) (σ : Tw) : List Value := [.ref (ad 0), .int (σ 99 1), .ref (ad 15), .ref (ad 16), .ref (ad 17), .ref (ad 18), .ref (ad 19), .ref (ad 7), .ref (ad 8), .int (σ 99 9)]
def kw (x : Nat) (ad : Nat → Nat) (dd : Nat → ClassId) (σ : Tw) : va_W := [(x, .inr (2, kwF0 x ad σ)), (ad 0, .inl (dd 0, 9, .inl (σ 0))), (ad 15, .inl (dd 0, 64, .inl (σ 15))), (ad 16, .inl (dd 0, 64, .inl (σ 16))), (ad 17, .inl (dd 0, 64, .inl (σ 17))), (ad 18, .inl (dd 0, 64, .inl (σ 18))), (ad 19, .inl (dd 0, 64, .inl (σ 19))), (ad 7, .inl (dd 0, 1000, .inl (σ 7))), (ad 8, .inl (dd 0, 64, .inl (σ 8)))]
section VIEW_kw
variable {x : Nat} {ad : Nat → Nat} {dd : Nat → ClassId} {σ : Tw}
theorem ka_0 : (kw x ad dd σ)[1]? = some (ad 0, .inl (dd 0, 9, .inl (σ 0))) := rfl
theorem kb_0 (f : Nat → Int32) : (kw x ad dd σ).set 1 (ad 0, .inl (dd 0, 9, .inl f)) = kw x ad dd (rw2 σ 0 f) := rfl
theorem ka_15 : (kw x ad dd σ)[2]? = some (ad 15, .inl (dd 0, 64, .inl (σ 15))) := rfl
theorem kb_15 (f : Nat → Int32) : (kw x ad dd σ).set 2 (ad 15, .inl (dd 0, 64, .inl f)) = kw x ad dd (rw2 σ 15 f) := rfl
theorem ka_16 : (kw x ad dd σ)[3]? = some (ad 16, .inl (dd 0, 64, .inl (σ 16))) := rfl
theorem kb_16 (f : Nat → Int32) : (kw x ad dd σ).set 3 (ad 16, .inl (dd 0, 64, .inl f)) = kw x ad dd (rw2 σ 16 f) := rfl
theorem ka_17 : (kw x ad dd σ)[4]? = some (ad 17, .inl (dd 0, 64, .inl (σ 17))) := rfl
theorem kb_17 (f : Nat → Int32) : (kw x ad dd σ).set 4 (ad 17, .inl (dd 0, 64, .inl f)) = kw x ad dd (rw2 σ 17 f) := rfl
theorem ka_18 : (kw x ad dd σ)[5]? = some (ad 18, .inl (dd 0, 64, .inl (σ 18))) := rfl
theorem kb_18 (f : Nat → Int32) : (kw x ad dd σ).set 5 (ad 18, .inl (dd 0, 64, .inl f)) = kw x ad dd (rw2 σ 18 f) := rfl
theorem ka_19 : (kw x ad dd σ)[6]? = some (ad 19, .inl (dd 0, 64, .inl (σ 19))) := rfl
theorem kb_19 (f : Nat → Int32) : (kw x ad dd σ).set 6 (ad 19, .inl (dd 0, 64, .inl f)) = kw x ad dd (rw2 σ 19 f) := rfl
theorem ka_7 : (kw x ad dd σ)[7]? = some (ad 7, .inl (dd 0, 1000, .inl (σ 7))) := rfl
theorem kb_7 (f : Nat → Int32) : (kw x ad dd σ).set 7 (ad 7, .inl (dd 0, 1000, .inl f)) = kw x ad dd (rw2 σ 7 f) := rfl
theorem ka_8 : (kw x ad dd σ)[8]? = some (ad 8, .inl (dd 0, 64, .inl (σ 8))) := rfl
theorem kb_8 (f : Nat → Int32) : (kw x ad dd σ).set 8 (ad 8, .inl (dd 0, 64, .inl f)) = kw x ad dd (rw2 σ 8 f) := rfl
theorem kf_0_1 (v : Int32) : (kw x ad dd σ).set 0 (x, .inr (2, (kwF0 x ad σ).set 1 (.int v))) = kw x ad dd (rw2 σ 99 (upd (σ 99) 1 v)) := rfl
theorem kf_0_9 (v : Int32) : (kw x ad dd σ).set 0 (x, .inr (2, (kwF0 x ad σ).set 9 (.int v))) = kw x ad dd (rw2 σ 99 (upd (σ 99) 9 v)) := rfl
end VIEW_kw
theorem hdX3_lists : yX3_lists.cls = RX3 ∧ yX3_lists.cls ≠ "java/lang/invoke/MethodHandle" ∧ yX3_lists.cls ≠ "java/lang/invoke/VarHandle" ∧ (parseMethodDescriptor yX3_lists.desc).map (fun d => d.parameters.length) = some 3 := by decide +kernel
set_option maxHeartbeats 4000000 in
theorem c_X3_lists {l_ : Launch} {D : va_G} {dd : Nat → ClassId} {x : Nat} {ad : Nat → Nat} {σ : Tw} {A B : List Nat} {lo hi cst e oa ob : Nat} (hlo : lo < 64) (hhi : hi < 64) (h18a : σ 18 lo = nI A.length) (h18b : σ 18 hi = nI B.length) (h8a : σ 8 lo = nI oa) (h8b : σ 8 hi = nI ob) (hA : SegIs (σ 7) oa A) (hB : SegIs (σ 7) ob B) (hoa : oa + A.length ≤ e) (hob : ob + B.length ≤ e) (he : σ 99 9 = nI e) (hroom : e + A.length * B.length ≤ 1000) : MW l_ D dd yX3_lists cX3_lists 6 none 0 0 0 0 [.ref x, .int (nI lo), .int (nI hi), .int (nI cst)] (kw x ad dd σ) (GV (kw x ad dd) (fun σ' => LsI σ σ' e (comb A B cst))) := by
  refine MW.intro (by decide) (Nat.le_of_ble_eq_true rfl) (fun p_ e_ s_ m_ as_ bl_ me_ c_ A_ X hr hnm => ?_)
  have X : VX p_ s_ m_ as_ me_ c_ cX3_lists 6 RX3 D dd A_ := X
  refine v_eq (loc' := [(0, .ref x), (1, .int (nI lo)), (2, .int (nI hi)), (3, .int (nI cst))]) rfl rfl rfl ?_
  refine v_iconst (pc := 0) (v := nI 0) X dX3_lists_0 rfl ?_
  refine v_istore (pc := 1) (loc' := [(4, .int (nI 0)), (0, .ref x), (1, .int (nI lo)), (2, .int (nI hi)), (3, .int (nI cst))]) X dX3_lists_1 (by decide) rfl ?_
  refine v_sub [1, 2, 3, 4, 0] rfl ?_
  refine v_loop2 (S := Nat) (T := Tw) (fun i τ => kw x ad dd τ) (fun i τ => [(0, .ref x), (1, .int (nI lo)), (2, .int (nI hi)), (3, .int (nI cst)), (4, .int (nI i))]) (fun i τ => i ≤ A.length ∧ LsI σ τ e (comb (A.take i) B cst)) (fun i τ => A.length - i) (fun i τ hI3 ih3 => ?_) 0 _ ⟨Nat.zero_le _, Ch.rf _ _ _, he, SegIs.nil _ _, fun k _ => rfl⟩
  obtain ⟨hia, hL⟩ := hI3
  have hbl : B.length ≤ 1000 := by omega
  refine v_iload (pc := 3) X dX3_lists_3 4 rfl ?_
  refine v_aload_n (pc := 5) X dX3_lists_5 rfl 0 rfl ?_
  refine v_get (pc := 6) X in_X3 0 rfl rfl 5 (by decide) q213 (fun y h => h) rfl dX3_lists_6 ?_
  refine v_iload_n (pc := 9) X dX3_lists_9 rfl 1 rfl ?_
  refine v_iald (pc := 10) X 5 ka_18 rfl (by omega) (by decide) dX3_lists_10 ?_
  refine v_top (y := (nI A.length)) ((congrFun (hL.1.1 18 (by decide) (by decide)) _).trans h18a) ?_
  refine v_ic_geN (pc := 11) X (by omega) (by omega) 90 dX3_lists_11 (by decide) (fun h11 => ?_) (fun h11 => ?_)
  · have hiA : i = A.length := by omega
    have hLe := hL
    rw [hiA, List.take_length] at hLe
    exact v_vret (pc := 90) X hr dX3_lists_90 ⟨_, rfl, rfl, hLe⟩
  · obtain ⟨av, ha⟩ := get_lt (L := A) (k := i) h11
    have hLc := hL
    refine v_iconst (pc := 14) (v := nI 0) X dX3_lists_14 rfl ?_
    refine v_istore (pc := 15) (loc' := [(5, .int (nI 0)), (0, .ref x), (1, .int (nI lo)), (2, .int (nI hi)), (3, .int (nI cst)), (4, .int (nI i))]) X dX3_lists_15 (by decide) rfl ?_
    refine v_sub [1, 2, 3, 4, 5, 0] rfl ?_
    refine v_loop2 (S := Nat) (T := Tw) (fun j τ2 => kw x ad dd τ2) (fun j τ2 => [(0, .ref x), (1, .int (nI lo)), (2, .int (nI hi)), (3, .int (nI cst)), (4, .int (nI i)), (5, .int (nI j))]) (fun j τ2 => j ≤ B.length ∧ LsI σ τ2 e (comb (A.take i) B cst ++ (B.take j).map (fun b => av + b + cst))) (fun j τ2 => B.length - j) (fun j τ2 hI17 ih17 => ?_) 0 _ ⟨Nat.zero_le _, by simpa using hLc⟩
    obtain ⟨hj, hM⟩ := hI17
    refine v_iload (pc := 17) X dX3_lists_17 5 rfl ?_
    refine v_aload_n (pc := 19) X dX3_lists_19 rfl 0 rfl ?_
    refine v_get (pc := 20) X in_X3 0 rfl rfl 5 (by decide) q213 (fun y h => h) rfl dX3_lists_20 ?_
    refine v_iload_n (pc := 23) X dX3_lists_23 rfl 2 rfl ?_
    refine v_iald (pc := 24) X 5 ka_18 rfl (by omega) (by decide) dX3_lists_24 ?_
    refine v_top (y := (nI B.length)) ((congrFun (hM.1.1 18 (by decide) (by decide)) _).trans h18b) ?_
    refine v_ic_geN (pc := 25) X (by omega) (by omega) 84 dX3_lists_25 (by decide) (fun h25 => ?_) (fun h25 => ?_)
    · have hjB : j = B.length := by omega
      have hJe := hM
      rw [hjB, List.take_length] at hJe
      refine v_iinc (pc := 84) (v := (nI (i + 1))) (loc' := [(4, .int (nI (i + 1))), (0, .ref x), (1, .int (nI lo)), (2, .int (nI hi)), (3, .int (nI cst)), (5, .int (nI j))]) X dX3_lists_84 4 rfl (nI_add _ 1) (by decide) rfl ?_
      refine v_goto (pc := 87) X 3 dX3_lists_87 (by decide) ?_
      refine v_sub [1, 2, 3, 4, 0] rfl ?_
      exact ih3 (i + 1) _ ⟨by omega, by rw [comb_take ha]; exact hJe⟩ (by omega)
    · obtain ⟨bv, hb⟩ := get_lt (L := B) (k := j) h25
      have hlen := ls_len (c := cst) (a := av) h11 h25
      refine v_aload_n (pc := 28) X dX3_lists_28 rfl 0 rfl ?_
      refine v_get (pc := 29) X in_X3 0 rfl rfl 7 (by decide) q217 (fun y h => h) rfl dX3_lists_29 ?_
      refine v_aload_n (pc := 32) X dX3_lists_32 rfl 0 rfl ?_
      refine v_get (pc := 33) X in_X3 0 rfl rfl 9 (by decide) q219 (fun y h => h) rfl dX3_lists_33 ?_
      refine v_top (y := (nI (e + (comb (A.take i) B cst ++ (B.take j).map (fun b => av + b + cst)).length))) hM.2.1 ?_
      refine v_aload_n (pc := 36) X dX3_lists_36 rfl 0 rfl ?_
      refine v_get (pc := 37) X in_X3 0 rfl rfl 7 (by decide) q217 (fun y h => h) rfl dX3_lists_37 ?_
      refine v_aload_n (pc := 40) X dX3_lists_40 rfl 0 rfl ?_
      refine v_get (pc := 41) X in_X3 0 rfl rfl 8 (by decide) q218 (fun y h => h) rfl dX3_lists_41 ?_
      refine v_iload_n (pc := 44) X dX3_lists_44 rfl 1 rfl ?_
      refine v_iald (pc := 45) X 8 ka_8 rfl (by omega) (by decide) dX3_lists_45 ?_
      refine v_top (y := (nI oa)) ((congrFun (hM.1.1 8 (by decide) (by decide)) _).trans h8a) ?_
      refine v_iload (pc := 46) X dX3_lists_46 4 rfl ?_
      refine v_iaddN (pc := 48) X dX3_lists_48 ?_
      refine v_iald (pc := 49) X 7 ka_7 rfl (by omega) (by decide) dX3_lists_49 ?_
      refine v_top (y := (nI av)) ((hM.2.2.2 _ (by omega)).trans (hA i av ha)) ?_
      refine v_aload_n (pc := 50) X dX3_lists_50 rfl 0 rfl ?_
      refine v_get (pc := 51) X in_X3 0 rfl rfl 7 (by decide) q217 (fun y h => h) rfl dX3_lists_51 ?_
      refine v_aload_n (pc := 54) X dX3_lists_54 rfl 0 rfl ?_
      refine v_get (pc := 55) X in_X3 0 rfl rfl 8 (by decide) q218 (fun y h => h) rfl dX3_lists_55 ?_
      refine v_iload_n (pc := 58) X dX3_lists_58 rfl 2 rfl ?_
      refine v_iald (pc := 59) X 8 ka_8 rfl (by omega) (by decide) dX3_lists_59 ?_
      refine v_top (y := (nI ob)) ((congrFun (hM.1.1 8 (by decide) (by decide)) _).trans h8b) ?_
      refine v_iload (pc := 60) X dX3_lists_60 5 rfl ?_
      refine v_iaddN (pc := 62) X dX3_lists_62 ?_
      refine v_iald (pc := 63) X 7 ka_7 rfl (by omega) (by decide) dX3_lists_63 ?_
      refine v_top (y := (nI bv)) ((hM.2.2.2 _ (by omega)).trans (hB j bv hb)) ?_
      refine v_iaddN (pc := 64) X dX3_lists_64 ?_
      refine v_iload_n (pc := 65) X dX3_lists_65 rfl 3 rfl ?_
      refine v_iaddN (pc := 66) X dX3_lists_66 ?_
      refine v_iast (pc := 67) X 7 ka_7 rfl (by omega) (by decide) dX3_lists_67 (kb_7 _) ?_
      refine v_aload_n (pc := 68) X dX3_lists_68 rfl 0 rfl ?_
      refine v_dup (pc := 69) X dX3_lists_69 rfl ?_
      refine v_get (pc := 70) X in_X3 0 rfl rfl 9 (by decide) q219 (fun y h => h) rfl dX3_lists_70 ?_
      refine v_top (y := (nI (e + (comb (A.take i) B cst ++ (B.take j).map (fun b => av + b + cst)).length))) hM.2.1 ?_
      refine v_iconst (pc := 73) (v := nI 1) X dX3_lists_73 rfl ?_
      refine v_iaddN (pc := 74) X dX3_lists_74 ?_
      refine v_put (pc := 75) X in_X3 tyX3 tyX3_ok nmX3 0 rfl rfl 9 (by decide) q219 (fun y h => h) rfl rfl rfl (Nat.le_of_ble_eq_true rfl) dX3_lists_75 (kf_0_9 _) ?_
      refine v_iinc (pc := 78) (v := (nI (j + 1))) (loc' := [(5, .int (nI (j + 1))), (0, .ref x), (1, .int (nI lo)), (2, .int (nI hi)), (3, .int (nI cst)), (4, .int (nI i))]) X dX3_lists_78 5 rfl (nI_add _ 1) (by decide) rfl ?_
      refine v_goto (pc := 81) X 17 dX3_lists_81 (by decide) ?_
      refine v_sub [1, 2, 3, 4, 5, 0] rfl ?_
      exact ih17 (j + 1) _ ⟨by omega, by rw [map_take hb, ← List.append_assoc]; exact hM.push _⟩ (by omega)
theorem hdX3_splitCost : yX3_splitCost.cls = RX3 ∧ yX3_splitCost.cls ≠ "java/lang/invoke/MethodHandle" ∧ yX3_splitCost.cls ≠ "java/lang/invoke/VarHandle" ∧ (parseMethodDescriptor yX3_splitCost.desc).map (fun d => d.parameters.length) = some 3 := by decide +kernel
set_option maxHeartbeats 4000000 in
theorem c_X3_splitCost {l_ : Launch} {D : va_G} {dd : Nat → ClassId} {x : Nat} {ad : Nat → Nat} {σ : Tw} {f l sp a b : Nat} {sd : Nat → Nat} (h9 : ∀ i, i < 9 → σ 0 i = nI (sd i)) (hf : f ≤ sp) (hs : sp < l) (hl : l < 8) (ha : σ 15 (8 * f + sp) = nI a) (hb : σ 15 (8 * (sp + 1) + l) = nI b) : MW l_ D dd yX3_splitCost cX3_splitCost 4 (some .int) 1 0 0 23 [.ref x, .int (nI f), .int (nI l), .int (nI sp)] (kw x ad dd σ) (RI (fun r => nI (a + b + prN sd f sp l) = r) (kw x ad dd σ)) := by
  refine MW.intro (by decide) (Nat.le_of_ble_eq_true rfl) (fun p_ e_ s_ m_ as_ bl_ me_ c_ A_ X hr hnm => ?_)
  have X : VX p_ s_ m_ as_ me_ c_ cX3_splitCost 4 RX3 D dd A_ := X
  refine v_eq (loc' := [(0, .ref x), (1, .int (nI f)), (2, .int (nI l)), (3, .int (nI sp))]) rfl rfl rfl ?_
  refine v_aload_n (pc := 0) X dX3_splitCost_0 rfl 0 rfl ?_
  refine v_get (pc := 1) X in_X3 0 rfl rfl 2 (by decide) q207 (fun y h => h) rfl dX3_splitCost_1 ?_
  refine v_iload_n (pc := 4) X dX3_splitCost_4 rfl 1 rfl ?_
  refine v_iload_n (pc := 5) X dX3_splitCost_5 rfl 3 rfl ?_
  refine v_read (pc := 6) X ⟨_, List.Perm.refl _⟩ (r_S X c_X3_run (lw_S q846 q847 q95 q848) hdX3_run ⟨Nat.le_of_ble_eq_true rfl, Nat.le_of_ble_eq_true rfl⟩ rfl rfl (Nat.le_of_ble_eq_true rfl) dX3_splitCost_6 ⟨Nat.le_refl _, Nat.le_refl _⟩) (fun r6 hp6 => ?_)
  subst hp6
  refine v_iald (pc := 9) X 2 ka_15 rfl (by omega) (by decide) dX3_splitCost_9 ?_
  refine v_top (y := (nI a)) ha ?_
  refine v_aload_n (pc := 10) X dX3_splitCost_10 rfl 0 rfl ?_
  refine v_get (pc := 11) X in_X3 0 rfl rfl 2 (by decide) q207 (fun y h => h) rfl dX3_splitCost_11 ?_
  refine v_iload_n (pc := 14) X dX3_splitCost_14 rfl 3 rfl ?_
  refine v_iconst (pc := 15) (v := nI 1) X dX3_splitCost_15 rfl ?_
  refine v_iaddN (pc := 16) X dX3_splitCost_16 ?_
  refine v_iload_n (pc := 17) X dX3_splitCost_17 rfl 2 rfl ?_
  refine v_read (pc := 18) X ⟨_, List.Perm.refl _⟩ (r_S X c_X3_run (lw_S q846 q847 q95 q848) hdX3_run ⟨Nat.le_of_ble_eq_true rfl, Nat.le_of_ble_eq_true rfl⟩ rfl rfl (Nat.le_of_ble_eq_true rfl) dX3_splitCost_18 ⟨Nat.le_refl _, Nat.le_refl _⟩) (fun r18 hp18 => ?_)
  subst hp18
  refine v_iald (pc := 21) X 2 ka_15 rfl (by omega) (by decide) dX3_splitCost_21 ?_
  refine v_top (y := (nI b)) hb ?_
  refine v_iaddN (pc := 22) X dX3_splitCost_22 ?_
  refine v_aload_n (pc := 23) X dX3_splitCost_23 rfl 0 rfl ?_
  refine v_get (pc := 24) X in_X3 0 rfl rfl 0 (by decide) q204 (fun y h => h) rfl dX3_splitCost_24 ?_
  refine v_iload_n (pc := 27) X dX3_splitCost_27 rfl 1 rfl ?_
  refine v_iload_n (pc := 28) X dX3_splitCost_28 rfl 3 rfl ?_
  refine v_iload_n (pc := 29) X dX3_splitCost_29 rfl 2 rfl ?_
  refine v_read (pc := 30) X (at1 1 rfl) (r_SN X (c_X1_poured h9 (by omega) (by omega) (by omega)) q859 q91 q857 q858 hdX1_poured ⟨Nat.le_of_ble_eq_true rfl, Nat.le_of_ble_eq_true rfl⟩ rfl rfl (Nat.le_of_ble_eq_true rfl) dX3_splitCost_30 ⟨Nat.le_refl _, Nat.le_refl _⟩) (fun r30 hp30 => ?_)
  subst hp30
  refine v_iaddN (pc := 33) X dX3_splitCost_33 ?_
  exact v_iret (pc := 34) X hr dX3_splitCost_34 ⟨⟨_, rfl, rfl⟩, rfl⟩
theorem hdX3_reckon : yX3_reckon.cls = RX3 ∧ yX3_reckon.cls ≠ "java/lang/invoke/MethodHandle" ∧ yX3_reckon.cls ≠ "java/lang/invoke/VarHandle" ∧ (parseMethodDescriptor yX3_reckon.desc).map (fun d => d.parameters.length) = some 2 := by decide +kernel
set_option maxHeartbeats 4000000 in
theorem c_X3_reckon {l_ : Launch} {D : va_G} {dd : Nat → ClassId} {x : Nat} {ad : Nat → Nat} {σ : Tw} {f l e : Nat} {sd : Nat → Nat} (h9 : ∀ i, i < 9 → σ 0 i = nI (sd i)) (h89 : ∀ f s l, prN sd f s l ≤ 125000) (hf : f < l) (hl : l < 8) (hsub : ∀ f2 l2, f ≤ f2 → f2 ≤ l2 → l2 ≤ l → f2 ≠ f ∨ l2 ≠ l → RunIs sd σ e f2 l2) (he : σ 99 9 = nI e) (hroom : e + (Al sd f l).length ≤ 1000) : MW l_ D dd yX3_reckon cX3_reckon 9 none 2 0 0 46 [.ref x, .int (nI f), .int (nI l)] (kw x ad dd σ) (GV (kw x ad dd) (fun σ' => RunIs sd σ' (e + (Al sd f l).length) f l ∧ σ' 99 9 = nI (e + (Al sd f l).length) ∧ Ch cR [9] σ σ' ∧ Oth σ σ' (8 * f + l) ∧ ∀ k, k < e → σ' 7 k = σ 7 k)) := by
  refine MW.intro (by decide) (Nat.le_of_ble_eq_true rfl) (fun p_ e_ s_ m_ as_ bl_ me_ c_ A_ X hr hnm => ?_)
  have X : VX p_ s_ m_ as_ me_ c_ cX3_reckon 9 RX3 D dd A_ := X
  refine v_eq (loc' := [(0, .ref x), (1, .int (nI f)), (2, .int (nI l))]) rfl rfl rfl ?_
  refine v_iload_n (pc := 0) X dX3_reckon_0 rfl 1 rfl ?_
  refine v_iload_n (pc := 1) X dX3_reckon_1 rfl 2 rfl ?_
  refine v_read (pc := 2) X ⟨_, List.Perm.refl _⟩ (r_S X c_X3_run (lw_S q846 q847 q95 q848) hdX3_run ⟨Nat.le_of_ble_eq_true rfl, Nat.le_of_ble_eq_true rfl⟩ rfl rfl (Nat.le_of_ble_eq_true rfl) dX3_reckon_2 ⟨Nat.le_refl _, Nat.le_refl _⟩) (fun r2 hp2 => ?_)
  subst hp2
  refine v_istore_n (pc := 5) (loc' := [(3, .int (nI (8 * f + l))), (0, .ref x), (1, .int (nI f)), (2, .int (nI l))]) X dX3_reckon_5 rfl (by decide) rfl ?_
  refine v_aload_n (pc := 6) X dX3_reckon_6 rfl 1 rfl ?_
  refine v_get (pc := 7) X in_X3 0 rfl rfl 5 (by decide) q213 (fun y h => h) rfl dX3_reckon_7 ?_
  refine v_iload_n (pc := 10) X dX3_reckon_10 rfl 0 rfl ?_
  refine v_iconst (pc := 11) (v := nI 0) X dX3_reckon_11 rfl ?_
  refine v_iast (pc := 12) X 5 ka_18 rfl (by omega) (by decide) dX3_reckon_12 (kb_18 _) ?_
  refine v_aload_n (pc := 13) X dX3_reckon_13 rfl 1 rfl ?_
  refine v_get (pc := 14) X in_X3 0 rfl rfl 6 (by decide) q215 (fun y h => h) rfl dX3_reckon_14 ?_
  refine v_iload_n (pc := 17) X dX3_reckon_17 rfl 0 rfl ?_
  refine v_iconst (pc := 18) (v := nI 0) X dX3_reckon_18 rfl ?_
  refine v_iast (pc := 19) X 6 ka_19 rfl (by omega) (by decide) dX3_reckon_19 (kb_19 _) ?_
  refine v_aload_n (pc := 20) X dX3_reckon_20 rfl 1 rfl ?_
  refine v_get (pc := 21) X in_X3 0 rfl rfl 3 (by decide) q209 (fun y h => h) rfl dX3_reckon_21 ?_
  refine v_iload_n (pc := 24) X dX3_reckon_24 rfl 0 rfl ?_
  refine v_iconst (pc := 25) (v := nI 0) X dX3_reckon_25 rfl ?_
  refine v_iast (pc := 26) X 3 ka_16 rfl (by omega) (by decide) dX3_reckon_26 (kb_16 _) ?_
  refine v_aload_n (pc := 27) X dX3_reckon_27 rfl 1 rfl ?_
  refine v_get (pc := 28) X in_X3 0 rfl rfl 8 (by decide) q218 (fun y h => h) rfl dX3_reckon_28 ?_
  refine v_iload_n (pc := 31) X dX3_reckon_31 rfl 0 rfl ?_
  refine v_aload_n (pc := 32) X dX3_reckon_32 rfl 1 rfl ?_
  refine v_get (pc := 33) X in_X3 0 rfl rfl 9 (by decide) q219 (fun y h => h) rfl dX3_reckon_33 ?_
  refine v_top (y := (nI e)) he ?_
  refine v_iast (pc := 36) X 8 ka_8 rfl (by omega) (by decide) dX3_reckon_36 (kb_8 _) ?_
  refine v_iload_n (pc := 37) X dX3_reckon_37 rfl 2 rfl ?_
  refine v_istore (pc := 38) (loc' := [(4, .int (nI f)), (3, .int (nI (8 * f + l))), (0, .ref x), (1, .int (nI f)), (2, .int (nI l))]) X dX3_reckon_38 (by decide) rfl ?_
  refine v_sub [2, 3, 4, 1, 0] rfl ?_
  refine v_loop2 (S := Nat) (T := Tw) (fun i τ => kw x ad dd τ) (fun i τ => [(0, .ref x), (1, .int (nI f)), (2, .int (nI l)), (3, .int (nI (8 * f + l))), (4, .int (nI (f + i)))]) (fun i τ => f + i ≤ l ∧ RcI σ τ e (8 * f + l) (alF (Al sd) (fun s => prN sd f s l) f l i) (dpFold (Dv sd) (fun s => prN sd f s l) f l i) (0 < i)) (fun i τ => l - i) (fun i τ hI40 ih40 => ?_) 0 _ ⟨by omega, ((((Ch.rf _ _ _).row 18 _ (by decide) (by decide)).row 19 _ (by decide) (by decide)).row 16 _ (by decide) (by decide)).row 8 _ (by decide) (by decide), ((((Oth.rf σ _).row 18 _).row 19 _).row 16 _).row 8 _, upd_s _ _ _, he, SegIs.nil _ _, fun _ _ => rfl, upd_s _ _ _, (upd_s _ _ _).trans (by show nI 0 = nI (if f = l then 1 else 0); rw [if_neg (by omega)]), (upd_s _ _ _).trans (by show nI 0 = nI (if f = l then 1 else 0); rw [if_neg (by omega)]), fun z => by omega⟩
  obtain ⟨hk, hRc⟩ := hI40
  obtain ⟨c1, c2, c3, c4, c5, c6, c7, c8, c9, hc10⟩ := id hRc
  refine v_iload (pc := 40) X dX3_reckon_40 4 rfl ?_
  refine v_iload_n (pc := 42) X dX3_reckon_42 rfl 2 rfl ?_
  refine v_ic_geN (pc := 43) X (by omega) (by omega) 248 dX3_reckon_43 (by decide) (fun h43 => ?_) (fun h43 => ?_)
  · exact v_vret (pc := 248) X hr dX3_reckon_248 ⟨_, rfl, rfl, rc_done hf (by omega) hRc⟩
  · have hra : RunIs sd τ e f (f + i) := (hsub f (f + i) (Nat.le_refl _) (by omega) (by omega) (Or.inr (by omega))).keep (Nat.le_refl _) (fun r hr => c2 r hr _ (by omega)) c6
    have hrb : RunIs sd τ e (f + i + 1) l := (hsub (f + i + 1) l (by omega) (by omega) (Nat.le_refl _) (Or.inl (by omega))).keep (Nat.le_refl _) (fun r hr => c2 r hr _ (by omega)) c6
    obtain ⟨ha, oa, h8a, hoa, hsA⟩ := hra
    obtain ⟨hc, ob, h8b, hob, hsB⟩ := hrb
    have hal := Al_ok sd _ f (f + i) (by omega) (Nat.le_refl _)
    have hbl := Al_ok sd _ (f + i + 1) l (by omega) (Nat.le_refl _)
    have h18a := ha.2.2.2.1
    have h18b := hc.2.2.2.1
    rw [← hal.1] at h18a
    rw [← hbl.1] at h18b
    have h90 : ∀ i, i < 9 → τ 0 i = nI (sd i) := fun i hi => (congrFun (c1.1 0 (by decide) (by decide)) i).trans (h9 i hi)
    have hroom2 : e + (alF (Al sd) (fun s => prN sd f s l) f l i).length + (Al sd f (f + i)).length * (Al sd (f + i + 1) l).length ≤ 1000 := by
      have h1 := alF_le (T := Al sd) (pr := (fun s => prN sd f s l)) (f := f) (l := l) (show i + 1 ≤ l - f by omega)
      rw [← Al_eq sd hf] at h1
      have h2 : (alF (Al sd) (fun s => prN sd f s l) f l (i + 1)).length = (alF (Al sd) (fun s => prN sd f s l) f l i).length + (Al sd f (f + i)).length * (Al sd (f + i + 1) l).length := by
        show ((alF (Al sd) (fun s => prN sd f s l) f l i) ++ comb _ _ _).length = _
        rw [List.length_append, comb_len]
      omega
    have hw0 : f + i = f → (dpFold (Dv sd) (fun s => prN sd f s l) f l i).2.1 = 0 := fun z => by
      have : i = 0 := by omega
      subst this; rfl
    have hbv := fold_bd h89 (Nat.le_of_lt hf) hl i hk
    have hba := Dv_ok h89 (show f ≤ f + i by omega)
    have hbc := Dv_ok h89 (show f + i + 1 ≤ l by omega)
    have hbp := h89 f (f + i) l
    have hx1 : 125000 * (f + i - f) ≤ 875000 := by omega
    have hx2 : 125000 * (l - (f + i + 1)) ≤ 875000 := by omega
    refine v_iload_n (pc := 46) X dX3_reckon_46 rfl 1 rfl ?_
    refine v_iload (pc := 47) X dX3_reckon_47 4 rfl ?_
    refine v_read (pc := 49) X ⟨_, List.Perm.refl _⟩ (r_S X c_X3_run (lw_S q846 q847 q95 q848) hdX3_run ⟨Nat.le_of_ble_eq_true rfl, Nat.le_of_ble_eq_true rfl⟩ rfl rfl (Nat.le_of_ble_eq_true rfl) dX3_reckon_49 ⟨Nat.le_refl _, Nat.le_refl _⟩) (fun r49 hp49 => ?_)
    subst hp49
    refine v_istore (pc := 52) (loc' := [(5, .int (nI (8 * f + (f + i)))), (0, .ref x), (1, .int (nI f)), (2, .int (nI l)), (3, .int (nI (8 * f + l))), (4, .int (nI (f + i)))]) X dX3_reckon_52 (by decide) rfl ?_
    refine v_iload (pc := 54) X dX3_reckon_54 5 rfl ?_
    refine v_iconst (pc := 56) (v := nI 1) X dX3_reckon_56 rfl ?_
    refine v_iaddN (pc := 57) X dX3_reckon_57 ?_
    refine v_iload_n (pc := 58) X dX3_reckon_58 rfl 3 rfl ?_
    refine v_read (pc := 59) X ⟨_, List.Perm.refl _⟩ (r_S X c_X3_run (lw_S q846 q847 q95 q848) hdX3_run ⟨Nat.le_of_ble_eq_true rfl, Nat.le_of_ble_eq_true rfl⟩ rfl rfl (Nat.le_of_ble_eq_true rfl) dX3_reckon_59 ⟨Nat.le_refl _, Nat.le_refl _⟩) (fun r59 hp59 => ?_)
    subst hp59
    refine v_istore (pc := 62) (loc' := [(6, .int (nI (8 * ((f + i) + 1) + l))), (5, .int (nI (8 * f + (f + i)))), (0, .ref x), (1, .int (nI f)), (2, .int (nI l)), (3, .int (nI (8 * f + l))), (4, .int (nI (f + i)))]) X dX3_reckon_62 (by decide) rfl ?_
    refine v_aload_n (pc := 64) X dX3_reckon_64 rfl 2 rfl ?_
    refine v_iload_n (pc := 65) X dX3_reckon_65 rfl 3 rfl ?_
    refine v_iload_n (pc := 66) X dX3_reckon_66 rfl 4 rfl ?_
    refine v_iload (pc := 67) X dX3_reckon_67 6 rfl ?_
    refine v_read (pc := 69) X ⟨[], (by rw [List.append_nil])⟩ (r_V X (c_X3_splitCost h90 (by omega) (by omega) hl ha.1 hc.1) (List.mem_of_getElem? (i := 0) rfl) rfl rfl (lw_V q853 q854 q855 q95 q856) hdX3_splitCost ⟨Nat.le_of_ble_eq_true rfl, Nat.le_of_ble_eq_true rfl⟩ rfl rfl (Nat.le_of_ble_eq_true rfl) dX3_reckon_69 ⟨Nat.le_refl _, Nat.le_refl _⟩) (fun r69 hp69 => ?_)
    subst hp69
    refine v_nmN (fun cs hcs => ?_)
    refine v_istore (pc := 72) (loc' := [(7, .int (nI cs)), (6, .int (nI (8 * ((f + i) + 1) + l))), (5, .int (nI (8 * f + (f + i)))), (0, .ref x), (1, .int (nI f)), (2, .int (nI l)), (3, .int (nI (8 * f + l))), (4, .int (nI (f + i)))]) X dX3_reckon_72 (by decide) rfl ?_
    refine v_aload_n (pc := 74) X dX3_reckon_74 rfl 3 rfl ?_
    refine v_get (pc := 75) X in_X3 0 rfl rfl 6 (by decide) q215 (fun y h => h) rfl dX3_reckon_75 ?_
    refine v_iload (pc := 78) X dX3_reckon_78 2 rfl ?_
    refine v_iald (pc := 80) X 6 ka_19 rfl (by omega) (by decide) dX3_reckon_80 ?_
    refine v_top (y := (nI ((Dv sd f (f + i)).2.2.2.2))) ha.2.2.2.2 ?_
    refine v_aload_n (pc := 81) X dX3_reckon_81 rfl 3 rfl ?_
    refine v_get (pc := 82) X in_X3 0 rfl rfl 6 (by decide) q215 (fun y h => h) rfl dX3_reckon_82 ?_
    refine v_iload (pc := 85) X dX3_reckon_85 1 rfl ?_
    refine v_iald (pc := 87) X 6 ka_19 rfl (by omega) (by decide) dX3_reckon_87 ?_
    refine v_top (y := (nI ((Dv sd (f + i + 1) l).2.2.2.2))) hc.2.2.2.2 ?_
    refine v_imulN (pc := 88) X dX3_reckon_88 ?_
    refine v_nmN (fun mn hmn => ?_)
    refine v_istore (pc := 89) (loc' := [(8, .int (nI mn)), (7, .int (nI cs)), (6, .int (nI (8 * ((f + i) + 1) + l))), (5, .int (nI (8 * f + (f + i)))), (0, .ref x), (1, .int (nI f)), (2, .int (nI l)), (3, .int (nI (8 * f + l))), (4, .int (nI (f + i)))]) X dX3_reckon_89 (by decide) rfl ?_
    refine v_aload_n (pc := 91) X dX3_reckon_91 rfl 4 rfl ?_
    refine v_get (pc := 92) X in_X3 0 rfl rfl 5 (by decide) q213 (fun y h => h) rfl dX3_reckon_92 ?_
    refine v_iload_n (pc := 95) X dX3_reckon_95 rfl 7 rfl ?_
    refine v_dup2 (pc := 96) X dX3_reckon_96 rfl rfl ?_
    refine v_iald (pc := 97) X 5 ka_18 rfl (by omega) (by decide) dX3_reckon_97 ?_
    refine v_top (y := (nI ((dpFold (Dv sd) (fun s => prN sd f s l) f l i).2.2.2.1))) c8 ?_
    refine v_aload_n (pc := 98) X dX3_reckon_98 rfl 4 rfl ?_
    refine v_get (pc := 99) X in_X3 0 rfl rfl 5 (by decide) q213 (fun y h => h) rfl dX3_reckon_99 ?_
    refine v_iload (pc := 102) X dX3_reckon_102 3 rfl ?_
    refine v_iald (pc := 104) X 5 ka_18 rfl (by omega) (by decide) dX3_reckon_104 ?_
    refine v_top (y := (nI ((Dv sd f (f + i)).2.2.2.1))) ha.2.2.2.1 ?_
    refine v_aload_n (pc := 105) X dX3_reckon_105 rfl 4 rfl ?_
    refine v_get (pc := 106) X in_X3 0 rfl rfl 5 (by decide) q213 (fun y h => h) rfl dX3_reckon_106 ?_
    refine v_iload (pc := 109) X dX3_reckon_109 2 rfl ?_
    refine v_iald (pc := 111) X 5 ka_18 rfl (by omega) (by decide) dX3_reckon_111 ?_
    refine v_top (y := (nI ((Dv sd (f + i + 1) l).2.2.2.1))) hc.2.2.2.1 ?_
    refine v_imulN (pc := 112) X dX3_reckon_112 ?_
    refine v_iaddN (pc := 113) X dX3_reckon_113 ?_
    refine v_iast (pc := 114) X 5 ka_18 rfl (by omega) (by decide) dX3_reckon_114 (kb_18 _) ?_
    refine v_aload_n (pc := 115) X dX3_reckon_115 rfl 4 rfl ?_
    refine v_get (pc := 116) X in_X3 0 rfl rfl 3 (by decide) q209 (fun y h => h) rfl dX3_reckon_116 ?_
    refine v_iload_n (pc := 119) X dX3_reckon_119 rfl 7 rfl ?_
    refine v_aload_n (pc := 120) X dX3_reckon_120 rfl 4 rfl ?_
    refine v_get (pc := 121) X in_X3 0 rfl rfl 3 (by decide) q209 (fun y h => h) rfl dX3_reckon_121 ?_
    refine v_iload_n (pc := 124) X dX3_reckon_124 rfl 7 rfl ?_
    refine v_iald (pc := 125) X 3 ka_16 rfl (by omega) (by decide) dX3_reckon_125 ?_
    refine v_top (y := (nI ((dpFold (Dv sd) (fun s => prN sd f s l) f l i).2.1))) c7 ?_
    refine v_aload_n (pc := 126) X dX3_reckon_126 rfl 4 rfl ?_
    refine v_get (pc := 127) X in_X3 0 rfl rfl 3 (by decide) q209 (fun y h => h) rfl dX3_reckon_127 ?_
    refine v_iload (pc := 130) X dX3_reckon_130 3 rfl ?_
    refine v_iald (pc := 132) X 3 ka_16 rfl (by omega) (by decide) dX3_reckon_132 ?_
    refine v_top (y := (nI ((Dv sd f (f + i)).2.1))) ha.2.1 ?_
    refine v_aload_n (pc := 133) X dX3_reckon_133 rfl 4 rfl ?_
    refine v_get (pc := 134) X in_X3 0 rfl rfl 3 (by decide) q209 (fun y h => h) rfl dX3_reckon_134 ?_
    refine v_iload (pc := 137) X dX3_reckon_137 2 rfl ?_
    refine v_iald (pc := 139) X 3 ka_16 rfl (by omega) (by decide) dX3_reckon_139 ?_
    refine v_top (y := (nI ((Dv sd (f + i + 1) l).2.1))) hc.2.1 ?_
    refine v_iaddN (pc := 140) X dX3_reckon_140 ?_
    refine v_aload_n (pc := 141) X dX3_reckon_141 rfl 4 rfl ?_
    refine v_get (pc := 142) X in_X3 0 rfl rfl 0 (by decide) q204 (fun y h => h) rfl dX3_reckon_142 ?_
    refine v_iload_n (pc := 145) X dX3_reckon_145 rfl 5 rfl ?_
    refine v_iload (pc := 146) X dX3_reckon_146 8 rfl ?_
    refine v_iload_n (pc := 148) X dX3_reckon_148 rfl 6 rfl ?_
    refine v_read (pc := 149) X (at1 1 rfl) (r_SN X (c_X1_poured h90 (by omega) (by omega) (by omega)) q859 q91 q857 q858 hdX1_poured ⟨Nat.le_of_ble_eq_true rfl, Nat.le_of_ble_eq_true rfl⟩ rfl rfl (Nat.le_of_ble_eq_true rfl) dX3_reckon_149 ⟨Nat.le_refl _, Nat.le_refl _⟩) (fun r149 hp149 => ?_)
    subst hp149
    refine v_iaddN (pc := 152) X dX3_reckon_152 ?_
    refine v_maxN (pc := 153) X q841 (by omega) (by omega) ⟨Nat.le_of_ble_eq_true rfl, Nat.le_of_ble_eq_true rfl⟩ (Nat.le_of_ble_eq_true rfl) ⟨Nat.zero_le _, Nat.zero_le _⟩ dX3_reckon_153 ?_
    refine v_iast (pc := 156) X 3 ka_16 rfl (by omega) (by decide) dX3_reckon_156 (kb_16 _) ?_
    refine v_iload (pc := 157) X dX3_reckon_157 8 rfl ?_
    refine v_iload_n (pc := 159) X dX3_reckon_159 rfl 5 rfl ?_
    refine v_ic_eqN (pc := 160) X (by omega) (by omega) 174 dX3_reckon_160 (by decide) (fun h160 => ?_) (fun h160 => ?_)
    · refine v_aload_n (pc := 174) X dX3_reckon_174 rfl 4 rfl ?_
      refine v_get (pc := 175) X in_X3 0 rfl rfl 2 (by decide) q207 (fun y h => h) rfl dX3_reckon_175 ?_
      refine v_iload_n (pc := 178) X dX3_reckon_178 rfl 7 rfl ?_
      refine v_iload (pc := 179) X dX3_reckon_179 1 rfl ?_
      refine v_iast (pc := 181) X 2 ka_15 rfl (by omega) (by decide) dX3_reckon_181 (kb_15 _) ?_
      refine v_aload_n (pc := 182) X dX3_reckon_182 rfl 4 rfl ?_
      refine v_get (pc := 183) X in_X3 0 rfl rfl 4 (by decide) q211 (fun y h => h) rfl dX3_reckon_183 ?_
      refine v_iload_n (pc := 186) X dX3_reckon_186 rfl 7 rfl ?_
      refine v_iload (pc := 187) X dX3_reckon_187 8 rfl ?_
      refine v_iast (pc := 189) X 4 ka_17 rfl (by omega) (by decide) dX3_reckon_189 (kb_17 _) ?_
      refine v_aload_n (pc := 190) X dX3_reckon_190 rfl 4 rfl ?_
      refine v_get (pc := 191) X in_X3 0 rfl rfl 6 (by decide) q215 (fun y h => h) rfl dX3_reckon_191 ?_
      refine v_iload_n (pc := 194) X dX3_reckon_194 rfl 7 rfl ?_
      refine v_iconst (pc := 195) (v := nI 0) X dX3_reckon_195 rfl ?_
      refine v_iast (pc := 196) X 6 ka_19 rfl (by omega) (by decide) dX3_reckon_196 (kb_19 _) ?_
      refine v_aload_n (pc := 197) X dX3_reckon_197 rfl 4 rfl ?_
      refine v_get (pc := 198) X in_X3 0 rfl rfl 6 (by decide) q215 (fun y h => h) rfl dX3_reckon_198 ?_
      refine v_iload_n (pc := 201) X dX3_reckon_201 rfl 7 rfl ?_
      refine v_dup2 (pc := 202) X dX3_reckon_202 rfl rfl ?_
      refine v_iald (pc := 203) X 6 ka_19 rfl (by omega) (by decide) dX3_reckon_203 ?_
      refine v_top (y := (nI 0)) (upd_s _ _ _) ?_
      refine v_iload (pc := 204) X dX3_reckon_204 1 rfl ?_
      refine v_aload_n (pc := 206) X dX3_reckon_206 rfl 4 rfl ?_
      refine v_get (pc := 207) X in_X3 0 rfl rfl 2 (by decide) q207 (fun y h => h) rfl dX3_reckon_207 ?_
      refine v_iload_n (pc := 210) X dX3_reckon_210 rfl 7 rfl ?_
      refine v_iald (pc := 211) X 2 ka_15 rfl (by omega) (by decide) dX3_reckon_211 ?_
      refine v_top (y := (nI cs)) (upd_s _ _ _) ?_
      refine v_ic_neN (pc := 212) X (by omega) (by omega) 220 dX3_reckon_212 (by decide) (fun h212 => absurd rfl h212) (fun h212 => ?_)
      refine v_iload (pc := 215) X dX3_reckon_215 0 rfl ?_
      refine v_goto (pc := 217) X 221 dX3_reckon_217 (by decide) ?_
      refine v_iaddN (pc := 221) X dX3_reckon_221 ?_
      refine v_iast (pc := 222) X 6 ka_19 rfl (by omega) (by decide) dX3_reckon_222 (kb_19 _) ?_
      refine v_aload_n (pc := 223) X dX3_reckon_223 rfl 4 rfl ?_
      refine v_iload (pc := 224) X dX3_reckon_224 3 rfl ?_
      refine v_iload (pc := 226) X dX3_reckon_226 2 rfl ?_
      refine v_aload_n (pc := 228) X dX3_reckon_228 rfl 4 rfl ?_
      refine v_get (pc := 229) X in_X3 0 rfl rfl 0 (by decide) q204 (fun y h => h) rfl dX3_reckon_229 ?_
      refine v_iload_n (pc := 232) X dX3_reckon_232 rfl 5 rfl ?_
      refine v_iload (pc := 233) X dX3_reckon_233 8 rfl ?_
      refine v_iload_n (pc := 235) X dX3_reckon_235 rfl 6 rfl ?_
      refine v_read (pc := 236) X (at1 1 rfl) (r_SN X (c_X1_poured h90 (by omega) (by omega) (by omega)) q859 q91 q857 q858 hdX1_poured ⟨Nat.le_of_ble_eq_true rfl, Nat.le_of_ble_eq_true rfl⟩ rfl rfl (Nat.le_of_ble_eq_true rfl) dX3_reckon_236 ⟨Nat.le_refl _, Nat.le_refl _⟩) (fun r236 hp236 => ?_)
      subst hp236
      refine v_svV (pc := 239) X (G := (kw x ad dd)) (wr := []) (perm_nil _) (r_V X (c_X3_lists (A := Al sd f (f + i)) (B := Al sd (f + i + 1) l) (e := e + (alF (Al sd) (fun s => prN sd f s l) f l i).length) (by omega) (by omega) ((upd_n (by omega)).trans h18a) ((upd_n (by omega)).trans h18b) h8a h8b hsA hsB (by omega) (by omega) c4 hroom2) (List.mem_of_getElem? (i := 0) rfl) rfl rfl (lw_V q860 q862 qs6 q95 q863) hdX3_lists ⟨Nat.le_of_ble_eq_true rfl, Nat.le_of_ble_eq_true rfl⟩ rfl rfl (Nat.le_of_ble_eq_true rfl) dX3_reckon_239 ⟨Nat.le_refl _, Nat.le_refl _⟩) (fun σ239 hp239 => ?_)
      rw [List.append_nil]
      refine v_iinc (pc := 242) (v := (nI (f + i + 1))) (loc' := [(4, .int (nI (f + i + 1))), (8, .int (nI mn)), (7, .int (nI cs)), (6, .int (nI (8 * ((f + i) + 1) + l))), (5, .int (nI (8 * f + (f + i)))), (0, .ref x), (1, .int (nI f)), (2, .int (nI l)), (3, .int (nI (8 * f + l)))]) X dX3_reckon_242 8 rfl (nI_add _ 1) (by decide) rfl ?_
      refine v_goto (pc := 245) X 40 dX3_reckon_245 (by decide) ?_
      refine v_sub [5, 6, 7, 8, 0] rfl ?_
      exact ih40 (i + 1) _ ⟨by omega, (rc_next (by rw [dpS hw0]; subst hcs; subst hmn; exact ⟨((((((c1.row 18 _ (by decide) (by decide)).row 16 _ (by decide) (by decide)).row 15 _ (by decide) (by decide)).row 17 _ (by decide) (by decide)).row 19 _ (by decide) (by decide)).row 19 _ (by decide) (by decide)), ((((((c2.row 18 _).row 16 _).row 15 _).row 17 _).row 19 _).row 19 _), c3, c4, c5, c6, upd_s _ _ _, upd_s _ _ _, (upd_s _ _ _).trans (by dsimp only; rw [if_pos (Or.inl h160), Nat.zero_add]), fun _ => ⟨(upd_s _ _ _).trans (by dsimp only; rw [if_pos (Or.inl h160)]), (upd_s _ _ _).trans (by dsimp only; rw [if_pos (Or.inl h160)])⟩⟩) hp239 : RcI σ σ239 e (8 * f + l) ((alF (Al sd) (fun s => prN sd f s l) f l i) ++ comb (Al sd f (f + i)) (Al sd (f + i + 1) l) (prN sd f (f + i) l)) (dpStep (Dv sd f (f + i)) (Dv sd (f + i + 1) l) (prN sd f (f + i) l) (f + i) (f + i = f) (dpFold (Dv sd) (fun s => prN sd f s l) f l i)) (0 < i + 1))⟩ (by omega)
    · refine v_iload (pc := 163) X dX3_reckon_163 1 rfl ?_
      refine v_aload_n (pc := 165) X dX3_reckon_165 rfl 4 rfl ?_
      refine v_get (pc := 166) X in_X3 0 rfl rfl 2 (by decide) q207 (fun y h => h) rfl dX3_reckon_166 ?_
      refine v_iload_n (pc := 169) X dX3_reckon_169 rfl 7 rfl ?_
      refine v_iald (pc := 170) X 2 ka_15 rfl (by omega) (by decide) dX3_reckon_170 ?_
      refine v_top (y := (nI ((dpFold (Dv sd) (fun s => prN sd f s l) f l i).1))) (hc10 (by omega)).1 ?_
      refine v_ic_geN (pc := 171) X (by omega) (by omega) 197 dX3_reckon_171 (by decide) (fun h171 => ?_) (fun h171 => ?_)
      · refine v_aload_n (pc := 197) X dX3_reckon_197 rfl 4 rfl ?_
        refine v_get (pc := 198) X in_X3 0 rfl rfl 6 (by decide) q215 (fun y h => h) rfl dX3_reckon_198 ?_
        refine v_iload_n (pc := 201) X dX3_reckon_201 rfl 7 rfl ?_
        refine v_dup2 (pc := 202) X dX3_reckon_202 rfl rfl ?_
        refine v_iald (pc := 203) X 6 ka_19 rfl (by omega) (by decide) dX3_reckon_203 ?_
        refine v_top (y := (nI ((dpFold (Dv sd) (fun s => prN sd f s l) f l i).2.2.2.2))) c9 ?_
        refine v_iload (pc := 204) X dX3_reckon_204 1 rfl ?_
        refine v_aload_n (pc := 206) X dX3_reckon_206 rfl 4 rfl ?_
        refine v_get (pc := 207) X in_X3 0 rfl rfl 2 (by decide) q207 (fun y h => h) rfl dX3_reckon_207 ?_
        refine v_iload_n (pc := 210) X dX3_reckon_210 rfl 7 rfl ?_
        refine v_iald (pc := 211) X 2 ka_15 rfl (by omega) (by decide) dX3_reckon_211 ?_
        refine v_top (y := (nI ((dpFold (Dv sd) (fun s => prN sd f s l) f l i).1))) (hc10 (by omega)).1 ?_
        refine v_ic_neN (pc := 212) X (by omega) (by omega) 220 dX3_reckon_212 (by decide) (fun h212 => ?_) (fun h212 => ?_)
        · refine v_iconst (pc := 220) (v := nI 0) X dX3_reckon_220 rfl ?_
          refine v_iaddN (pc := 221) X dX3_reckon_221 ?_
          refine v_iast (pc := 222) X 6 ka_19 rfl (by omega) (by decide) dX3_reckon_222 (kb_19 _) ?_
          refine v_aload_n (pc := 223) X dX3_reckon_223 rfl 4 rfl ?_
          refine v_iload (pc := 224) X dX3_reckon_224 3 rfl ?_
          refine v_iload (pc := 226) X dX3_reckon_226 2 rfl ?_
          refine v_aload_n (pc := 228) X dX3_reckon_228 rfl 4 rfl ?_
          refine v_get (pc := 229) X in_X3 0 rfl rfl 0 (by decide) q204 (fun y h => h) rfl dX3_reckon_229 ?_
          refine v_iload_n (pc := 232) X dX3_reckon_232 rfl 5 rfl ?_
          refine v_iload (pc := 233) X dX3_reckon_233 8 rfl ?_
          refine v_iload_n (pc := 235) X dX3_reckon_235 rfl 6 rfl ?_
          refine v_read (pc := 236) X (at1 1 rfl) (r_SN X (c_X1_poured h90 (by omega) (by omega) (by omega)) q859 q91 q857 q858 hdX1_poured ⟨Nat.le_of_ble_eq_true rfl, Nat.le_of_ble_eq_true rfl⟩ rfl rfl (Nat.le_of_ble_eq_true rfl) dX3_reckon_236 ⟨Nat.le_refl _, Nat.le_refl _⟩) (fun r236 hp236 => ?_)
          subst hp236
          refine v_svV (pc := 239) X (G := (kw x ad dd)) (wr := []) (perm_nil _) (r_V X (c_X3_lists (A := Al sd f (f + i)) (B := Al sd (f + i + 1) l) (e := e + (alF (Al sd) (fun s => prN sd f s l) f l i).length) (by omega) (by omega) ((upd_n (by omega)).trans h18a) ((upd_n (by omega)).trans h18b) h8a h8b hsA hsB (by omega) (by omega) c4 hroom2) (List.mem_of_getElem? (i := 0) rfl) rfl rfl (lw_V q860 q862 qs6 q95 q863) hdX3_lists ⟨Nat.le_of_ble_eq_true rfl, Nat.le_of_ble_eq_true rfl⟩ rfl rfl (Nat.le_of_ble_eq_true rfl) dX3_reckon_239 ⟨Nat.le_refl _, Nat.le_refl _⟩) (fun σ239 hp239 => ?_)
          rw [List.append_nil]
          refine v_iinc (pc := 242) (v := (nI (f + i + 1))) (loc' := [(4, .int (nI (f + i + 1))), (8, .int (nI mn)), (7, .int (nI cs)), (6, .int (nI (8 * ((f + i) + 1) + l))), (5, .int (nI (8 * f + (f + i)))), (0, .ref x), (1, .int (nI f)), (2, .int (nI l)), (3, .int (nI (8 * f + l)))]) X dX3_reckon_242 8 rfl (nI_add _ 1) (by decide) rfl ?_
          refine v_goto (pc := 245) X 40 dX3_reckon_245 (by decide) ?_
          refine v_sub [5, 6, 7, 8, 0] rfl ?_
          exact ih40 (i + 1) _ ⟨by omega, (rc_next (by rw [dpS hw0]; subst hcs; subst hmn; exact ⟨(((c1.row 18 _ (by decide) (by decide)).row 16 _ (by decide) (by decide)).row 19 _ (by decide) (by decide)), ((((c2.row 18 _).row 16 _)).row 19 _), c3, c4, c5, c6, upd_s _ _ _, upd_s _ _ _, (upd_s _ _ _).trans (by dsimp only; rw [if_neg (fun z => z.elim h160 (fun z => absurd z (Nat.not_lt.mpr h171))), if_neg h212, Nat.add_zero]), fun _ => ⟨(hc10 (by omega)).1.trans (by dsimp only; rw [if_neg (fun z => z.elim h160 (fun z => absurd z (Nat.not_lt.mpr h171)))]), (hc10 (by omega)).2.trans (by dsimp only; rw [if_neg (fun z => z.elim h160 (fun z => absurd z (Nat.not_lt.mpr h171)))])⟩⟩) hp239 : RcI σ σ239 e (8 * f + l) ((alF (Al sd) (fun s => prN sd f s l) f l i) ++ comb (Al sd f (f + i)) (Al sd (f + i + 1) l) (prN sd f (f + i) l)) (dpStep (Dv sd f (f + i)) (Dv sd (f + i + 1) l) (prN sd f (f + i) l) (f + i) (f + i = f) (dpFold (Dv sd) (fun s => prN sd f s l) f l i)) (0 < i + 1))⟩ (by omega)
        · refine v_iload (pc := 215) X dX3_reckon_215 0 rfl ?_
          refine v_goto (pc := 217) X 221 dX3_reckon_217 (by decide) ?_
          refine v_iaddN (pc := 221) X dX3_reckon_221 ?_
          refine v_iast (pc := 222) X 6 ka_19 rfl (by omega) (by decide) dX3_reckon_222 (kb_19 _) ?_
          refine v_aload_n (pc := 223) X dX3_reckon_223 rfl 4 rfl ?_
          refine v_iload (pc := 224) X dX3_reckon_224 3 rfl ?_
          refine v_iload (pc := 226) X dX3_reckon_226 2 rfl ?_
          refine v_aload_n (pc := 228) X dX3_reckon_228 rfl 4 rfl ?_
          refine v_get (pc := 229) X in_X3 0 rfl rfl 0 (by decide) q204 (fun y h => h) rfl dX3_reckon_229 ?_
          refine v_iload_n (pc := 232) X dX3_reckon_232 rfl 5 rfl ?_
          refine v_iload (pc := 233) X dX3_reckon_233 8 rfl ?_
          refine v_iload_n (pc := 235) X dX3_reckon_235 rfl 6 rfl ?_
          refine v_read (pc := 236) X (at1 1 rfl) (r_SN X (c_X1_poured h90 (by omega) (by omega) (by omega)) q859 q91 q857 q858 hdX1_poured ⟨Nat.le_of_ble_eq_true rfl, Nat.le_of_ble_eq_true rfl⟩ rfl rfl (Nat.le_of_ble_eq_true rfl) dX3_reckon_236 ⟨Nat.le_refl _, Nat.le_refl _⟩) (fun r236 hp236 => ?_)
          subst hp236
          refine v_svV (pc := 239) X (G := (kw x ad dd)) (wr := []) (perm_nil _) (r_V X (c_X3_lists (A := Al sd f (f + i)) (B := Al sd (f + i + 1) l) (e := e + (alF (Al sd) (fun s => prN sd f s l) f l i).length) (by omega) (by omega) ((upd_n (by omega)).trans h18a) ((upd_n (by omega)).trans h18b) h8a h8b hsA hsB (by omega) (by omega) c4 hroom2) (List.mem_of_getElem? (i := 0) rfl) rfl rfl (lw_V q860 q862 qs6 q95 q863) hdX3_lists ⟨Nat.le_of_ble_eq_true rfl, Nat.le_of_ble_eq_true rfl⟩ rfl rfl (Nat.le_of_ble_eq_true rfl) dX3_reckon_239 ⟨Nat.le_refl _, Nat.le_refl _⟩) (fun σ239 hp239 => ?_)
          rw [List.append_nil]
          refine v_iinc (pc := 242) (v := (nI (f + i + 1))) (loc' := [(4, .int (nI (f + i + 1))), (8, .int (nI mn)), (7, .int (nI cs)), (6, .int (nI (8 * ((f + i) + 1) + l))), (5, .int (nI (8 * f + (f + i)))), (0, .ref x), (1, .int (nI f)), (2, .int (nI l)), (3, .int (nI (8 * f + l)))]) X dX3_reckon_242 8 rfl (nI_add _ 1) (by decide) rfl ?_
          refine v_goto (pc := 245) X 40 dX3_reckon_245 (by decide) ?_
          refine v_sub [5, 6, 7, 8, 0] rfl ?_
          exact ih40 (i + 1) _ ⟨by omega, (rc_next (by rw [dpS hw0]; subst hcs; subst hmn; exact ⟨(((c1.row 18 _ (by decide) (by decide)).row 16 _ (by decide) (by decide)).row 19 _ (by decide) (by decide)), ((((c2.row 18 _).row 16 _)).row 19 _), c3, c4, c5, c6, upd_s _ _ _, upd_s _ _ _, (upd_s _ _ _).trans (by dsimp only; rw [if_neg (fun z => z.elim h160 (fun z => absurd z (Nat.not_lt.mpr h171))), if_pos h212]), fun _ => ⟨(hc10 (by omega)).1.trans (by dsimp only; rw [if_neg (fun z => z.elim h160 (fun z => absurd z (Nat.not_lt.mpr h171)))]), (hc10 (by omega)).2.trans (by dsimp only; rw [if_neg (fun z => z.elim h160 (fun z => absurd z (Nat.not_lt.mpr h171)))])⟩⟩) hp239 : RcI σ σ239 e (8 * f + l) ((alF (Al sd) (fun s => prN sd f s l) f l i) ++ comb (Al sd f (f + i)) (Al sd (f + i + 1) l) (prN sd f (f + i) l)) (dpStep (Dv sd f (f + i)) (Dv sd (f + i + 1) l) (prN sd f (f + i) l) (f + i) (f + i = f) (dpFold (Dv sd) (fun s => prN sd f s l) f l i)) (0 < i + 1))⟩ (by omega)
      · refine v_aload_n (pc := 174) X dX3_reckon_174 rfl 4 rfl ?_
        refine v_get (pc := 175) X in_X3 0 rfl rfl 2 (by decide) q207 (fun y h => h) rfl dX3_reckon_175 ?_
        refine v_iload_n (pc := 178) X dX3_reckon_178 rfl 7 rfl ?_
        refine v_iload (pc := 179) X dX3_reckon_179 1 rfl ?_
        refine v_iast (pc := 181) X 2 ka_15 rfl (by omega) (by decide) dX3_reckon_181 (kb_15 _) ?_
        refine v_aload_n (pc := 182) X dX3_reckon_182 rfl 4 rfl ?_
        refine v_get (pc := 183) X in_X3 0 rfl rfl 4 (by decide) q211 (fun y h => h) rfl dX3_reckon_183 ?_
        refine v_iload_n (pc := 186) X dX3_reckon_186 rfl 7 rfl ?_
        refine v_iload (pc := 187) X dX3_reckon_187 8 rfl ?_
        refine v_iast (pc := 189) X 4 ka_17 rfl (by omega) (by decide) dX3_reckon_189 (kb_17 _) ?_
        refine v_aload_n (pc := 190) X dX3_reckon_190 rfl 4 rfl ?_
        refine v_get (pc := 191) X in_X3 0 rfl rfl 6 (by decide) q215 (fun y h => h) rfl dX3_reckon_191 ?_
        refine v_iload_n (pc := 194) X dX3_reckon_194 rfl 7 rfl ?_
        refine v_iconst (pc := 195) (v := nI 0) X dX3_reckon_195 rfl ?_
        refine v_iast (pc := 196) X 6 ka_19 rfl (by omega) (by decide) dX3_reckon_196 (kb_19 _) ?_
        refine v_aload_n (pc := 197) X dX3_reckon_197 rfl 4 rfl ?_
        refine v_get (pc := 198) X in_X3 0 rfl rfl 6 (by decide) q215 (fun y h => h) rfl dX3_reckon_198 ?_
        refine v_iload_n (pc := 201) X dX3_reckon_201 rfl 7 rfl ?_
        refine v_dup2 (pc := 202) X dX3_reckon_202 rfl rfl ?_
        refine v_iald (pc := 203) X 6 ka_19 rfl (by omega) (by decide) dX3_reckon_203 ?_
        refine v_top (y := (nI 0)) (upd_s _ _ _) ?_
        refine v_iload (pc := 204) X dX3_reckon_204 1 rfl ?_
        refine v_aload_n (pc := 206) X dX3_reckon_206 rfl 4 rfl ?_
        refine v_get (pc := 207) X in_X3 0 rfl rfl 2 (by decide) q207 (fun y h => h) rfl dX3_reckon_207 ?_
        refine v_iload_n (pc := 210) X dX3_reckon_210 rfl 7 rfl ?_
        refine v_iald (pc := 211) X 2 ka_15 rfl (by omega) (by decide) dX3_reckon_211 ?_
        refine v_top (y := (nI cs)) (upd_s _ _ _) ?_
        refine v_ic_neN (pc := 212) X (by omega) (by omega) 220 dX3_reckon_212 (by decide) (fun h212 => absurd rfl h212) (fun h212 => ?_)
        refine v_iload (pc := 215) X dX3_reckon_215 0 rfl ?_
        refine v_goto (pc := 217) X 221 dX3_reckon_217 (by decide) ?_
        refine v_iaddN (pc := 221) X dX3_reckon_221 ?_
        refine v_iast (pc := 222) X 6 ka_19 rfl (by omega) (by decide) dX3_reckon_222 (kb_19 _) ?_
        refine v_aload_n (pc := 223) X dX3_reckon_223 rfl 4 rfl ?_
        refine v_iload (pc := 224) X dX3_reckon_224 3 rfl ?_
        refine v_iload (pc := 226) X dX3_reckon_226 2 rfl ?_
        refine v_aload_n (pc := 228) X dX3_reckon_228 rfl 4 rfl ?_
        refine v_get (pc := 229) X in_X3 0 rfl rfl 0 (by decide) q204 (fun y h => h) rfl dX3_reckon_229 ?_
        refine v_iload_n (pc := 232) X dX3_reckon_232 rfl 5 rfl ?_
        refine v_iload (pc := 233) X dX3_reckon_233 8 rfl ?_
        refine v_iload_n (pc := 235) X dX3_reckon_235 rfl 6 rfl ?_
        refine v_read (pc := 236) X (at1 1 rfl) (r_SN X (c_X1_poured h90 (by omega) (by omega) (by omega)) q859 q91 q857 q858 hdX1_poured ⟨Nat.le_of_ble_eq_true rfl, Nat.le_of_ble_eq_true rfl⟩ rfl rfl (Nat.le_of_ble_eq_true rfl) dX3_reckon_236 ⟨Nat.le_refl _, Nat.le_refl _⟩) (fun r236 hp236 => ?_)
        subst hp236
        refine v_svV (pc := 239) X (G := (kw x ad dd)) (wr := []) (perm_nil _) (r_V X (c_X3_lists (A := Al sd f (f + i)) (B := Al sd (f + i + 1) l) (e := e + (alF (Al sd) (fun s => prN sd f s l) f l i).length) (by omega) (by omega) ((upd_n (by omega)).trans h18a) ((upd_n (by omega)).trans h18b) h8a h8b hsA hsB (by omega) (by omega) c4 hroom2) (List.mem_of_getElem? (i := 0) rfl) rfl rfl (lw_V q860 q862 qs6 q95 q863) hdX3_lists ⟨Nat.le_of_ble_eq_true rfl, Nat.le_of_ble_eq_true rfl⟩ rfl rfl (Nat.le_of_ble_eq_true rfl) dX3_reckon_239 ⟨Nat.le_refl _, Nat.le_refl _⟩) (fun σ239 hp239 => ?_)
        rw [List.append_nil]
        refine v_iinc (pc := 242) (v := (nI (f + i + 1))) (loc' := [(4, .int (nI (f + i + 1))), (8, .int (nI mn)), (7, .int (nI cs)), (6, .int (nI (8 * ((f + i) + 1) + l))), (5, .int (nI (8 * f + (f + i)))), (0, .ref x), (1, .int (nI f)), (2, .int (nI l)), (3, .int (nI (8 * f + l)))]) X dX3_reckon_242 8 rfl (nI_add _ 1) (by decide) rfl ?_
        refine v_goto (pc := 245) X 40 dX3_reckon_245 (by decide) ?_
        refine v_sub [5, 6, 7, 8, 0] rfl ?_
        exact ih40 (i + 1) _ ⟨by omega, (rc_next (by rw [dpS hw0]; subst hcs; subst hmn; exact ⟨((((((c1.row 18 _ (by decide) (by decide)).row 16 _ (by decide) (by decide)).row 15 _ (by decide) (by decide)).row 17 _ (by decide) (by decide)).row 19 _ (by decide) (by decide)).row 19 _ (by decide) (by decide)), ((((((c2.row 18 _).row 16 _).row 15 _).row 17 _).row 19 _).row 19 _), c3, c4, c5, c6, upd_s _ _ _, upd_s _ _ _, (upd_s _ _ _).trans (by dsimp only; rw [if_pos (Or.inr h171), Nat.zero_add]), fun _ => ⟨(upd_s _ _ _).trans (by dsimp only; rw [if_pos (Or.inr h171)]), (upd_s _ _ _).trans (by dsimp only; rw [if_pos (Or.inr h171)])⟩⟩) hp239 : RcI σ σ239 e (8 * f + l) ((alF (Al sd) (fun s => prN sd f s l) f l i) ++ comb (Al sd f (f + i)) (Al sd (f + i + 1) l) (prN sd f (f + i) l)) (dpStep (Dv sd f (f + i)) (Dv sd (f + i + 1) l) (prN sd f (f + i) l) (f + i) (f + i = f) (dpFold (Dv sd) (fun s => prN sd f s l) f l i)) (0 < i + 1))⟩ (by omega)
theorem hdX3_single : yX3_single.cls = RX3 ∧ yX3_single.cls ≠ "java/lang/invoke/MethodHandle" ∧ yX3_single.cls ≠ "java/lang/invoke/VarHandle" ∧ (parseMethodDescriptor yX3_single.desc).map (fun d => d.parameters.length) = some 1 := by decide +kernel
set_option maxHeartbeats 4000000 in
theorem c_X3_single {l_ : Launch} {D : va_G} {dd : Nat → ClassId} {x : Nat} {ad : Nat → Nat} {σ : Tw} {v e : Nat} {sd : Nat → Nat} (hv : v < 8) (he : σ 99 9 = nI e) (h1 : e < 1000) : MW l_ D dd yX3_single cX3_single 3 none 1 0 0 21 [.ref x, .int (nI v)] (kw x ad dd σ) (GV (kw x ad dd) (fun σ' => RunIs sd σ' (e + 1) v v ∧ σ' 99 9 = nI (e + 1) ∧ Ch cR [9] σ σ' ∧ Oth σ σ' (8 * v + v) ∧ ∀ k, k < e → σ' 7 k = σ 7 k)) := by
  refine MW.intro (by decide) (Nat.le_of_ble_eq_true rfl) (fun p_ e_ s_ m_ as_ bl_ me_ c_ A_ X hr hnm => ?_)
  have X : VX p_ s_ m_ as_ me_ c_ cX3_single 3 RX3 D dd A_ := X
  refine v_eq (loc' := [(0, .ref x), (1, .int (nI v))]) rfl rfl rfl ?_
  refine v_iload_n (pc := 0) X dX3_single_0 rfl 1 rfl ?_
  refine v_iload_n (pc := 1) X dX3_single_1 rfl 1 rfl ?_
  refine v_read (pc := 2) X ⟨_, List.Perm.refl _⟩ (r_S X c_X3_run (lw_S q846 q847 q95 q848) hdX3_run ⟨Nat.le_of_ble_eq_true rfl, Nat.le_of_ble_eq_true rfl⟩ rfl rfl (Nat.le_of_ble_eq_true rfl) dX3_single_2 ⟨Nat.le_refl _, Nat.le_refl _⟩) (fun r2 hp2 => ?_)
  subst hp2
  refine v_istore_n (pc := 5) (loc' := [(2, .int (nI (8 * v + v))), (0, .ref x), (1, .int (nI v))]) X dX3_single_5 rfl (by decide) rfl ?_
  refine v_aload_n (pc := 6) X dX3_single_6 rfl 1 rfl ?_
  refine v_get (pc := 7) X in_X3 0 rfl rfl 2 (by decide) q207 (fun y h => h) rfl dX3_single_7 ?_
  refine v_iload_n (pc := 10) X dX3_single_10 rfl 0 rfl ?_
  refine v_iconst (pc := 11) (v := nI 0) X dX3_single_11 rfl ?_
  refine v_iast (pc := 12) X 2 ka_15 rfl (by omega) (by decide) dX3_single_12 (kb_15 _) ?_
  refine v_aload_n (pc := 13) X dX3_single_13 rfl 1 rfl ?_
  refine v_get (pc := 14) X in_X3 0 rfl rfl 3 (by decide) q209 (fun y h => h) rfl dX3_single_14 ?_
  refine v_iload_n (pc := 17) X dX3_single_17 rfl 0 rfl ?_
  refine v_iconst (pc := 18) (v := nI 0) X dX3_single_18 rfl ?_
  refine v_iast (pc := 19) X 3 ka_16 rfl (by omega) (by decide) dX3_single_19 (kb_16 _) ?_
  refine v_aload_n (pc := 20) X dX3_single_20 rfl 1 rfl ?_
  refine v_get (pc := 21) X in_X3 0 rfl rfl 4 (by decide) q211 (fun y h => h) rfl dX3_single_21 ?_
  refine v_iload_n (pc := 24) X dX3_single_24 rfl 0 rfl ?_
  refine v_iload_n (pc := 25) X dX3_single_25 rfl 2 rfl ?_
  refine v_iast (pc := 26) X 4 ka_17 rfl (by omega) (by decide) dX3_single_26 (kb_17 _) ?_
  refine v_aload_n (pc := 27) X dX3_single_27 rfl 1 rfl ?_
  refine v_get (pc := 28) X in_X3 0 rfl rfl 5 (by decide) q213 (fun y h => h) rfl dX3_single_28 ?_
  refine v_iload_n (pc := 31) X dX3_single_31 rfl 0 rfl ?_
  refine v_iconst (pc := 32) (v := nI 1) X dX3_single_32 rfl ?_
  refine v_iast (pc := 33) X 5 ka_18 rfl (by omega) (by decide) dX3_single_33 (kb_18 _) ?_
  refine v_aload_n (pc := 34) X dX3_single_34 rfl 1 rfl ?_
  refine v_get (pc := 35) X in_X3 0 rfl rfl 6 (by decide) q215 (fun y h => h) rfl dX3_single_35 ?_
  refine v_iload_n (pc := 38) X dX3_single_38 rfl 0 rfl ?_
  refine v_iconst (pc := 39) (v := nI 1) X dX3_single_39 rfl ?_
  refine v_iast (pc := 40) X 6 ka_19 rfl (by omega) (by decide) dX3_single_40 (kb_19 _) ?_
  refine v_aload_n (pc := 41) X dX3_single_41 rfl 1 rfl ?_
  refine v_get (pc := 42) X in_X3 0 rfl rfl 8 (by decide) q218 (fun y h => h) rfl dX3_single_42 ?_
  refine v_iload_n (pc := 45) X dX3_single_45 rfl 0 rfl ?_
  refine v_aload_n (pc := 46) X dX3_single_46 rfl 1 rfl ?_
  refine v_get (pc := 47) X in_X3 0 rfl rfl 9 (by decide) q219 (fun y h => h) rfl dX3_single_47 ?_
  refine v_top (y := (nI e)) he ?_
  refine v_iast (pc := 50) X 8 ka_8 rfl (by omega) (by decide) dX3_single_50 (kb_8 _) ?_
  refine v_aload_n (pc := 51) X dX3_single_51 rfl 1 rfl ?_
  refine v_get (pc := 52) X in_X3 0 rfl rfl 7 (by decide) q217 (fun y h => h) rfl dX3_single_52 ?_
  refine v_aload_n (pc := 55) X dX3_single_55 rfl 1 rfl ?_
  refine v_get (pc := 56) X in_X3 0 rfl rfl 9 (by decide) q219 (fun y h => h) rfl dX3_single_56 ?_
  refine v_top (y := (nI e)) he ?_
  refine v_iconst (pc := 59) (v := nI 0) X dX3_single_59 rfl ?_
  refine v_iast (pc := 60) X 7 ka_7 rfl (by omega) (by decide) dX3_single_60 (kb_7 _) ?_
  refine v_aload_n (pc := 61) X dX3_single_61 rfl 1 rfl ?_
  refine v_dup (pc := 62) X dX3_single_62 rfl ?_
  refine v_get (pc := 63) X in_X3 0 rfl rfl 9 (by decide) q219 (fun y h => h) rfl dX3_single_63 ?_
  refine v_top (y := (nI e)) he ?_
  refine v_iconst (pc := 66) (v := nI 1) X dX3_single_66 rfl ?_
  refine v_iaddN (pc := 67) X dX3_single_67 ?_
  refine v_put (pc := 68) X in_X3 tyX3 tyX3_ok nmX3 0 rfl rfl 9 (by decide) q219 (fun y h => h) rfl rfl rfl (Nat.le_of_ble_eq_true rfl) dX3_single_68 (kf_0_9 _) ?_
  refine v_vret (pc := 71) X hr dX3_single_71 ⟨_, rfl, rfl, ⟨by rw [Dv_self]; exact ⟨upd_s _ _ _, upd_s _ _ _, upd_s _ _ _, upd_s _ _ _, upd_s _ _ _⟩, e, upd_s _ _ _, by rw [Al_self]; exact Nat.le_refl _, by rw [Al_self]; exact (SegIs.nil (σ 7) e).push 0⟩, rfl, (((((((((Ch.rf _ _ _).row 15 _ (by decide) (by decide)).row 16 _ (by decide) (by decide)).row 17 _ (by decide) (by decide)).row 18 _ (by decide) (by decide)).row 19 _ (by decide) (by decide)).row 8 _ (by decide) (by decide)).row 7 _ (by decide) (by decide)).num 9 _ (by decide)), fun r hr k hk => ?_, fun k hk => upd_n (by omega)⟩
  exact (((((((((Oth.rf σ _).row 15 _).row 16 _).row 17 _).row 18 _).row 19 _).row 8 _).free 7 _ (by decide)).free 99 _ (by decide)) r hr k hk
def ktF0 (x : Nat) (ad : Nat → Nat) (σ : Tw) : List Value := [.ref (ad 0), .int (σ 99 1), .ref (ad 15), .ref (ad 16), .ref (ad 17), .ref (ad 18), .ref (ad 19), .ref (ad 7), .ref (ad 8), .int (σ 99 9)]
def kt (x : Nat) (ad : Nat → Nat) (dd : Nat → ClassId) (σ : Tw) : va_W := [(x, .inr (2, ktF0 x ad σ)), (ad 0, .inl (dd 0, 9, .inl (σ 0))), (ad 15, .inl (dd 0, 64, .inl (σ 15))), (ad 16, .inl (dd 0, 64, .inl (σ 16))), (ad 17, .inl (dd 0, 64, .inl (σ 17))), (ad 18, .inl (dd 0, 64, .inl (σ 18))), (ad 19, .inl (dd 0, 64, .inl (σ 19))), (ad 7, .inl (dd 0, 1000, .inl (σ 7))), (ad 8, .inl (dd 0, 64, .inl (σ 8))), (ad 50, .inl (dd 0, 9, .inl (σ 50)))]
section VIEW_kt
variable {x : Nat} {ad : Nat → Nat} {dd : Nat → ClassId} {σ : Tw}
theorem kta_0 : (kt x ad dd σ)[1]? = some (ad 0, .inl (dd 0, 9, .inl (σ 0))) := rfl
theorem ktb_0 (f : Nat → Int32) : (kt x ad dd σ).set 1 (ad 0, .inl (dd 0, 9, .inl f)) = kt x ad dd (rw2 σ 0 f) := rfl
theorem kta_15 : (kt x ad dd σ)[2]? = some (ad 15, .inl (dd 0, 64, .inl (σ 15))) := rfl
theorem ktb_15 (f : Nat → Int32) : (kt x ad dd σ).set 2 (ad 15, .inl (dd 0, 64, .inl f)) = kt x ad dd (rw2 σ 15 f) := rfl
theorem kta_16 : (kt x ad dd σ)[3]? = some (ad 16, .inl (dd 0, 64, .inl (σ 16))) := rfl
theorem ktb_16 (f : Nat → Int32) : (kt x ad dd σ).set 3 (ad 16, .inl (dd 0, 64, .inl f)) = kt x ad dd (rw2 σ 16 f) := rfl
theorem kta_17 : (kt x ad dd σ)[4]? = some (ad 17, .inl (dd 0, 64, .inl (σ 17))) := rfl
theorem ktb_17 (f : Nat → Int32) : (kt x ad dd σ).set 4 (ad 17, .inl (dd 0, 64, .inl f)) = kt x ad dd (rw2 σ 17 f) := rfl
theorem kta_18 : (kt x ad dd σ)[5]? = some (ad 18, .inl (dd 0, 64, .inl (σ 18))) := rfl
theorem ktb_18 (f : Nat → Int32) : (kt x ad dd σ).set 5 (ad 18, .inl (dd 0, 64, .inl f)) = kt x ad dd (rw2 σ 18 f) := rfl
theorem kta_19 : (kt x ad dd σ)[6]? = some (ad 19, .inl (dd 0, 64, .inl (σ 19))) := rfl
theorem ktb_19 (f : Nat → Int32) : (kt x ad dd σ).set 6 (ad 19, .inl (dd 0, 64, .inl f)) = kt x ad dd (rw2 σ 19 f) := rfl
theorem kta_7 : (kt x ad dd σ)[7]? = some (ad 7, .inl (dd 0, 1000, .inl (σ 7))) := rfl
theorem ktb_7 (f : Nat → Int32) : (kt x ad dd σ).set 7 (ad 7, .inl (dd 0, 1000, .inl f)) = kt x ad dd (rw2 σ 7 f) := rfl
theorem kta_8 : (kt x ad dd σ)[8]? = some (ad 8, .inl (dd 0, 64, .inl (σ 8))) := rfl
theorem ktb_8 (f : Nat → Int32) : (kt x ad dd σ).set 8 (ad 8, .inl (dd 0, 64, .inl f)) = kt x ad dd (rw2 σ 8 f) := rfl
theorem kta_50 : (kt x ad dd σ)[9]? = some (ad 50, .inl (dd 0, 9, .inl (σ 50))) := rfl
theorem ktb_50 (f : Nat → Int32) : (kt x ad dd σ).set 9 (ad 50, .inl (dd 0, 9, .inl f)) = kt x ad dd (rw2 σ 50 f) := rfl
theorem ktf_0_1 (v : Int32) : (kt x ad dd σ).set 0 (x, .inr (2, (ktF0 x ad σ).set 1 (.int v))) = kt x ad dd (rw2 σ 99 (upd (σ 99) 1 v)) := rfl
theorem ktf_0_9 (v : Int32) : (kt x ad dd σ).set 0 (x, .inr (2, (ktF0 x ad σ).set 9 (.int v))) = kt x ad dd (rw2 σ 99 (upd (σ 99) 9 v)) := rfl
end VIEW_kt
theorem hdX3_take : yX3_take.cls = RX3 ∧ yX3_take.cls ≠ "java/lang/invoke/MethodHandle" ∧ yX3_take.cls ≠ "java/lang/invoke/VarHandle" ∧ (parseMethodDescriptor yX3_take.desc).map (fun d => d.parameters.length) = some 2 := by decide +kernel
set_option maxHeartbeats 4000000 in
theorem c_X3_take {l_ : Launch} {D : va_G} {dd : Nat → ClassId} {x : Nat} {ad : Nat → Nat} {σ : Tw} {n : Nat} {sd : Nat → Nat} (hg : ∀ i, i < 9 → σ 50 i = nI (sd i)) (h89 : ∀ f s l, prN sd f s l ≤ 125000) (hn : n ≤ 9) : MW l_ D dd yX3_take cX3_take 5 none 3 0 0 74 [.ref x, .ref (ad 50), .int (nI n)] (kt x ad dd σ) (GV (kt x ad dd) (fun σ' => TkP sd σ σ' n)) := by
  refine MW.intro (by decide) (Nat.le_of_ble_eq_true rfl) (fun p_ e_ s_ m_ as_ bl_ me_ c_ A_ X hr hnm => ?_)
  have X : VX p_ s_ m_ as_ me_ c_ cX3_take 5 RX3 D dd A_ := X
  refine v_eq (loc' := [(0, .ref x), (1, .ref (ad 50)), (2, .int (nI n))]) rfl rfl rfl ?_
  refine v_aload_n (pc := 0) X dX3_take_0 rfl 1 rfl ?_
  refine v_iconst (pc := 1) (v := nI 0) X dX3_take_1 rfl ?_
  refine v_aload_n (pc := 2) X dX3_take_2 rfl 0 rfl ?_
  refine v_get (pc := 3) X in_X3 0 rfl rfl 0 (by decide) q204 (fun y h => h) rfl dX3_take_3 ?_
  refine v_iconst (pc := 6) (v := nI 0) X dX3_take_6 rfl ?_
  refine v_bipush (pc := 7) (v := nI 9) X dX3_take_7 rfl ?_
  refine v_copyi (pc := 9) X q840 q108 9 1 0 rfl rfl rfl rfl (by omega) (by omega) ⟨by omega, by omega, by omega⟩ (fun _ _ => rfl) (Nat.le_of_ble_eq_true rfl) (Nat.le_of_ble_eq_true rfl) (Nat.le_of_ble_eq_true rfl) dX3_take_9 (ktb_0 _) ?_
  refine v_aload_n (pc := 12) X dX3_take_12 rfl 0 rfl ?_
  refine v_iconst (pc := 13) (v := nI 0) X dX3_take_13 rfl ?_
  refine v_iload_n (pc := 14) X dX3_take_14 rfl 2 rfl ?_
  refine v_iconst (pc := 15) (v := nI 1) X dX3_take_15 rfl ?_
  refine v_isub (pc := 16) X dX3_take_16 ?_
  refine v_max (pc := 17) X q841 ⟨Nat.le_of_ble_eq_true rfl, Nat.le_of_ble_eq_true rfl⟩ (Nat.le_of_ble_eq_true rfl) ⟨Nat.zero_le _, Nat.zero_le _⟩ dX3_take_17 ?_
  refine v_top (y := (nI (n - 1))) (vmaxI (by omega)) ?_
  refine v_put (pc := 20) X in_X3 tyX3 tyX3_ok nmX3 0 rfl rfl 1 (by decide) q205 (fun y h => h) rfl rfl rfl (Nat.le_of_ble_eq_true rfl) dX3_take_20 (ktf_0_1 _) ?_
  refine v_aload_n (pc := 23) X dX3_take_23 rfl 0 rfl ?_
  refine v_iconst (pc := 24) (v := nI 0) X dX3_take_24 rfl ?_
  refine v_put (pc := 25) X in_X3 tyX3 tyX3_ok nmX3 0 rfl rfl 9 (by decide) q219 (fun y h => h) rfl rfl rfl (Nat.le_of_ble_eq_true rfl) dX3_take_25 (ktf_0_9 _) ?_
  refine v_iconst (pc := 28) (v := nI 0) X dX3_take_28 rfl ?_
  refine v_istore_n (pc := 29) (loc' := [(3, .int (nI 0)), (0, .ref x), (1, .ref (ad 50)), (2, .int (nI n))]) X dX3_take_29 rfl (by decide) rfl ?_
  refine v_sub [1, 2, 3, 0] rfl ?_
  refine v_loop2 (S := Nat) (T := Tw) (fun i τ => kt x ad dd τ) (fun i τ => [(0, .ref x), (1, .ref (ad 50)), (2, .int (nI n)), (3, .int (nI i))]) (fun i τ => i ≤ n - 1 ∧ TkI sd σ τ n i (fun f l => f = l ∧ l < i)) (fun i τ => n - 1 - i) (fun i τ hI30 ih30 => ?_) 0 _ ⟨Nat.zero_le _, ((((Ch.rf _ _ _).row 0 _ (by decide) (by decide)).num 1 _ (by decide)).num 9 _ (by decide)), fun j hj => (pk_cpy_in (f := σ 50) (g := σ 0) (sp := 0) (dp := 0) (n := 9) (Nat.zero_le _) (by omega)).trans (by rw [Nat.sub_zero, Nat.zero_add]; exact hg j hj), rfl, rfl, fun f l z => by omega⟩
  obtain ⟨hi, hT⟩ := hI30
  refine v_iload_n (pc := 30) X dX3_take_30 rfl 3 rfl ?_
  refine v_aload_n (pc := 31) X dX3_take_31 rfl 0 rfl ?_
  refine v_get (pc := 32) X in_X3 0 rfl rfl 1 (by decide) q205 (fun y h => h) rfl dX3_take_32 ?_
  refine v_top (y := (nI (n - 1))) hT.2.2.1 ?_
  refine v_ic_geN (pc := 35) X (by omega) (by omega) 49 dX3_take_35 (by decide) (fun h35 => ?_) (fun h35 => ?_)
  · refine v_iconst (pc := 49) (v := nI 2) X dX3_take_49 rfl ?_
    refine v_istore_n (pc := 50) (loc' := [(3, .int (nI 2)), (0, .ref x), (1, .ref (ad 50)), (2, .int (nI n))]) X dX3_take_50 rfl (by decide) rfl ?_
    refine v_sub [1, 2, 3, 0] rfl ?_
    refine v_loop2 (S := Nat) (T := Tw) (fun s τ2 => kt x ad dd τ2) (fun s τ2 => [(0, .ref x), (1, .ref (ad 50)), (2, .int (nI n)), (3, .int (nI s))]) (fun s τ2 => 2 ≤ s ∧ (s ≤ n - 1 + 1 ∨ s = 2) ∧ TkI sd σ τ2 n (eT (n - 1) s) (fun f l => f ≤ l ∧ l < n - 1 ∧ l - f + 1 < s)) (fun s τ2 => n + 2 - s) (fun s τ2 hI51 ih51 => ?_) 2 _ ⟨Nat.le_refl _, Or.inr rfl, (by rw [eT_2]; exact ⟨hT.1, hT.2.1, hT.2.2.1, (by rw [← show i = n - 1 by omega]; exact hT.2.2.2.1), fun f l z => (by rw [← show i = n - 1 by omega]; exact hT.2.2.2.2 f l (by omega))⟩)⟩
    obtain ⟨hs2, hsn, hT2⟩ := hI51
    refine v_iload_n (pc := 51) X dX3_take_51 rfl 3 rfl ?_
    refine v_aload_n (pc := 52) X dX3_take_52 rfl 0 rfl ?_
    refine v_get (pc := 53) X in_X3 0 rfl rfl 1 (by decide) q205 (fun y h => h) rfl dX3_take_53 ?_
    refine v_top (y := (nI (n - 1))) hT2.2.2.1 ?_
    refine v_ic_gtN (pc := 56) X (by omega) (by omega) 97 dX3_take_56 (by decide) (fun h56 => ?_) (fun h56 => ?_)
    · exact v_vret (pc := 97) X hr dX3_take_97 ⟨_, rfl, rfl, hT2.1, hT2.2.1, hT2.2.2.1, fun f l z1 z2 => (hT2.2.2.2.2 f l (by omega)).keep (by have := eT_bd2 ⟨n - 1, by omega⟩ ⟨s, by omega⟩; exact this) (fun _ _ => rfl) (fun _ _ => rfl)⟩
    · refine v_iconst (pc := 59) (v := nI 0) X dX3_take_59 rfl ?_
      refine v_istore (pc := 60) (loc' := [(4, .int (nI 0)), (0, .ref x), (1, .ref (ad 50)), (2, .int (nI n)), (3, .int (nI s))]) X dX3_take_60 (by decide) rfl ?_
      refine v_sub [1, 2, 3, 4, 0] rfl ?_
      refine v_loop2 (S := Nat) (T := Tw) (fun a τ3 => kt x ad dd τ3) (fun a τ3 => [(0, .ref x), (1, .ref (ad 50)), (2, .int (nI n)), (3, .int (nI s)), (4, .int (nI a))]) (fun a τ3 => a + s ≤ n - 1 + 1 ∧ TkI sd σ τ3 n (eT (n - 1) s + a * cw (s - 1)) (fun f l => f ≤ l ∧ l < n - 1 ∧ (l - f + 1 < s ∨ l - f + 1 = s ∧ f < a))) (fun a τ3 => n - a) (fun a τ3 hI62 ih62 => ?_) 0 _ ⟨by omega, by rw [Nat.zero_mul, Nat.add_zero]; exact ⟨hT2.1, hT2.2.1, hT2.2.2.1, hT2.2.2.2.1, fun f l z => hT2.2.2.2.2 f l (by omega)⟩⟩
      obtain ⟨has, hT3⟩ := hI62
      refine v_iload (pc := 62) X dX3_take_62 4 rfl ?_
      refine v_iload_n (pc := 64) X dX3_take_64 rfl 3 rfl ?_
      refine v_iaddN (pc := 65) X dX3_take_65 ?_
      refine v_aload_n (pc := 66) X dX3_take_66 rfl 0 rfl ?_
      refine v_get (pc := 67) X in_X3 0 rfl rfl 1 (by decide) q205 (fun y h => h) rfl dX3_take_67 ?_
      refine v_top (y := (nI (n - 1))) hT3.2.2.1 ?_
      refine v_ic_gtN (pc := 70) X (by omega) (by omega) 91 dX3_take_70 (by decide) (fun h70 => ?_) (fun h70 => ?_)
      · refine v_iinc (pc := 91) (v := (nI (s + 1))) (loc' := [(3, .int (nI (s + 1))), (0, .ref x), (1, .ref (ad 50)), (2, .int (nI n)), (4, .int (nI a))]) X dX3_take_91 3 rfl (nI_add _ 1) (by decide) rfl ?_
        refine v_goto (pc := 94) X 51 dX3_take_94 (by decide) ?_
        refine v_sub [1, 2, 3, 0] rfl ?_
        exact ih51 (s + 1) _ ⟨by omega, by omega, by rw [eT_s (by omega), show n - 1 + 1 - s = a by omega]; exact ⟨hT3.1, hT3.2.1, hT3.2.2.1, hT3.2.2.2.1, fun f l z => hT3.2.2.2.2 f l (by omega)⟩⟩ (by omega)
      · have hcw : (Al sd a (a + s - 1)).length = cw (s - 1) := by
          rw [Al_len sd (by omega) (by omega), show a + s - 1 - a = s - 1 by omega]
        have hbd := eT_bd ⟨n - 1, by omega⟩ ⟨s, by omega⟩ ⟨a, by omega⟩ hs2 (by show a + s ≤ n - 1; omega)
        dsimp only at hbd
        refine v_aload_n (pc := 73) X dX3_take_73 rfl 0 rfl ?_
        refine v_iload (pc := 74) X dX3_take_74 4 rfl ?_
        refine v_iload (pc := 76) X dX3_take_76 4 rfl ?_
        refine v_iload_n (pc := 78) X dX3_take_78 rfl 3 rfl ?_
        refine v_iaddN (pc := 79) X dX3_take_79 ?_
        refine v_iconst (pc := 80) (v := nI 1) X dX3_take_80 rfl ?_
        refine v_isubN (pc := 81) X (by omega) dX3_take_81 ?_
        refine v_svV (pc := 82) X (G := (kw x ad dd)) (σ := τ3) (wr := [(ad 50, .inl (dd 0, 9, .inl (τ3 50)))]) (List.Perm.refl _) (r_V X (c_X3_reckon (f := a) (l := a + s - 1) (e := eT (n - 1) s + a * cw (s - 1)) hT3.2.1 h89 (by omega) (by omega) (fun f2 l2 z1 z2 z3 z4 => hT3.2.2.2.2 f2 l2 (by omega)) hT3.2.2.2.1 (by omega)) (List.mem_of_getElem? (i := 0) rfl) rfl rfl (lw_V q849 q851 qs5 q95 q852) hdX3_reckon ⟨Nat.le_of_ble_eq_true rfl, Nat.le_of_ble_eq_true rfl⟩ rfl rfl (Nat.le_of_ble_eq_true rfl) dX3_take_82 ⟨Nat.le_refl _, Nat.le_refl _⟩) (fun σ82 hp82 => ?_)
        refine v_eq (ws' := kt x ad dd σ82) (by show kw x ad dd σ82 ++ [(ad 50, .inl (dd 0, 9, .inl (τ3 50)))] = _; rw [← show σ82 50 = τ3 50 from hp82.2.2.1.1 50 (by decide) (by decide)]; rfl) rfl rfl ?_
        refine v_iinc (pc := 85) (v := (nI (a + 1))) (loc' := [(4, .int (nI (a + 1))), (0, .ref x), (1, .ref (ad 50)), (2, .int (nI n)), (3, .int (nI s))]) X dX3_take_85 4 rfl (nI_add _ 1) (by decide) rfl ?_
        refine v_goto (pc := 88) X 62 dX3_take_88 (by decide) ?_
        refine v_sub [1, 2, 3, 4, 0] rfl ?_
        exact ih62 (a + 1) _ ⟨by omega, by have h9 := hT3.step (P' := fun f l => f ≤ l ∧ l < n - 1 ∧ (l - f + 1 < s ∨ l - f + 1 = s ∧ f < a + 1)) hp82.1 hp82.2.1 hp82.2.2.1 hp82.2.2.2.1 hp82.2.2.2.2 (fun f l z => by omega); rw [hcw] at h9; rw [Nat.add_mul, Nat.one_mul, ← Nat.add_assoc]; exact h9⟩ (by omega)
  · refine v_aload_n (pc := 38) X dX3_take_38 rfl 0 rfl ?_
    refine v_iload_n (pc := 39) X dX3_take_39 rfl 3 rfl ?_
    refine v_svV (pc := 40) X (G := (kw x ad dd)) (σ := τ) (wr := [(ad 50, .inl (dd 0, 9, .inl (τ 50)))]) (List.Perm.refl _) (r_V X (c_X3_single (v := i) (sd := sd) (by omega) hT.2.2.2.1 (by omega)) (List.mem_of_getElem? (i := 0) rfl) rfl rfl (lw_V q842 q844 qs4 q95 q845) hdX3_single ⟨Nat.le_of_ble_eq_true rfl, Nat.le_of_ble_eq_true rfl⟩ rfl rfl (Nat.le_of_ble_eq_true rfl) dX3_take_40 ⟨Nat.le_refl _, Nat.le_refl _⟩) (fun σ40 hp40 => ?_)
    refine v_eq (ws' := kt x ad dd σ40) (by show kw x ad dd σ40 ++ [(ad 50, .inl (dd 0, 9, .inl (τ 50)))] = _; rw [← show σ40 50 = τ 50 from hp40.2.2.1.1 50 (by decide) (by decide)]; rfl) rfl rfl ?_
    refine v_iinc (pc := 43) (v := (nI (i + 1))) (loc' := [(3, .int (nI (i + 1))), (0, .ref x), (1, .ref (ad 50)), (2, .int (nI n))]) X dX3_take_43 3 rfl (nI_add _ 1) (by decide) rfl ?_
    refine v_goto (pc := 46) X 30 dX3_take_46 (by decide) ?_
    refine v_sub [1, 2, 3, 0] rfl ?_
    exact ih30 (i + 1) _ ⟨by omega, hT.step hp40.1 hp40.2.1 hp40.2.2.1 hp40.2.2.2.1 hp40.2.2.2.2 (fun f l z => by omega)⟩ (by omega)
theorem hdX3_least : yX3_least.cls = RX3 ∧ yX3_least.cls ≠ "java/lang/invoke/MethodHandle" ∧ yX3_least.cls ≠ "java/lang/invoke/VarHandle" ∧ (parseMethodDescriptor yX3_least.desc).map (fun d => d.parameters.length) = some 0 := by decide +kernel
set_option maxHeartbeats 4000000 in
theorem c_X3_least {l_ : Launch} {D : va_G} {dd : Nat → ClassId} {x : Nat} {ad : Nat → Nat} {σ : Tw} {n : Nat} {sd : Nat → Nat} (hn : n ≤ 9) (hv : σ 99 1 = nI (n - 1)) (hR : ∀ f l : Nat, f ≤ l → l < n - 1 → RunIs sd σ 1000 f l) : MW l_ D dd yX3_least cX3_least 1 (some .int) 1 0 0 21 [.ref x] (kw x ad dd σ) (RI (fun r => nI (allL n sd) = r) (kw x ad dd σ)) := by
  refine MW.intro (by decide) (Nat.le_of_ble_eq_true rfl) (fun p_ e_ s_ m_ as_ bl_ me_ c_ A_ X hr hnm => ?_)
  have X : VX p_ s_ m_ as_ me_ c_ cX3_least 1 RX3 D dd A_ := X
  refine v_eq (loc' := [(0, .ref x)]) rfl rfl rfl ?_
  refine v_aload_n (pc := 0) X dX3_least_0 rfl 0 rfl ?_
  refine v_get (pc := 1) X in_X3 0 rfl rfl 1 (by decide) q205 (fun y h => h) rfl dX3_least_1 ?_
  refine v_top (y := (nI (n - 1))) hv ?_
  refine v_if_neN (pc := 4) X (by omega) 11 dX3_least_4 (by decide) (fun h4 => ?_) (fun h4 => ?_)
  · refine v_aload_n (pc := 11) X dX3_least_11 rfl 0 rfl ?_
    refine v_get (pc := 12) X in_X3 0 rfl rfl 2 (by decide) q207 (fun y h => h) rfl dX3_least_12 ?_
    refine v_iconst (pc := 15) (v := nI 0) X dX3_least_15 rfl ?_
    refine v_aload_n (pc := 16) X dX3_least_16 rfl 0 rfl ?_
    refine v_get (pc := 17) X in_X3 0 rfl rfl 1 (by decide) q205 (fun y h => h) rfl dX3_least_17 ?_
    refine v_top (y := (nI (n - 1))) hv ?_
    refine v_iconst (pc := 20) (v := nI 1) X dX3_least_20 rfl ?_
    refine v_isubN (pc := 21) X (by omega) dX3_least_21 ?_
    refine v_read (pc := 22) X ⟨_, List.Perm.refl _⟩ (r_S X c_X3_run (lw_S q846 q847 q95 q848) hdX3_run ⟨Nat.le_of_ble_eq_true rfl, Nat.le_of_ble_eq_true rfl⟩ rfl rfl (Nat.le_of_ble_eq_true rfl) dX3_least_22 ⟨Nat.le_refl _, Nat.le_refl _⟩) (fun r22 hp22 => ?_)
    subst hp22
    refine v_iald (pc := 25) X 2 ka_15 rfl (by omega) (by decide) dX3_least_25 ?_
    refine v_top (y := (nI (allL n sd))) (by unfold allL; rw [if_neg h4]; exact (hR 0 (n - 1 - 1) (Nat.zero_le _) (by omega)).1.1) ?_
    exact v_iret (pc := 26) X hr dX3_least_26 ⟨⟨_, rfl, rfl⟩, rfl⟩
  · refine v_iconst (pc := 7) (v := nI 0) X dX3_least_7 rfl ?_
    refine v_goto (pc := 8) X 26 dX3_least_8 (by decide) ?_
    refine v_top (y := (nI (allL n sd))) (by unfold allL; rw [if_pos h4]) ?_
    exact v_iret (pc := 26) X hr dX3_least_26 ⟨⟨_, rfl, rfl⟩, rfl⟩
theorem hdX3_worst : yX3_worst.cls = RX3 ∧ yX3_worst.cls ≠ "java/lang/invoke/MethodHandle" ∧ yX3_worst.cls ≠ "java/lang/invoke/VarHandle" ∧ (parseMethodDescriptor yX3_worst.desc).map (fun d => d.parameters.length) = some 0 := by decide +kernel
set_option maxHeartbeats 4000000 in
theorem c_X3_worst {l_ : Launch} {D : va_G} {dd : Nat → ClassId} {x : Nat} {ad : Nat → Nat} {σ : Tw} {n : Nat} {sd : Nat → Nat} (hn : n ≤ 9) (hv : σ 99 1 = nI (n - 1)) (hR : ∀ f l : Nat, f ≤ l → l < n - 1 → RunIs sd σ 1000 f l) : MW l_ D dd yX3_worst cX3_worst 1 (some .int) 1 0 0 21 [.ref x] (kw x ad dd σ) (RI (fun r => nI (allM n sd) = r) (kw x ad dd σ)) := by
  refine MW.intro (by decide) (Nat.le_of_ble_eq_true rfl) (fun p_ e_ s_ m_ as_ bl_ me_ c_ A_ X hr hnm => ?_)
  have X : VX p_ s_ m_ as_ me_ c_ cX3_worst 1 RX3 D dd A_ := X
  refine v_eq (loc' := [(0, .ref x)]) rfl rfl rfl ?_
  refine v_aload_n (pc := 0) X dX3_worst_0 rfl 0 rfl ?_
  refine v_get (pc := 1) X in_X3 0 rfl rfl 1 (by decide) q205 (fun y h => h) rfl dX3_worst_1 ?_
  refine v_top (y := (nI (n - 1))) hv ?_
  refine v_if_neN (pc := 4) X (by omega) 11 dX3_worst_4 (by decide) (fun h4 => ?_) (fun h4 => ?_)
  · refine v_aload_n (pc := 11) X dX3_worst_11 rfl 0 rfl ?_
    refine v_get (pc := 12) X in_X3 0 rfl rfl 3 (by decide) q209 (fun y h => h) rfl dX3_worst_12 ?_
    refine v_iconst (pc := 15) (v := nI 0) X dX3_worst_15 rfl ?_
    refine v_aload_n (pc := 16) X dX3_worst_16 rfl 0 rfl ?_
    refine v_get (pc := 17) X in_X3 0 rfl rfl 1 (by decide) q205 (fun y h => h) rfl dX3_worst_17 ?_
    refine v_top (y := (nI (n - 1))) hv ?_
    refine v_iconst (pc := 20) (v := nI 1) X dX3_worst_20 rfl ?_
    refine v_isubN (pc := 21) X (by omega) dX3_worst_21 ?_
    refine v_read (pc := 22) X ⟨_, List.Perm.refl _⟩ (r_S X c_X3_run (lw_S q846 q847 q95 q848) hdX3_run ⟨Nat.le_of_ble_eq_true rfl, Nat.le_of_ble_eq_true rfl⟩ rfl rfl (Nat.le_of_ble_eq_true rfl) dX3_worst_22 ⟨Nat.le_refl _, Nat.le_refl _⟩) (fun r22 hp22 => ?_)
    subst hp22
    refine v_iald (pc := 25) X 3 ka_16 rfl (by omega) (by decide) dX3_worst_25 ?_
    refine v_top (y := (nI (allM n sd))) (by unfold allM; rw [if_neg h4]; exact (hR 0 (n - 1 - 1) (Nat.zero_le _) (by omega)).1.2.1) ?_
    exact v_iret (pc := 26) X hr dX3_worst_26 ⟨⟨_, rfl, rfl⟩, rfl⟩
  · refine v_iconst (pc := 7) (v := nI 0) X dX3_worst_7 rfl ?_
    refine v_goto (pc := 8) X 26 dX3_worst_8 (by decide) ?_
    refine v_top (y := (nI (allM n sd))) (by unfold allM; rw [if_pos h4]) ?_
    exact v_iret (pc := 26) X hr dX3_worst_26 ⟨⟨_, rfl, rfl⟩, rfl⟩
theorem hdX3_leastOfAll : yX3_leastOfAll.cls = RX3 ∧ yX3_leastOfAll.cls ≠ "java/lang/invoke/MethodHandle" ∧ yX3_leastOfAll.cls ≠ "java/lang/invoke/VarHandle" ∧ (parseMethodDescriptor yX3_leastOfAll.desc).map (fun d => d.parameters.length) = some 2 := by decide +kernel
set_option maxHeartbeats 4000000 in
theorem c_X3_leastOfAll {l_ : Launch} {D : va_G} {dd : Nat → ClassId} {x : Nat} {ad : Nat → Nat} {σ : Tw} {f l : Nat} {sd : Nat → Nat} (h89 : ∀ f s l, prN sd f s l ≤ 125000) (hf : f ≤ l) (hl : l < 8) (hR : RunIs sd σ 1000 f l) : MW l_ D dd yX3_leastOfAll cX3_leastOfAll 6 (some .int) 1 0 0 21 [.ref x, .int (nI f), .int (nI l)] (kw x ad dd σ) (RI (fun r => nI (Dv sd f l).1 = r) (kw x ad dd σ)) := by
  have hok := Al_ok sd _ f l hf (Nat.le_refl _)
  have h1m := Al_1m h89 hf hl
  have hpos := Al_pos sd hf
  obtain ⟨h5, o, h8, ho, hS⟩ := id hR
  obtain ⟨a0, ha0⟩ := get_lt (L := Al sd f l) (k := 0) hpos
  have ha0b := h1m a0 (List.mem_of_getElem? ha0)
  have h18 := h5.2.2.2.1
  rw [← hok.1] at h18
  refine MW.intro (by decide) (Nat.le_of_ble_eq_true rfl) (fun p_ e_ s_ m_ as_ bl_ me_ c_ A_ X hr hnm => ?_)
  have X : VX p_ s_ m_ as_ me_ c_ cX3_leastOfAll 6 RX3 D dd A_ := X
  refine v_eq (loc' := [(0, .ref x), (1, .int (nI f)), (2, .int (nI l))]) rfl rfl rfl ?_
  refine v_iload_n (pc := 0) X dX3_leastOfAll_0 rfl 1 rfl ?_
  refine v_iload_n (pc := 1) X dX3_leastOfAll_1 rfl 2 rfl ?_
  refine v_read (pc := 2) X ⟨_, List.Perm.refl _⟩ (r_S X c_X3_run (lw_S q846 q847 q95 q848) hdX3_run ⟨Nat.le_of_ble_eq_true rfl, Nat.le_of_ble_eq_true rfl⟩ rfl rfl (Nat.le_of_ble_eq_true rfl) dX3_leastOfAll_2 ⟨Nat.le_refl _, Nat.le_refl _⟩) (fun r2 hp2 => ?_)
  subst hp2
  refine v_istore_n (pc := 5) (loc' := [(3, .int (nI (8 * f + l))), (0, .ref x), (1, .int (nI f)), (2, .int (nI l))]) X dX3_leastOfAll_5 rfl (by decide) rfl ?_
  refine v_aload_n (pc := 6) X dX3_leastOfAll_6 rfl 1 rfl ?_
  refine v_get (pc := 7) X in_X3 0 rfl rfl 7 (by decide) q217 (fun y h => h) rfl dX3_leastOfAll_7 ?_
  refine v_aload_n (pc := 10) X dX3_leastOfAll_10 rfl 1 rfl ?_
  refine v_get (pc := 11) X in_X3 0 rfl rfl 8 (by decide) q218 (fun y h => h) rfl dX3_leastOfAll_11 ?_
  refine v_iload_n (pc := 14) X dX3_leastOfAll_14 rfl 0 rfl ?_
  refine v_iald (pc := 15) X 8 ka_8 rfl (by omega) (by decide) dX3_leastOfAll_15 ?_
  refine v_top (y := (nI o)) h8 ?_
  refine v_iald (pc := 16) X 7 ka_7 rfl (by omega) (by decide) dX3_leastOfAll_16 ?_
  refine v_top (y := (nI a0)) (by have := hS 0 a0 ha0; rw [Nat.add_zero] at this; exact this) ?_
  refine v_istore (pc := 17) (loc' := [(4, .int (nI a0)), (3, .int (nI (8 * f + l))), (0, .ref x), (1, .int (nI f)), (2, .int (nI l))]) X dX3_leastOfAll_17 (by decide) rfl ?_
  refine v_iconst (pc := 19) (v := nI 1) X dX3_leastOfAll_19 rfl ?_
  refine v_istore (pc := 20) (loc' := [(5, .int (nI 1)), (4, .int (nI a0)), (3, .int (nI (8 * f + l))), (0, .ref x), (1, .int (nI f)), (2, .int (nI l))]) X dX3_leastOfAll_20 (by decide) rfl ?_
  refine v_sub [3, 4, 5, 2, 1, 0] rfl ?_
  refine v_loop2 (S := Nat) (T := Nat) (fun k mm => kw x ad dd σ) (fun k mm => [(0, .ref x), (1, .int (nI f)), (2, .int (nI l)), (3, .int (nI (8 * f + l))), (4, .int (nI mm)), (5, .int (nI k))]) (fun k mm => 1 ≤ k ∧ k ≤ (Al sd f l).length ∧ MinI (Al sd f l) k mm ∧ mm ≤ 1000000) (fun k mm => (Al sd f l).length - k) (fun k mm hI22 ih22 => ?_) 1 a0 ⟨Nat.le_refl _, hpos, MinI.one ha0, ha0b⟩
  obtain ⟨hk1, hk2, hm, hmb⟩ := hI22
  refine v_iload (pc := 22) X dX3_leastOfAll_22 5 rfl ?_
  refine v_aload_n (pc := 24) X dX3_leastOfAll_24 rfl 0 rfl ?_
  refine v_get (pc := 25) X in_X3 0 rfl rfl 5 (by decide) q213 (fun y h => h) rfl dX3_leastOfAll_25 ?_
  refine v_iload_n (pc := 28) X dX3_leastOfAll_28 rfl 3 rfl ?_
  refine v_iald (pc := 29) X 5 ka_18 rfl (by omega) (by decide) dX3_leastOfAll_29 ?_
  refine v_top (y := (nI ((Al sd f l).length))) h18 ?_
  refine v_ic_geN (pc := 30) X (by omega) (by omega) 60 dX3_leastOfAll_30 (by decide) (fun h30 => ?_) (fun h30 => ?_)
  · refine v_iload (pc := 60) X dX3_leastOfAll_60 4 rfl ?_
    refine v_top (y := (nI ((Dv sd f l).1))) (by rw [hm.all h30 hok.2]) ?_
    exact v_iret (pc := 62) X hr dX3_leastOfAll_62 ⟨⟨_, rfl, rfl⟩, rfl⟩
  · obtain ⟨ak, hak⟩ := get_lt (L := Al sd f l) (k := k) h30
    have hakb := h1m ak (List.mem_of_getElem? hak)
    refine v_iload (pc := 33) X dX3_leastOfAll_33 4 rfl ?_
    refine v_aload_n (pc := 35) X dX3_leastOfAll_35 rfl 0 rfl ?_
    refine v_get (pc := 36) X in_X3 0 rfl rfl 7 (by decide) q217 (fun y h => h) rfl dX3_leastOfAll_36 ?_
    refine v_aload_n (pc := 39) X dX3_leastOfAll_39 rfl 0 rfl ?_
    refine v_get (pc := 40) X in_X3 0 rfl rfl 8 (by decide) q218 (fun y h => h) rfl dX3_leastOfAll_40 ?_
    refine v_iload_n (pc := 43) X dX3_leastOfAll_43 rfl 3 rfl ?_
    refine v_iald (pc := 44) X 8 ka_8 rfl (by omega) (by decide) dX3_leastOfAll_44 ?_
    refine v_top (y := (nI o)) h8 ?_
    refine v_iload (pc := 45) X dX3_leastOfAll_45 5 rfl ?_
    refine v_iaddN (pc := 47) X dX3_leastOfAll_47 ?_
    refine v_iald (pc := 48) X 7 ka_7 rfl (by omega) (by decide) dX3_leastOfAll_48 ?_
    refine v_top (y := (nI ak)) (hS k ak hak) ?_
    refine v_minN (pc := 49) X q872 (by omega) (by omega) ⟨Nat.le_of_ble_eq_true rfl, Nat.le_of_ble_eq_true rfl⟩ (Nat.le_of_ble_eq_true rfl) ⟨Nat.zero_le _, Nat.zero_le _⟩ dX3_leastOfAll_49 ?_
    refine v_istore (pc := 52) (loc' := [(4, .int (nI (min mm ak))), (0, .ref x), (1, .int (nI f)), (2, .int (nI l)), (3, .int (nI (8 * f + l))), (5, .int (nI k))]) X dX3_leastOfAll_52 (by decide) rfl ?_
    refine v_iinc (pc := 54) (v := (nI (k + 1))) (loc' := [(5, .int (nI (k + 1))), (4, .int (nI (min mm ak))), (0, .ref x), (1, .int (nI f)), (2, .int (nI l)), (3, .int (nI (8 * f + l)))]) X dX3_leastOfAll_54 5 rfl (nI_add _ 1) (by decide) rfl ?_
    refine v_goto (pc := 57) X 22 dX3_leastOfAll_57 (by decide) ?_
    refine v_sub [2, 3, 4, 5, 1, 0] rfl ?_
    exact ih22 (k + 1) _ ⟨by omega, by omega, hm.next hak, by omega⟩ (by omega)

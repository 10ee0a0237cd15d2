theorem oT_row (sd : Nat → Nat) : ∀ (n f l : Nat), f ≤ l → l - f ≤ n → rowB (oT sd n f l) = true
  | 0, f, l, _, _ => rfl
  | n + 1, f, l, h, hn => by
    by_cases e : f = l
    · show rowB (if f = l then lf f else _) = true
      rw [if_pos e]; rfl
    · have hs := Dv_split sd (show f < l by omega)
      show rowB (if f = l then lf f else _) = true
      rw [if_neg e]
      show (rowB _ && rowB _ && decide (lsT _ + 1 = fsT _)) = true
      rw [oT_row sd n f _ (by omega) (by omega), oT_row sd n _ l (by omega) (by omega), (oT_fs sd n f _ (by omega) (by omega)).2.1, (oT_fs sd n _ l (by omega) (by omega)).1]
      simp
theorem oT_ok {sd : Nat → Nat} {f l : Nat} (h : f ≤ l) (hl : l < 8) : TrOk (oT sd 7 f l) := by
  obtain ⟨-, -, a3, a4, -⟩ := oT_fs sd 7 f l h (by omega)
  exact ⟨oT_row sd 7 f l h (by omega), by omega, fun v hv => by have := a4 v hv; omega⟩
theorem hdX2_plan : yX2_plan.cls = RX2 ∧ yX2_plan.cls ≠ "java/lang/invoke/MethodHandle" ∧ yX2_plan.cls ≠ "java/lang/invoke/VarHandle" ∧ (parseMethodDescriptor yX2_plan.desc).map (fun d => d.parameters.length) = some 3 := by decide +kernel
set_option maxHeartbeats 4000000 in
theorem c_X2_plan {l_ : Launch} {D : va_G} {dd : Nat → ClassId} {x sa ca pa n C np y f l : Nat} {ad : Nat → Nat} {σ : Tw} {g : Nat → Int32} {pf : Nat → Option Nat} {sd : Nat → Nat} (hst : l_.stackTraces = false) (hn : n ≤ 9) (hnp : np ≤ 4) (hf : ∀ i, i < 9 → g i = nI (sd i)) (h50 : ∀ i, sd i ≤ 50) (hfl : f ≤ l) (hl : l < n - 1) : XW l_ D dd yX2_plan (ws_ yX2_plan cX2_plan 5 (some .int)) 14 24 100 400 [.ref x, .int (nI f), .int (nI l), .ref y] (fl [[(x, .inr (1, [.ref sa, .int (nI n), .ref ca, .int (nI C), .ref pa, .int (nI np)]))], [(sa, .inl (dd 0, 9, .inl g))], [(pa, .inl (dd 4, 4, .inr (.inr (.inr (.inr pf)))))], kw y ad dd σ]) (fun r w => r = some (.int (nI np)) ∧ ¬ np = 4 ∧ ∃ p nw σ1, w = fl [[(x, .inr (1, [.ref sa, .int (nI n), .ref ca, .int (nI C), .ref pa, .int (nI (np + 1))]))], [(sa, .inl (dd 0, 9, .inl g))], [(pa, .inl (dd 4, 4, .inr (.inr (.inr (.inr (va_up pf np (some p)))))))], kw y ad dd σ1, nw] ∧ PlanIs dd nw p (oT sd 7 f l) (nI (coT sd (oT sd 7 f l)))) (fun q E w => E = "VatBrackets$Refused" ∧ ∃ fs, w = (q, .inr (6, fs)) :: fl [[(x, .inr (1, [.ref sa, .int (nI n), .ref ca, .int (nI C), .ref pa, .int (nI np)]))], [(sa, .inl (dd 0, 9, .inl g))], [(pa, .inl (dd 4, 4, .inr (.inr (.inr (.inr pf)))))], kw y ad dd σ] ∧ RfIs fs (nI 1) (nI 4) ∧ np = 4) := by
  have h89 := pr50 h50
  obtain ⟨ef, el, edep, elv, epl⟩ := oT_fs sd 7 f l hfl (by omega)
  have hlv : ∀ v ∈ lvs (oT sd 7 f l), v < 8 := fun v hv => by have := elv v hv; omega
  refine XW.intro (by decide) (Nat.le_of_ble_eq_true rfl) (fun p_ e_ s_ m_ as_ bl_ me_ c_ A_ X hr ht => ?_)
  have X : VX p_ s_ m_ as_ me_ c_ cX2_plan 5 RX2 D dd A_ := X
  refine v_eq (loc' := [(0, .ref x), (1, .int (nI f)), (2, .int (nI l)), (3, .ref y)]) rfl rfl rfl ?_
  refine v_aload_n (pc := 0) X dX2_plan_0 rfl 0 rfl ?_
  refine v_getM (pc := 1) X in_X2 (mem_fl 0 rfl List.mem_cons_self) rfl 5 (by decide) q161 (fun y h => h) rfl dX2_plan_1 ?_
  refine v_iconst (pc := 4) (v := nI 4) X dX2_plan_4 rfl ?_
  refine v_ic_neN (pc := 5) X (by omega) (by omega) 12 dX2_plan_5 (by decide) (fun h5 => ?_) (fun h5 => ?_)
  · refine v_iconst (pc := 12) (v := nI 0) X dX2_plan_12 rfl ?_
    refine v_iconst (pc := 13) (v := nI 1) X dX2_plan_13 rfl ?_
    refine v_iconst (pc := 14) (v := nI 4) X dX2_plan_14 rfl ?_
    refine v_frame (pc := 15) X (wr := fl [[(x, .inr (1, [.ref sa, .int (nI n), .ref ca, .int (nI C), .ref pa, .int (nI np)]))], [(sa, .inl (dd 0, 9, .inl g))], [(pa, .inl (dd 4, 4, .inr (.inr (.inr (.inr pf)))))], kw y ad dd σ]) (List.Perm.refl _) (r_SN X c_refuse0 q1025 q91 q1023 q1024 hdX1_refuse ⟨by dsimp only; omega, by dsimp only; omega⟩ rfl rfl (Nat.le_of_ble_eq_true rfl) dX2_plan_15 ⟨by dsimp only; omega, by dsimp only; omega⟩) (fun v15 w15 h15 => ?_)
    obtain ⟨rfl, rfl⟩ := h15
    refine v_eq (ws' := fl [[(x, .inr (1, [.ref sa, .int (nI n), .ref ca, .int (nI C), .ref pa, .int (nI np)]))], [(sa, .inl (dd 0, 9, .inl g))], [(pa, .inl (dd 4, 4, .inr (.inr (.inr (.inr pf)))))], kw y ad dd σ]) rfl rfl rfl ?_
    refine v_aload_n (pc := 18) X dX2_plan_18 rfl 3 rfl ?_
    refine v_aload_n (pc := 19) X dX2_plan_19 rfl 0 rfl ?_
    refine v_getM (pc := 20) X in_X2 (mem_fl 0 rfl List.mem_cons_self) rfl 0 (by decide) q147 (fun y h => h) rfl dX2_plan_20 ?_
    refine v_aload_n (pc := 23) X dX2_plan_23 rfl 0 rfl ?_
    refine v_getM (pc := 24) X in_X2 (mem_fl 0 rfl List.mem_cons_self) rfl 1 (by decide) q150 (fun y h => h) rfl dX2_plan_24 ?_
    refine v_frame (pc := 27) X (wr := fl [[(x, .inr (1, [.ref sa, .int (nI n), .ref ca, .int (nI C), .ref pa, .int (nI np)]))], [(pa, .inl (dd 4, 4, .inr (.inr (.inr (.inr pf)))))]]) ((fl_perm ((mv_perm 1 _).trans (mv_perm 3 _))).trans (fl_split 2 _)) (r_V X (c_X3_take (x := y) (ad := fun i => if i = 50 then sa else ad i) (σ := rw2 σ 50 g) (n := n) (sd := sd) hf h89 hn) (List.mem_of_getElem? (i := 0) rfl) rfl rfl (lw_V q1379 q837 q838 q95 q839) hdX3_take ⟨by dsimp only; omega, by dsimp only; omega⟩ rfl rfl (Nat.le_of_ble_eq_true rfl) dX2_plan_27 ⟨by dsimp only; omega, by dsimp only; omega⟩) (fun v27 w27 h27 => ?_)
    obtain ⟨σ1, rfl, rfl, hT⟩ := h27
    have h5027 : σ1 50 = g := (hT.1.1 50 (by decide) (by decide)).trans (if_pos rfl)
    refine v_eq (ws' := fl [kw y ad dd σ1, [(sa, .inl (dd 0, 9, .inl g))], [(x, .inr (1, [.ref sa, .int (nI n), .ref ca, .int (nI C), .ref pa, .int (nI np)]))], [(pa, .inl (dd 4, 4, .inr (.inr (.inr (.inr pf)))))]]) (by rw [← h5027]; rfl) rfl rfl ?_
    refine v_aload_n (pc := 30) X dX2_plan_30 rfl 3 rfl ?_
    refine v_iload_n (pc := 31) X dX2_plan_31 rfl 1 rfl ?_
    refine v_iload_n (pc := 32) X dX2_plan_32 rfl 2 rfl ?_
    refine v_frame (pc := 33) X (wr := fl [[(sa, .inl (dd 0, 9, .inl g))], [(x, .inr (1, [.ref sa, .int (nI n), .ref ca, .int (nI C), .ref pa, .int (nI np)]))], [(pa, .inl (dd 4, 4, .inr (.inr (.inr (.inr pf)))))]]) ((fl_perm (List.Perm.refl _)).trans (fl_split 1 _)) (r_V X (c_order (x := y) (ad := ad) (σ := σ1) (sd := sd) (m := n - 1) (by omega) (fun f l h1 h2 => (hT.2.2.2 f l h1 h2).1.2.2.1) 7 f l hfl hl (by omega)) (List.mem_of_getElem? (i := 0) rfl) rfl rfl (lw_V q1380 q1381 q1382 q95 q1383) hdX3_order ⟨by dsimp only; omega, by dsimp only; omega⟩ rfl rfl (Nat.le_of_ble_eq_true rfl) dX2_plan_33 ⟨by dsimp only; omega, by dsimp only; omega⟩) (fun v33 w33 h33 => ?_)
    obtain ⟨qo, new, rfl, rfl, hP⟩ := h33
    refine v_flj (a := [kw y ad dd σ1, new]) (b := [[(sa, .inl (dd 0, 9, .inl g))], [(x, .inr (1, [.ref sa, .int (nI n), .ref ca, .int (nI C), .ref pa, .int (nI np)]))], [(pa, .inl (dd 4, 4, .inr (.inr (.inr (.inr pf)))))]]) ?_
    refine v_eq (ws' := fl [kw y ad dd σ1, new, [(sa, .inl (dd 0, 9, .inl g))], [(x, .inr (1, [.ref sa, .int (nI n), .ref ca, .int (nI C), .ref pa, .int (nI np)]))], [(pa, .inl (dd 4, 4, .inr (.inr (.inr (.inr pf)))))]]) rfl rfl rfl ?_
    refine v_astore (pc := 36) (loc' := [(4, .ref qo), (0, .ref x), (1, .int (nI f)), (2, .int (nI l)), (3, .ref y)]) X dX2_plan_36 (by decide) rfl ?_
    refine v_aload_n (pc := 38) X dX2_plan_38 rfl 1 rfl ?_
    refine v_getM (pc := 39) X in_X2 (mem_fl 3 rfl List.mem_cons_self) rfl 4 (by decide) q159 (fun y h => h) rfl dX2_plan_39 ?_
    refine v_aload_n (pc := 42) X dX2_plan_42 rfl 1 rfl ?_
    refine v_getM (pc := 43) X in_X2 (mem_fl 3 rfl List.mem_cons_self) rfl 5 (by decide) q161 (fun y h => h) rfl dX2_plan_43 ?_
    refine v_new (pc := 46) (ci := 10) X in_X12 tyX12 tyX12_ok q145 q1387 q126 rfl [.null, .int 0, .null, .null, .null, .null, .null, .int 0] (fun j hj => by rcases (show j = 0 ∨ j = 1 ∨ j = 2 ∨ j = 3 ∨ j = 4 ∨ j = 5 ∨ j = 6 ∨ j = 7 by omega) with rfl | rfl | rfl | rfl | rfl | rfl | rfl | rfl <;> rfl) ⟨by dsimp only; omega, by dsimp only; omega⟩ dX2_plan_46 (fun q1 => ?_)
    refine v_perm (ws' := [(q1, .inr (10, [.null, .int 0, .null, .null, .null, .null, .null, .int 0]))] ++ fl [kw y ad dd σ1, new, [(sa, .inl (dd 0, 9, .inl g))], [(x, .inr (1, [.ref sa, .int (nI n), .ref ca, .int (nI C), .ref pa, .int (nI np)]))], [(pa, .inl (dd 4, 4, .inr (.inr (.inr (.inr pf)))))]]) List.perm_append_comm ?_
    refine v_eq (ws' := fl [[(q1, .inr (10, [.null, .int 0, .null, .null, .null, .null, .null, .int 0]))], kw y ad dd σ1, new, [(sa, .inl (dd 0, 9, .inl g))], [(x, .inr (1, [.ref sa, .int (nI n), .ref ca, .int (nI C), .ref pa, .int (nI np)]))], [(pa, .inl (dd 4, 4, .inr (.inr (.inr (.inr pf)))))]]) rfl rfl rfl ?_
    refine v_dup (pc := 49) X dX2_plan_49 rfl ?_
    refine v_aload (pc := 50) X dX2_plan_50 0 rfl ?_
    refine v_aload (pc := 52) X dX2_plan_52 0 rfl ?_
    refine v_aload_n (pc := 54) X dX2_plan_54 rfl 1 rfl ?_
    refine v_getM (pc := 55) X in_X2 (mem_fl 4 rfl List.mem_cons_self) rfl 0 (by decide) q147 (fun y h => h) rfl dX2_plan_55 ?_
    refine v_pcost (pc := 58) X ((oT sd 7 f l)) qo (hP.mono (fun q hq => mem_fl 2 rfl hq)) (c_pcost (mem_fl 3 rfl List.mem_cons_self) hf ((oT sd 7 f l)) qo (hP.mono (fun q hq => mem_fl 2 rfl hq)) hlv) ⟨[], perm_nil _⟩ q936 ⟨by dsimp only; omega, by dsimp only; omega⟩ (Nat.le_of_ble_eq_true rfl) dX2_plan_58 ⟨by dsimp only; omega, by dsimp only; omega⟩ (fun r58 h58 => ?_)
    subst h58
    refine v_frame (pc := 63) X (wr := fl [kw y ad dd σ1, [(sa, .inl (dd 0, 9, .inl g))], [(x, .inr (1, [.ref sa, .int (nI n), .ref ca, .int (nI C), .ref pa, .int (nI np)]))], [(pa, .inl (dd 4, 4, .inr (.inr (.inr (.inr pf)))))]]) ((fl_perm ((mv_perm 2 _).trans (mv_perm 1 _))).trans (fl_split 2 _)) (r_I X (c_X12_init (T := (oT sd 7 f l)) hP (oT_ok hfl (by omega))) q1390 q126 q1388 q1389 hdX12_init ⟨by dsimp only; omega, by dsimp only; omega⟩ rfl rfl (Nat.le_of_ble_eq_true rfl) dX2_plan_63 ⟨by dsimp only; omega, by dsimp only; omega⟩) (fun v63 w63 h63 => ?_)
    obtain ⟨rfl, ad2, σ2, rfl, hPl⟩ := h63
    refine v_flj (a := [pw q1 ad2 dd σ2 ++ new]) (b := [kw y ad dd σ1, [(sa, .inl (dd 0, 9, .inl g))], [(x, .inr (1, [.ref sa, .int (nI n), .ref ca, .int (nI C), .ref pa, .int (nI np)]))], [(pa, .inl (dd 4, 4, .inr (.inr (.inr (.inr pf)))))]]) ?_
    refine v_eq (ws' := fl [pw q1 ad2 dd σ2 ++ new, kw y ad dd σ1, [(sa, .inl (dd 0, 9, .inl g))], [(x, .inr (1, [.ref sa, .int (nI n), .ref ca, .int (nI C), .ref pa, .int (nI np)]))], [(pa, .inl (dd 4, 4, .inr (.inr (.inr (.inr pf)))))]]) rfl rfl rfl ?_
    refine v_perm (ws' := fl [[(x, .inr (1, [.ref sa, .int (nI n), .ref ca, .int (nI C), .ref pa, .int (nI np)]))], [(pa, .inl (dd 4, 4, .inr (.inr (.inr (.inr pf)))))], pw q1 ad2 dd σ2 ++ new, kw y ad dd σ1, [(sa, .inl (dd 0, 9, .inl g))]]) (fl_perm ((mv_perm 4 _).trans (mv_perm 4 _))) ?_
    refine v_aast (pc := 66) X 1 4 rfl rfl (mem_fl 2 rfl (List.mem_append_left _ (List.mem_of_getElem? (i := 0) rfl))) rfl rfl (by omega) (by decide) dX2_plan_66 (ws' := fl [[(x, .inr (1, [.ref sa, .int (nI n), .ref ca, .int (nI C), .ref pa, .int (nI np)]))], [(pa, .inl (dd 4, 4, .inr (.inr (.inr (.inr (va_up pf np (some q1)))))))], pw q1 ad2 dd σ2 ++ new, kw y ad dd σ1, [(sa, .inl (dd 0, 9, .inl g))]]) rfl ?_
    refine v_aload_n (pc := 67) X dX2_plan_67 rfl 1 rfl ?_
    refine v_dup (pc := 68) X dX2_plan_68 rfl ?_
    refine v_getM (pc := 69) X in_X2 (mem_fl 0 rfl List.mem_cons_self) rfl 5 (by decide) q161 (fun y h => h) rfl dX2_plan_69 ?_
    refine v_iconst (pc := 72) (v := nI 1) X dX2_plan_72 rfl ?_
    refine v_iaddN (pc := 73) X dX2_plan_73 ?_
    refine v_put (pc := 74) X in_X2 tyX2 tyX2_ok nmX2 0 rfl rfl 5 (by decide) q161 (fun y h => h) rfl rfl rfl (Nat.le_of_ble_eq_true rfl) dX2_plan_74 (ws' := fl [[(x, .inr (1, [.ref sa, .int (nI n), .ref ca, .int (nI C), .ref pa, .int (nI (np + 1))]))], [(pa, .inl (dd 4, 4, .inr (.inr (.inr (.inr (va_up pf np (some q1)))))))], pw q1 ad2 dd σ2 ++ new, kw y ad dd σ1, [(sa, .inl (dd 0, 9, .inl g))]]) rfl ?_
    refine v_aload_n (pc := 77) X dX2_plan_77 rfl 1 rfl ?_
    refine v_getM (pc := 78) X in_X2 (mem_fl 0 rfl List.mem_cons_self) rfl 5 (by decide) q161 (fun y h => h) rfl dX2_plan_78 ?_
    refine v_iconst (pc := 81) (v := nI 1) X dX2_plan_81 rfl ?_
    refine v_isubN (pc := 82) X (by omega) dX2_plan_82 ?_
    refine v_perm (ws' := fl [[(x, .inr (1, [.ref sa, .int (nI n), .ref ca, .int (nI C), .ref pa, .int (nI (np + 1))]))], [(sa, .inl (dd 0, 9, .inl g))], [(pa, .inl (dd 4, 4, .inr (.inr (.inr (.inr (va_up pf np (some q1)))))))], kw y ad dd σ1, pw q1 ad2 dd σ2 ++ new]) (fl_perm (((((mv_perm 2 _).trans (mv_perm 3 _)).trans (mv_perm 3 _)).trans (mv_perm 4 _)).trans (mv_perm 4 _))) ?_
    refine v_widen (k := 24) (n := 100) (by omega) (by omega) ?_
    exact v_xr (v_iret (pc := 83) X hr dX2_plan_83 ⟨(by rw [Nat.add_sub_cancel]), h5, _, _, _, rfl, hPl⟩)
  · refine v_iconst (pc := 8) (v := nI 1) X dX2_plan_8 rfl ?_
    refine v_goto (pc := 9) X 13 dX2_plan_9 (by decide) ?_
    refine v_iconst (pc := 13) (v := nI 1) X dX2_plan_13 rfl ?_
    refine v_iconst (pc := 14) (v := nI 4) X dX2_plan_14 rfl ?_
    refine v_frameX (pc := 15) X (wr := fl [[(x, .inr (1, [.ref sa, .int (nI n), .ref ca, .int (nI C), .ref pa, .int (nI np)]))], [(sa, .inl (dd 0, 9, .inl g))], [(pa, .inl (dd 4, 4, .inr (.inr (.inr (.inr pf)))))], kw y ad dd σ]) (List.Perm.refl _) (x_SN X (c_refuse1 hst) q1025 q91 q1023 q1024 hdX1_refuse ⟨by dsimp only; omega, by dsimp only; omega⟩ rfl rfl (Nat.le_of_ble_eq_true rfl) dX2_plan_15 ⟨by dsimp only; omega, by dsimp only; omega⟩) (fun q15 E15 w15 x15 => ?_) (fun v15 w15 h15 => h15.elim)
    obtain ⟨rfl, fs15, rfl, hf15⟩ := x15
    exact vt_out X (fun z hz => (ht z hz).elim) ((Nat.le_of_ble_eq_true rfl)) ((Nat.le_of_ble_eq_true rfl)) ⟨rfl, _, rfl, hf15, h5⟩

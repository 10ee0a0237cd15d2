theorem hdX1_tryOn : yX1_tryOn.cls = RX1 ∧ yX1_tryOn.cls ≠ "java/lang/invoke/MethodHandle" ∧ yX1_tryOn.cls ≠ "java/lang/invoke/VarHandle" ∧ (parseMethodDescriptor yX1_tryOn.desc).map (fun d => d.parameters.length) = some 0 := by decide +kernel
set_option maxHeartbeats 4000000 in
theorem c_X1_tryOn {l_ : Launch} {D : va_G} {dd : Nat → ClassId} {x c tr sv kd sd y dz th bb lb rr : Nat} {hv fa re de : Int32} {sa ca pa n C np : Nat} {f cf : Nat → Int32} {pf : Nat → Option Nat} {tsa tca tpa tn tC tnp : Nat} {tf tcf : Nat → Int32} {tpf : Nat → Option Nat} {b : Blk} {tl : va_W} (hC : CelOk dd tl b n C np f cf pf) : MW l_ D dd yX1_tryOn cX1_tryOn 1 (some (.object "VatBrackets$Cellar")) 2 0 0 90 [.ref x] (fl [[(x, .inr (0, [.ref c, .ref tr, .ref sv, .int hv, .ref kd, .ref sd, .ref y, .ref dz, .ref th, .ref bb, .ref lb, .ref rr, .int fa, .int re, .int de]))], celw dd tr tsa tca tpa tn tC tnp tf tcf tpf, celw dd c sa ca pa n C np f cf pf, tl]) (fun r w => r = some (.ref tr) ∧ ∃ f2 g2 p2, w = fl [[(x, .inr (0, [.ref c, .ref tr, .ref sv, .int hv, .ref kd, .ref sd, .ref y, .ref dz, .ref th, .ref bb, .ref lb, .ref rr, .int fa, .int re, .int de]))], celw dd tr tsa tca tpa n C np f2 g2 p2, celw dd c sa ca pa n C np f cf pf, tl] ∧ CelOk dd tl b n C np f2 g2 p2) := by
  refine MW.intro (by decide) (Nat.le_of_ble_eq_true rfl) (fun p_ e_ s_ m_ as_ bl_ me_ c_ A_ X hr hnm => ?_)
  have X : VX p_ s_ m_ as_ me_ c_ cX1_tryOn 1 RX1 D dd A_ := X
  refine v_eq (loc' := [(0, .ref x)]) rfl rfl rfl ?_
  refine v_aload_n (pc := 0) X dX1_tryOn_0 rfl 0 rfl ?_
  refine v_getM (pc := 1) X in_X1 (mem_fl 0 rfl List.mem_cons_self) rfl 1 (by decide) q464 (fun y h => h) rfl dX1_tryOn_1 ?_
  refine v_aload_n (pc := 4) X dX1_tryOn_4 rfl 0 rfl ?_
  refine v_getM (pc := 5) X in_X1 (mem_fl 0 rfl List.mem_cons_self) rfl 0 (by decide) q463 (fun y h => h) rfl dX1_tryOn_5 ?_
  refine v_frame (pc := 8) X (wr := fl [[(x, .inr (0, [.ref c, .ref tr, .ref sv, .int hv, .ref kd, .ref sd, .ref y, .ref dz, .ref th, .ref bb, .ref lb, .ref rr, .int fa, .int re, .int de]))]]) ((fl_perm (((mv_perm 3 _).trans (mv_perm 3 _)).trans (mv_perm 3 _))).trans (fl_split 3 _)) (r_V X (c_X2_take (x := tr) (y := c) hC.hq) (List.mem_of_getElem? (i := 0) rfl) rfl rfl (lw_V q979 q980 q981 q92 q982) hdX2_take ⟨Nat.le_of_ble_eq_true rfl, Nat.le_of_ble_eq_true rfl⟩ rfl rfl (Nat.le_of_ble_eq_true rfl) dX1_tryOn_8 ⟨Nat.le_of_ble_eq_true rfl, Nat.le_of_ble_eq_true rfl⟩) (fun v8 w8 h8 => ?_)
  obtain ⟨rfl, f2, g2, p2, rfl, h21, h22, h23⟩ := h8
  refine v_flj (a := [celw dd tr tsa tca tpa n C np f2 g2 p2, celw dd c sa ca pa n C np f cf pf, tl]) (b := [[(x, .inr (0, [.ref c, .ref tr, .ref sv, .int hv, .ref kd, .ref sd, .ref y, .ref dz, .ref th, .ref bb, .ref lb, .ref rr, .int fa, .int re, .int de]))]]) ?_
  refine v_eq (ws' := fl [celw dd tr tsa tca tpa n C np f2 g2 p2, celw dd c sa ca pa n C np f cf pf, tl, [(x, .inr (0, [.ref c, .ref tr, .ref sv, .int hv, .ref kd, .ref sd, .ref y, .ref dz, .ref th, .ref bb, .ref lb, .ref rr, .int fa, .int re, .int de]))]]) rfl rfl rfl ?_
  have hC2 := hC.cpy h21 h22 h23
  refine v_perm (ws' := fl [[(x, .inr (0, [.ref c, .ref tr, .ref sv, .int hv, .ref kd, .ref sd, .ref y, .ref dz, .ref th, .ref bb, .ref lb, .ref rr, .int fa, .int re, .int de]))], celw dd tr tsa tca tpa n C np f2 g2 p2, celw dd c sa ca pa n C np f cf pf, tl]) (fl_perm ((((mv_perm 2 _).trans (mv_perm 2 _)).trans (mv_perm 2 _)).trans (mv_perm 3 _))) ?_
  refine v_aload_n (pc := 11) X dX1_tryOn_11 rfl 0 rfl ?_
  refine v_getM (pc := 12) X in_X1 (mem_fl 0 rfl List.mem_cons_self) rfl 1 (by decide) q464 (fun y h => h) rfl dX1_tryOn_12 ?_
  exact v_aret (pc := 15) X hr (Or.inl ⟨_, rfl⟩) dX1_tryOn_15 ⟨rfl, _, _, _, rfl, hC2⟩

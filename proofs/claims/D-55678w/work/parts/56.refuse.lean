abbrev XRef (r d : Int32) (w0 : va_W) : Nat → String → va_W → Prop := fun q E w => E = "VatBrackets$Refused" ∧ ∃ fs, w = (q, .inr (6, fs)) :: w0 ∧ RfIs fs r d
abbrev XFau (k : Int32) (w0 : va_W) : Nat → String → va_W → Prop := fun q E w => E = "VatBrackets$Fault" ∧ ∃ fs, w = (q, .inr (7, fs)) :: w0 ∧ FaIs fs k
theorem hdX1_refuse : yX1_refuse.cls ≠ "java/lang/invoke/MethodHandle" ∧ yX1_refuse.cls ≠ "java/lang/invoke/VarHandle" ∧ (parseMethodDescriptor yX1_refuse.desc).map (fun d => d.parameters.length) = some 3 := by decide +kernel
set_option maxHeartbeats 4000000 in
theorem c_refuse0 {l_ : Launch} {D : va_G} {dd : Nat → ClassId} {r d : Int32}  : MW l_ D dd yX1_refuse cX1_refuse 3 none 0 0 0 0 [.int (nI 0), .int r, .int d] ([]) (fun v w => v = none ∧ w = []) := by
  refine MW.intro (by decide) (Nat.le_of_ble_eq_true rfl) (fun p_ e_ s_ m_ as_ bl_ me_ c_ A_ X hr hnm => ?_)
  have X : VX p_ s_ m_ as_ me_ c_ cX1_refuse 3 RX1 D dd A_ := X
  refine v_eq (loc' := [(0, .int (nI 0)), (1, .int r), (2, .int d)]) rfl rfl rfl ?_
  refine v_iload_n (pc := 0) X dX1_refuse_0 rfl 0 rfl ?_
  refine v_if_eqN (pc := 1) X (by omega) 14 dX1_refuse_1 (by decide) (fun h1 => ?_) (fun h1 => absurd rfl h1)
  exact v_vret (pc := 14) X hr dX1_refuse_14 ⟨rfl, rfl⟩
set_option maxHeartbeats 4000000 in
theorem c_refuse1 {l_ : Launch} {D : va_G} {dd : Nat → ClassId} {r d : Int32} (hst : l_.stackTraces = false) : XW l_ D dd yX1_refuse (ws_ yX1_refuse cX1_refuse 3 none) 7 1 8 120 [.int (nI 1), .int r, .int d] ([]) (fun v w => False) (XRef r d []) := by
  refine XW.intro (by decide) (Nat.le_of_ble_eq_true rfl) (fun p_ e_ s_ m_ as_ bl_ me_ c_ A_ X hr ht => ?_)
  have X : VX p_ s_ m_ as_ me_ c_ cX1_refuse 3 RX1 D dd A_ := X
  refine v_eq (loc' := [(0, .int (nI 1)), (1, .int r), (2, .int d)]) rfl rfl rfl ?_
  refine v_iload_n (pc := 0) X dX1_refuse_0 rfl 0 rfl ?_
  refine v_if_eqN (pc := 1) X (by omega) 14 dX1_refuse_1 (by decide) (fun h1 => absurd h1 (by decide)) (fun h1 => ?_)
  refine v_newE (pc := 4) (pi := 10) (ci := 6) (As := [.int r, .int d]) (post := fun fs => RfIs fs r d) X in_X7 tyX7 tyX7_ok q994 q1026 q111 rfl (fun j hj => by rcases (show j = 0 ∨ j = 1 ∨ j = 2 ∨ j = 3 ∨ j = 4 ∨ j = 5 ∨ j = 6 ∨ j = 7 by omega) with rfl | rfl | rfl | rfl | rfl | rfl | rfl | rfl <;> rfl) dX1_refuse_4 dX1_refuse_7 (fun ls H1 locs q hl hP k => (lv_iload_n X.hx X.hb dX1_refuse_8 rfl (lv_at hl 1 rfl) (lv_iload_n X.hx X.hb dX1_refuse_9 rfl (lv_at hl 2 rfl) k))) (fun q => c_X7_init hst) q1036 q111 q1034 q1035 hdX7_init ⟨Nat.le_of_ble_eq_true rfl, Nat.le_of_ble_eq_true rfl⟩ rfl (Nat.le_of_ble_eq_true rfl) dX1_refuse_10 ⟨Nat.le_of_ble_eq_true rfl, Nat.le_of_ble_eq_true rfl⟩ (fun q4 fs4 hf4 => ?_)
  refine v_eq (ws' := [(q4, .inr (6, fs4))]) rfl rfl rfl ?_
  refine v_athrow (pc := 13) X (List.mem_of_getElem? (i := 0) rfl) rfl rfl dX1_refuse_13 ?_
  exact vt_out X (fun z hz => (ht z hz).elim) ((Nat.le_of_ble_eq_true rfl)) ((Nat.le_of_ble_eq_true rfl)) ⟨rfl, fs4, rfl, hf4⟩

theorem hdX1_check : yX1_check.cls ≠ "java/lang/invoke/MethodHandle" ∧ yX1_check.cls ≠ "java/lang/invoke/VarHandle" ∧ (parseMethodDescriptor yX1_check.desc).map (fun d => d.parameters.length) = some 1 := by decide +kernel
set_option maxHeartbeats 4000000 in
theorem c_X1_check_1 {l_ : Launch} {D : va_G} {dd : Nat → ClassId}   : MW l_ D dd yX1_check cX1_check 1 none 0 0 0 0 [.int (nI 1)] ([]) (fun v w => v = none ∧ w = []) := by
  refine MW.intro (by decide) (Nat.le_of_ble_eq_true rfl) (fun p_ e_ s_ m_ as_ bl_ me_ c_ A_ X hr hnm => ?_)
  have X : VX p_ s_ m_ as_ me_ c_ cX1_check 1 RX1 D dd A_ := X
  refine v_eq (loc' := [(0, .int (nI 1))]) rfl rfl rfl ?_
  refine v_iload_n (pc := 0) X dX1_check_0 rfl 0 rfl ?_
  refine v_if_neN (pc := 1) X (by omega) 12 dX1_check_1 (by decide) (fun h1 => ?_) (fun h1 => absurd h1 (by decide))
  exact v_vret (pc := 12) X hr dX1_check_12 ⟨rfl, rfl⟩
set_option maxHeartbeats 4000000 in
theorem c_X1_check_0 {l_ : Launch} {D : va_G} {dd : Nat → ClassId}  (hst : l_.stackTraces = false) : XW l_ D dd yX1_check (ws_ yX1_check cX1_check 1 none) 7 1 6 100 [.int (nI 0)] ([]) (fun v w => False) (fun q E w => E = "java/lang/IllegalArgumentException" ∧ w = []) := by
  refine XW.intro (by decide) (Nat.le_of_ble_eq_true rfl) (fun p_ e_ s_ m_ as_ bl_ me_ c_ A_ X hr ht => ?_)
  have X : VX p_ s_ m_ as_ me_ c_ cX1_check 1 RX1 D dd A_ := X
  refine v_eq (loc' := [(0, .int (nI 0))]) rfl rfl rfl ?_
  refine v_iload_n (pc := 0) X dX1_check_0 rfl 0 rfl ?_
  refine v_if_neN (pc := 1) X (by omega) 12 dX1_check_1 (by decide) (fun h1 => absurd rfl h1) (fun h1 => ?_)
  exact v_throw0 (pc := 4) (cls := "java/lang/IllegalArgumentException") (names := ["java/lang/RuntimeException", "java/lang/Exception"]) X hst (by decide +kernel) (by decide +kernel) (List.forall_mem_cons.mpr ⟨(wd_a q1004 rfl) rfl, List.forall_mem_cons.mpr ⟨(wd_a q110 rfl) rfl, wd_f (wd_app (wd_app wd_thr (wd_cons (wd_a q1006 rfl) (wd_cons (wd_a q1007 rfl) (wd_cons (wd_a q1008 rfl) (wd_cons (wd_a q1009 rfl) (wd_cons (wd_t q348 rfl rfl) (wd_cons (wd_a q1009 rfl) (wd_cons (wd_a q1010 rfl) (wd_cons (wd_a q1011 rfl) (wd_cons (wd_a q1012 rfl) (wd_cons (wd_t q350 rfl rfl) (wd_cons (wd_a q1012 rfl) (wd_cons (wd_a q1013 rfl) (wd_cons (wd_a q1014 rfl) (wd_cons (wd_a q368 rfl) (wd_cons (wd_t q352 rfl rfl) wd_nil)))))))))))))))) (wd_cons (wd_a q1005 rfl) (wd_cons (wd_a q704 rfl) (wd_cons (wd_t q705 rfl rfl) (wd_cons (wd_a q706 rfl) (wd_cons (wd_a q382 rfl) (wd_cons (wd_a q707 rfl) (wd_cons (wd_a q708 rfl) (wd_cons (wd_a q709 rfl) (wd_cons (wd_a q710 rfl) (wd_cons (wd_x (by decide +kernel)) (wd_cons (wd_x (by decide +kernel)) (wd_cons (wd_a q366 rfl) (wd_cons (wd_a q365 rfl) (wd_cons (wd_a q711 rfl) wd_nil)))))))))))))))⟩⟩) dX1_check_4 dX1_check_7 dX1_check_8 dX1_check_11 (fun z hz => (ht z hz).elim) ⟨Nat.le_of_ble_eq_true rfl, Nat.le_of_ble_eq_true rfl⟩ (Nat.le_of_ble_eq_true rfl) ⟨Nat.le_of_ble_eq_true rfl, Nat.le_of_ble_eq_true rfl⟩ ⟨Nat.le_of_ble_eq_true rfl, Nat.le_of_ble_eq_true rfl⟩ (fun q => ⟨rfl, rfl⟩)
theorem hdX1_checkIndex : yX1_checkIndex.cls ≠ "java/lang/invoke/MethodHandle" ∧ yX1_checkIndex.cls ≠ "java/lang/invoke/VarHandle" ∧ (parseMethodDescriptor yX1_checkIndex.desc).map (fun d => d.parameters.length) = some 1 := by decide +kernel
set_option maxHeartbeats 4000000 in
theorem c_X1_checkIndex_1 {l_ : Launch} {D : va_G} {dd : Nat → ClassId}   : MW l_ D dd yX1_checkIndex cX1_checkIndex 1 none 0 0 0 0 [.int (nI 1)] ([]) (fun v w => v = none ∧ w = []) := by
  refine MW.intro (by decide) (Nat.le_of_ble_eq_true rfl) (fun p_ e_ s_ m_ as_ bl_ me_ c_ A_ X hr hnm => ?_)
  have X : VX p_ s_ m_ as_ me_ c_ cX1_checkIndex 1 RX1 D dd A_ := X
  refine v_eq (loc' := [(0, .int (nI 1))]) rfl rfl rfl ?_
  refine v_iload_n (pc := 0) X dX1_checkIndex_0 rfl 0 rfl ?_
  refine v_if_neN (pc := 1) X (by omega) 12 dX1_checkIndex_1 (by decide) (fun h1 => ?_) (fun h1 => absurd h1 (by decide))
  exact v_vret (pc := 12) X hr dX1_checkIndex_12 ⟨rfl, rfl⟩
set_option maxHeartbeats 4000000 in
theorem c_X1_checkIndex_0 {l_ : Launch} {D : va_G} {dd : Nat → ClassId}  (hst : l_.stackTraces = false) : XW l_ D dd yX1_checkIndex (ws_ yX1_checkIndex cX1_checkIndex 1 none) 7 1 6 100 [.int (nI 0)] ([]) (fun v w => False) (fun q E w => E = "java/lang/IndexOutOfBoundsException" ∧ w = []) := by
  refine XW.intro (by decide) (Nat.le_of_ble_eq_true rfl) (fun p_ e_ s_ m_ as_ bl_ me_ c_ A_ X hr ht => ?_)
  have X : VX p_ s_ m_ as_ me_ c_ cX1_checkIndex 1 RX1 D dd A_ := X
  refine v_eq (loc' := [(0, .int (nI 0))]) rfl rfl rfl ?_
  refine v_iload_n (pc := 0) X dX1_checkIndex_0 rfl 0 rfl ?_
  refine v_if_neN (pc := 1) X (by omega) 12 dX1_checkIndex_1 (by decide) (fun h1 => absurd rfl h1) (fun h1 => ?_)
  exact v_throw0 (pc := 4) (cls := "java/lang/IndexOutOfBoundsException") (names := ["java/lang/RuntimeException", "java/lang/Exception"]) X hst (by decide +kernel) (by decide +kernel) (List.forall_mem_cons.mpr ⟨(wd_a q1103 rfl) rfl, List.forall_mem_cons.mpr ⟨(wd_a q113 rfl) rfl, wd_f (wd_app (wd_app wd_thr (wd_cons (wd_a q1113 rfl) (wd_cons (wd_a q1114 rfl) (wd_cons (wd_a q1115 rfl) (wd_cons (wd_a q1009 rfl) (wd_cons (wd_t q348 rfl rfl) (wd_cons (wd_a q1009 rfl) (wd_cons (wd_a q1010 rfl) (wd_cons (wd_a q1011 rfl) (wd_cons (wd_a q1012 rfl) (wd_cons (wd_t q350 rfl rfl) (wd_cons (wd_a q1012 rfl) (wd_cons (wd_a q1013 rfl) (wd_cons (wd_a q1014 rfl) (wd_cons (wd_a q368 rfl) (wd_cons (wd_t q352 rfl rfl) wd_nil)))))))))))))))) (wd_cons (wd_a q1112 rfl) (wd_cons (wd_a q1104 rfl) (wd_cons (wd_t q1105 rfl rfl) (wd_cons (wd_a q1106 rfl) (wd_cons (wd_a q383 rfl) (wd_cons (wd_a q1107 rfl) (wd_cons (wd_a q1108 rfl) (wd_cons (wd_a q1109 rfl) (wd_cons (wd_a q1110 rfl) (wd_cons (wd_x (by decide +kernel)) (wd_cons (wd_x (by decide +kernel)) (wd_cons (wd_a q366 rfl) (wd_cons (wd_a q365 rfl) (wd_cons (wd_a q1111 rfl) wd_nil)))))))))))))))⟩⟩) dX1_checkIndex_4 dX1_checkIndex_7 dX1_checkIndex_8 dX1_checkIndex_11 (fun z hz => (ht z hz).elim) ⟨Nat.le_of_ble_eq_true rfl, Nat.le_of_ble_eq_true rfl⟩ (Nat.le_of_ble_eq_true rfl) ⟨Nat.le_of_ble_eq_true rfl, Nat.le_of_ble_eq_true rfl⟩ ⟨Nat.le_of_ble_eq_true rfl, Nat.le_of_ble_eq_true rfl⟩ (fun q => ⟨rfl, rfl⟩)
theorem hdX1_checkElement : yX1_checkElement.cls ≠ "java/lang/invoke/MethodHandle" ∧ yX1_checkElement.cls ≠ "java/lang/invoke/VarHandle" ∧ (parseMethodDescriptor yX1_checkElement.desc).map (fun d => d.parameters.length) = some 1 := by decide +kernel
set_option maxHeartbeats 4000000 in
theorem c_X1_checkElement_1 {l_ : Launch} {D : va_G} {dd : Nat → ClassId}   : MW l_ D dd yX1_checkElement cX1_checkElement 1 none 0 0 0 0 [.int (nI 1)] ([]) (fun v w => v = none ∧ w = []) := by
  refine MW.intro (by decide) (Nat.le_of_ble_eq_true rfl) (fun p_ e_ s_ m_ as_ bl_ me_ c_ A_ X hr hnm => ?_)
  have X : VX p_ s_ m_ as_ me_ c_ cX1_checkElement 1 RX1 D dd A_ := X
  refine v_eq (loc' := [(0, .int (nI 1))]) rfl rfl rfl ?_
  refine v_iload_n (pc := 0) X dX1_checkElement_0 rfl 0 rfl ?_
  refine v_if_neN (pc := 1) X (by omega) 12 dX1_checkElement_1 (by decide) (fun h1 => ?_) (fun h1 => absurd h1 (by decide))
  exact v_vret (pc := 12) X hr dX1_checkElement_12 ⟨rfl, rfl⟩
set_option maxHeartbeats 4000000 in
theorem c_X1_checkElement_0 {l_ : Launch} {D : va_G} {dd : Nat → ClassId}  (hst : l_.stackTraces = false) : XW l_ D dd yX1_checkElement (ws_ yX1_checkElement cX1_checkElement 1 none) 7 1 6 100 [.int (nI 0)] ([]) (fun v w => False) (fun q E w => E = "java/util/NoSuchElementException" ∧ w = []) := by
  refine XW.intro (by decide) (Nat.le_of_ble_eq_true rfl) (fun p_ e_ s_ m_ as_ bl_ me_ c_ A_ X hr ht => ?_)
  have X : VX p_ s_ m_ as_ me_ c_ cX1_checkElement 1 RX1 D dd A_ := X
  refine v_eq (loc' := [(0, .int (nI 0))]) rfl rfl rfl ?_
  refine v_iload_n (pc := 0) X dX1_checkElement_0 rfl 0 rfl ?_
  refine v_if_neN (pc := 1) X (by omega) 12 dX1_checkElement_1 (by decide) (fun h1 => absurd rfl h1) (fun h1 => ?_)
  exact v_throw0 (pc := 4) (cls := "java/util/NoSuchElementException") (names := ["java/lang/RuntimeException", "java/lang/Exception"]) X hst (by decide +kernel) (by decide +kernel) (List.forall_mem_cons.mpr ⟨(wd_a q1212 rfl) rfl, List.forall_mem_cons.mpr ⟨(wd_a q115 rfl) rfl, wd_f (wd_app (wd_app wd_thr (wd_cons (wd_a q1222 rfl) (wd_cons (wd_a q1223 rfl) (wd_cons (wd_a q1224 rfl) (wd_cons (wd_a q1009 rfl) (wd_cons (wd_t q348 rfl rfl) (wd_cons (wd_a q1009 rfl) (wd_cons (wd_a q1010 rfl) (wd_cons (wd_a q1011 rfl) (wd_cons (wd_a q1012 rfl) (wd_cons (wd_t q350 rfl rfl) (wd_cons (wd_a q1012 rfl) (wd_cons (wd_a q1013 rfl) (wd_cons (wd_a q1014 rfl) (wd_cons (wd_a q368 rfl) (wd_cons (wd_t q352 rfl rfl) wd_nil)))))))))))))))) (wd_cons (wd_a q1221 rfl) (wd_cons (wd_a q1213 rfl) (wd_cons (wd_t q1214 rfl rfl) (wd_cons (wd_a q1215 rfl) (wd_cons (wd_a q386 rfl) (wd_cons (wd_a q1216 rfl) (wd_cons (wd_a q1217 rfl) (wd_cons (wd_a q1218 rfl) (wd_cons (wd_a q1219 rfl) (wd_cons (wd_x (by decide +kernel)) (wd_cons (wd_x (by decide +kernel)) (wd_cons (wd_a q366 rfl) (wd_cons (wd_a q365 rfl) (wd_cons (wd_a q1220 rfl) wd_nil)))))))))))))))⟩⟩) dX1_checkElement_4 dX1_checkElement_7 dX1_checkElement_8 dX1_checkElement_11 (fun z hz => (ht z hz).elim) ⟨Nat.le_of_ble_eq_true rfl, Nat.le_of_ble_eq_true rfl⟩ (Nat.le_of_ble_eq_true rfl) ⟨Nat.le_of_ble_eq_true rfl, Nat.le_of_ble_eq_true rfl⟩ ⟨Nat.le_of_ble_eq_true rfl, Nat.le_of_ble_eq_true rfl⟩ (fun q => ⟨rfl, rfl⟩)
theorem hdX1_checkState : yX1_checkState.cls ≠ "java/lang/invoke/MethodHandle" ∧ yX1_checkState.cls ≠ "java/lang/invoke/VarHandle" ∧ (parseMethodDescriptor yX1_checkState.desc).map (fun d => d.parameters.length) = some 1 := by decide +kernel
set_option maxHeartbeats 4000000 in
theorem c_X1_checkState_1 {l_ : Launch} {D : va_G} {dd : Nat → ClassId}   : MW l_ D dd yX1_checkState cX1_checkState 1 none 0 0 0 0 [.int (nI 1)] ([]) (fun v w => v = none ∧ w = []) := by
  refine MW.intro (by decide) (Nat.le_of_ble_eq_true rfl) (fun p_ e_ s_ m_ as_ bl_ me_ c_ A_ X hr hnm => ?_)
  have X : VX p_ s_ m_ as_ me_ c_ cX1_checkState 1 RX1 D dd A_ := X
  refine v_eq (loc' := [(0, .int (nI 1))]) rfl rfl rfl ?_
  refine v_iload_n (pc := 0) X dX1_checkState_0 rfl 0 rfl ?_
  refine v_if_neN (pc := 1) X (by omega) 12 dX1_checkState_1 (by decide) (fun h1 => ?_) (fun h1 => absurd h1 (by decide))
  exact v_vret (pc := 12) X hr dX1_checkState_12 ⟨rfl, rfl⟩
set_option maxHeartbeats 4000000 in
theorem c_X1_checkState_0 {l_ : Launch} {D : va_G} {dd : Nat → ClassId}  (hst : l_.stackTraces = false) : XW l_ D dd yX1_checkState (ws_ yX1_checkState cX1_checkState 1 none) 7 1 6 100 [.int (nI 0)] ([]) (fun v w => False) (fun q E w => E = "java/lang/IllegalStateException" ∧ w = []) := by
  refine XW.intro (by decide) (Nat.le_of_ble_eq_true rfl) (fun p_ e_ s_ m_ as_ bl_ me_ c_ A_ X hr ht => ?_)
  have X : VX p_ s_ m_ as_ me_ c_ cX1_checkState 1 RX1 D dd A_ := X
  refine v_eq (loc' := [(0, .int (nI 0))]) rfl rfl rfl ?_
  refine v_iload_n (pc := 0) X dX1_checkState_0 rfl 0 rfl ?_
  refine v_if_neN (pc := 1) X (by omega) 12 dX1_checkState_1 (by decide) (fun h1 => absurd rfl h1) (fun h1 => ?_)
  exact v_throw0 (pc := 4) (cls := "java/lang/IllegalStateException") (names := ["java/lang/RuntimeException", "java/lang/Exception"]) X hst (by decide +kernel) (by decide +kernel) (List.forall_mem_cons.mpr ⟨(wd_a q1617 rfl) rfl, List.forall_mem_cons.mpr ⟨(wd_a q105 rfl) rfl, wd_f (wd_app (wd_app wd_thr (wd_cons (wd_a q1619 rfl) (wd_cons (wd_a q1620 rfl) (wd_cons (wd_a q1621 rfl) (wd_cons (wd_a q1009 rfl) (wd_cons (wd_t q348 rfl rfl) (wd_cons (wd_a q1009 rfl) (wd_cons (wd_a q1010 rfl) (wd_cons (wd_a q1011 rfl) (wd_cons (wd_a q1012 rfl) (wd_cons (wd_t q350 rfl rfl) (wd_cons (wd_a q1012 rfl) (wd_cons (wd_a q1013 rfl) (wd_cons (wd_a q1014 rfl) (wd_cons (wd_a q368 rfl) (wd_cons (wd_t q352 rfl rfl) wd_nil)))))))))))))))) (wd_cons (wd_a q1618 rfl) (wd_cons (wd_a q346 rfl) (wd_cons (wd_t q347 rfl rfl) (wd_cons (wd_a q354 rfl) (wd_cons (wd_a q355 rfl) (wd_cons (wd_a q356 rfl) (wd_cons (wd_a q358 rfl) (wd_cons (wd_a q360 rfl) (wd_cons (wd_a q362 rfl) (wd_cons (wd_x (by decide +kernel)) (wd_cons (wd_x (by decide +kernel)) (wd_cons (wd_a q366 rfl) (wd_cons (wd_a q365 rfl) (wd_cons (wd_a q364 rfl) wd_nil)))))))))))))))⟩⟩) dX1_checkState_4 dX1_checkState_7 dX1_checkState_8 dX1_checkState_11 (fun z hz => (ht z hz).elim) ⟨Nat.le_of_ble_eq_true rfl, Nat.le_of_ble_eq_true rfl⟩ (Nat.le_of_ble_eq_true rfl) ⟨Nat.le_of_ble_eq_true rfl, Nat.le_of_ble_eq_true rfl⟩ ⟨Nat.le_of_ble_eq_true rfl, Nat.le_of_ble_eq_true rfl⟩ (fun q => ⟨rfl, rfl⟩)
theorem hdX1_checkAny : yX1_checkAny.cls ≠ "java/lang/invoke/MethodHandle" ∧ yX1_checkAny.cls ≠ "java/lang/invoke/VarHandle" ∧ (parseMethodDescriptor yX1_checkAny.desc).map (fun d => d.parameters.length) = some 1 := by decide +kernel
set_option maxHeartbeats 4000000 in
theorem c_X1_checkAny_1 {l_ : Launch} {D : va_G} {dd : Nat → ClassId}   : MW l_ D dd yX1_checkAny cX1_checkAny 1 none 0 0 0 0 [.int (nI 1)] ([]) (fun v w => v = none ∧ w = []) := by
  refine MW.intro (by decide) (Nat.le_of_ble_eq_true rfl) (fun p_ e_ s_ m_ as_ bl_ me_ c_ A_ X hr hnm => ?_)
  have X : VX p_ s_ m_ as_ me_ c_ cX1_checkAny 1 RX1 D dd A_ := X
  refine v_eq (loc' := [(0, .int (nI 1))]) rfl rfl rfl ?_
  refine v_iload_n (pc := 0) X dX1_checkAny_0 rfl 0 rfl ?_
  refine v_if_neN (pc := 1) X (by omega) 12 dX1_checkAny_1 (by decide) (fun h1 => ?_) (fun h1 => absurd h1 (by decide))
  exact v_vret (pc := 12) X hr dX1_checkAny_12 ⟨rfl, rfl⟩
set_option maxHeartbeats 4000000 in
theorem c_X1_checkAny_0 {l_ : Launch} {D : va_G} {dd : Nat → ClassId}  (hst : l_.stackTraces = false) : XW l_ D dd yX1_checkAny (ws_ yX1_checkAny cX1_checkAny 1 none) 7 1 6 100 [.int (nI 0)] ([]) (fun v w => False) (fun q E w => E = "java/lang/ArithmeticException" ∧ w = []) := by
  refine XW.intro (by decide) (Nat.le_of_ble_eq_true rfl) (fun p_ e_ s_ m_ as_ bl_ me_ c_ A_ X hr ht => ?_)
  have X : VX p_ s_ m_ as_ me_ c_ cX1_checkAny 1 RX1 D dd A_ := X
  refine v_eq (loc' := [(0, .int (nI 0))]) rfl rfl rfl ?_
  refine v_iload_n (pc := 0) X dX1_checkAny_0 rfl 0 rfl ?_
  refine v_if_neN (pc := 1) X (by omega) 12 dX1_checkAny_1 (by decide) (fun h1 => absurd rfl h1) (fun h1 => ?_)
  exact v_throw0 (pc := 4) (cls := "java/lang/ArithmeticException") (names := ["java/lang/RuntimeException", "java/lang/Exception"]) X hst (by decide +kernel) (by decide +kernel) (List.forall_mem_cons.mpr ⟨(wd_a q1914 rfl) rfl, List.forall_mem_cons.mpr ⟨(wd_a q130 rfl) rfl, wd_f (wd_app (wd_app wd_thr (wd_cons (wd_a q1916 rfl) (wd_cons (wd_a q1917 rfl) (wd_cons (wd_a q1918 rfl) (wd_cons (wd_a q1009 rfl) (wd_cons (wd_t q348 rfl rfl) (wd_cons (wd_a q1009 rfl) (wd_cons (wd_a q1010 rfl) (wd_cons (wd_a q1011 rfl) (wd_cons (wd_a q1012 rfl) (wd_cons (wd_t q350 rfl rfl) (wd_cons (wd_a q1012 rfl) (wd_cons (wd_a q1013 rfl) (wd_cons (wd_a q1014 rfl) (wd_cons (wd_a q368 rfl) (wd_cons (wd_t q352 rfl rfl) wd_nil)))))))))))))))) (wd_cons (wd_a q1915 rfl) (wd_cons (wd_a q1894 rfl) (wd_cons (wd_t q1905 rfl rfl) (wd_cons (wd_a q1906 rfl) (wd_cons (wd_a q380 rfl) (wd_cons (wd_a q1900 rfl) (wd_cons (wd_a q1901 rfl) (wd_cons (wd_a q1903 rfl) (wd_cons (wd_a q1899 rfl) (wd_cons (wd_x (by decide +kernel)) (wd_cons (wd_x (by decide +kernel)) (wd_cons (wd_a q366 rfl) (wd_cons (wd_a q365 rfl) (wd_cons (wd_a q1898 rfl) wd_nil)))))))))))))))⟩⟩) dX1_checkAny_4 dX1_checkAny_7 dX1_checkAny_8 dX1_checkAny_11 (fun z hz => (ht z hz).elim) ⟨Nat.le_of_ble_eq_true rfl, Nat.le_of_ble_eq_true rfl⟩ (Nat.le_of_ble_eq_true rfl) ⟨Nat.le_of_ble_eq_true rfl, Nat.le_of_ble_eq_true rfl⟩ ⟨Nat.le_of_ble_eq_true rfl, Nat.le_of_ble_eq_true rfl⟩ (fun q => ⟨rfl, rfl⟩)

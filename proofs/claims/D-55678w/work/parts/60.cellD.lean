theorem cpy_eq {α : Type} (f g : Nat → α) {n i : Nat} (h : i < n) : va_cpy f g 0 0 n i = f i := by
  unfold va_cpy; rw [if_pos (by omega)]; congr 1; omega
theorem hdX2_drop : yX2_drop.cls = RX2 ∧ yX2_drop.cls ≠ "java/lang/invoke/MethodHandle" ∧ yX2_drop.cls ≠ "java/lang/invoke/VarHandle" ∧ (parseMethodDescriptor yX2_drop.desc).map (fun d => d.parameters.length) = some 1 := by decide +kernel
set_option maxHeartbeats 4000000 in
theorem c_X2_drop {l_ : Launch} {D : va_G} {dd : Nat → ClassId} {x sa ca pa n C np i : Nat} {pf : Nat → Option Nat} {tl : va_W} (hnp : np ≤ 4) (hi : i < np) (hel : ∀ k, k < np → ∃ p fs, pf k = some p ∧ (p, .inr (10, fs)) ∈ tl) : MW l_ D dd yX2_drop cX2_drop 3 (some .int) 0 0 0 0 [.ref x, .int (nI i)] (fl [[(x, .inr (1, [.ref sa, .int (nI n), .ref ca, .int (nI C), .ref pa, .int (nI np)]))], [(pa, .inl (dd 4, 4, .inr (.inr (.inr (.inr pf)))))], tl]) (fun r w => r = some (.int (nI (np - 1))) ∧ w = fl [[(x, .inr (1, [.ref sa, .int (nI n), .ref ca, .int (nI C), .ref pa, .int (nI (np - 1))]))], [(pa, .inl (dd 4, 4, .inr (.inr (.inr (.inr (va_up (shf pf i (np - 1)) (np - 1) none))))))], tl]) := by
  refine MW.intro (by decide) (Nat.le_of_ble_eq_true rfl) (fun p_ e_ s_ m_ as_ bl_ me_ c_ A_ X hr hnm => ?_)
  have X : VX p_ s_ m_ as_ me_ c_ cX2_drop 3 RX2 D dd A_ := X
  refine v_eq (loc' := [(0, .ref x), (1, .int (nI i))]) rfl rfl rfl ?_
  refine v_aload_n (pc := 0) X dX2_drop_0 rfl 0 rfl ?_
  refine v_dup (pc := 1) X dX2_drop_1 rfl ?_
  refine v_getM (pc := 2) X in_X2 (mem_fl 0 rfl List.mem_cons_self) rfl 5 (by decide) q161 (fun y h => h) rfl dX2_drop_2 ?_
  refine v_iconst (pc := 5) (v := nI 1) X dX2_drop_5 rfl ?_
  refine v_isubN (pc := 6) X (by omega) dX2_drop_6 ?_
  refine v_put (pc := 7) X in_X2 tyX2 tyX2_ok nmX2 0 rfl rfl 5 (by decide) q161 (fun y h => h) rfl rfl rfl (Nat.le_of_ble_eq_true rfl) dX2_drop_7 (ws' := fl [[(x, .inr (1, [.ref sa, .int (nI n), .ref ca, .int (nI C), .ref pa, .int (nI (np - 1))]))], [(pa, .inl (dd 4, 4, .inr (.inr (.inr (.inr pf)))))], tl]) rfl ?_
  refine v_iload_n (pc := 10) X dX2_drop_10 rfl 1 rfl ?_
  refine v_eq (ws' := fl [[(x, .inr (1, [.ref sa, .int (nI n), .ref ca, .int (nI C), .ref pa, .int (nI (np - 1))]))], [(pa, .inl (dd 4, 4, .inr (.inr (.inr (.inr (shf pf i i))))))], tl]) (by rw [shf_0]) rfl rfl ?_
  refine v_istore_n (pc := 11) (loc' := [(2, .int (nI i)), (0, .ref x), (1, .int (nI i))]) X dX2_drop_11 rfl (by decide) rfl ?_
  refine v_sub [1, 2, 0] rfl ?_
  refine v_loop1 (S := Nat) (fun k => fl [[(x, .inr (1, [.ref sa, .int (nI n), .ref ca, .int (nI C), .ref pa, .int (nI (np - 1))]))], [(pa, .inl (dd 4, 4, .inr (.inr (.inr (.inr (shf pf i k))))))], tl]) (fun k => [(0, .ref x), (1, .int (nI i)), (2, .int (nI k))]) (fun k => i ≤ k ∧ k ≤ np - 1) (fun k => np - k) (fun k hI12 ih12 => ?_) i ⟨Nat.le_refl _, by omega⟩
  obtain ⟨hk1, hk2⟩ := hI12
  refine v_iload_n (pc := 12) X dX2_drop_12 rfl 2 rfl ?_
  refine v_aload_n (pc := 13) X dX2_drop_13 rfl 0 rfl ?_
  refine v_getM (pc := 14) X in_X2 (mem_fl 0 rfl List.mem_cons_self) rfl 5 (by decide) q161 (fun y h => h) rfl dX2_drop_14 ?_
  refine v_ic_geN (pc := 17) X (by omega) (by omega) 40 dX2_drop_17 (by decide) (fun h17 => ?_) (fun h17 => ?_)
  · have hk3 : k = np - 1 := by omega
    subst hk3
    refine v_aload_n (pc := 40) X dX2_drop_40 rfl 0 rfl ?_
    refine v_getM (pc := 41) X in_X2 (mem_fl 0 rfl List.mem_cons_self) rfl 4 (by decide) q159 (fun y h => h) rfl dX2_drop_41 ?_
    refine v_aload_n (pc := 44) X dX2_drop_44 rfl 0 rfl ?_
    refine v_getM (pc := 45) X in_X2 (mem_fl 0 rfl List.mem_cons_self) rfl 5 (by decide) q161 (fun y h => h) rfl dX2_drop_45 ?_
    refine v_aconst_null (pc := 48) X dX2_drop_48 ?_
    refine v_aastN (pc := 49) X 1 4 rfl rfl rfl (by omega) (by decide) dX2_drop_49 (ws' := fl [[(x, .inr (1, [.ref sa, .int (nI n), .ref ca, .int (nI C), .ref pa, .int (nI (np - 1))]))], [(pa, .inl (dd 4, 4, .inr (.inr (.inr (.inr (va_up (shf pf i (np - 1)) (np - 1) none))))))], tl]) rfl ?_
    refine v_aload_n (pc := 50) X dX2_drop_50 rfl 0 rfl ?_
    refine v_getM (pc := 51) X in_X2 (mem_fl 0 rfl List.mem_cons_self) rfl 5 (by decide) q161 (fun y h => h) rfl dX2_drop_51 ?_
    exact v_iret (pc := 54) X hr dX2_drop_54 ⟨rfl, rfl⟩
  · obtain ⟨p, fs, hpe, hpm⟩ := hel (k + 1) (by omega)
    refine v_aload_n (pc := 20) X dX2_drop_20 rfl 0 rfl ?_
    refine v_getM (pc := 21) X in_X2 (mem_fl 0 rfl List.mem_cons_self) rfl 4 (by decide) q159 (fun y h => h) rfl dX2_drop_21 ?_
    refine v_iload_n (pc := 24) X dX2_drop_24 rfl 2 rfl ?_
    refine v_aload_n (pc := 25) X dX2_drop_25 rfl 0 rfl ?_
    refine v_getM (pc := 26) X in_X2 (mem_fl 0 rfl List.mem_cons_self) rfl 4 (by decide) q159 (fun y h => h) rfl dX2_drop_26 ?_
    refine v_iload_n (pc := 29) X dX2_drop_29 rfl 2 rfl ?_
    refine v_iconst (pc := 30) (v := nI 1) X dX2_drop_30 rfl ?_
    refine v_iaddN (pc := 31) X dX2_drop_31 ?_
    refine v_aaldS (pc := 32) X 4 rfl (mem_fl 1 rfl List.mem_cons_self) rfl (by omega) (by decide) ((shf_at pf).trans hpe) dX2_drop_32 ?_
    refine v_aast (pc := 33) X 1 4 rfl rfl (mem_fl 2 rfl hpm) rfl rfl (by omega) (by decide) dX2_drop_33 (ws' := fl [[(x, .inr (1, [.ref sa, .int (nI n), .ref ca, .int (nI C), .ref pa, .int (nI (np - 1))]))], [(pa, .inl (dd 4, 4, .inr (.inr (.inr (.inr (shf pf i (k + 1)))))))], tl]) (by rw [show va_up (shf pf i k) k (some p) = shf pf i (k + 1) from ((by rw [← hpe, ← shf_at pf (i := i) (k := k)]; exact shf_sq pf (by omega)) : va_up (shf pf i k) k (some p) = shf pf i (k + 1))]; rfl) ?_
    refine v_iinc (pc := 34) (v := (nI (k + 1))) (loc' := [(2, .int (nI (k + 1))), (0, .ref x), (1, .int (nI i))]) X dX2_drop_34 2 rfl (nI_add _ 1) (by decide) rfl ?_
    refine v_goto (pc := 37) X 12 dX2_drop_37 (by decide) ?_
    refine v_sub [1, 2, 0] rfl ?_
    exact ih12 (k + 1) ⟨by omega, by omega⟩ (by omega)
theorem hdX2_take : yX2_take.cls = RX2 ∧ yX2_take.cls ≠ "java/lang/invoke/MethodHandle" ∧ yX2_take.cls ≠ "java/lang/invoke/VarHandle" ∧ (parseMethodDescriptor yX2_take.desc).map (fun d => d.parameters.length) = some 1 := by decide +kernel
set_option maxHeartbeats 4000000 in
theorem c_X2_take {l_ : Launch} {D : va_G} {dd : Nat → ClassId} {x sa ca pa n C np y sb m cb C2 pb mp : Nat} {f g f2 g2 : Nat → Int32} {pf qf : Nat → Option Nat} {tl : va_W} (hq : ∀ i, i < 4 → ∀ z, qf i = some z → ∃ fs, (z, .inr (10, fs)) ∈ tl) : MW l_ D dd yX2_take cX2_take 2 none 1 0 0 60 [.ref x, .ref y] (fl [[(x, .inr (1, [.ref sa, .int (nI n), .ref ca, .int (nI C), .ref pa, .int (nI np)]))], [(sa, .inl (dd 0, 9, .inl f))], [(ca, .inl (dd 0, 4, .inl g))], [(pa, .inl (dd 4, 4, .inr (.inr (.inr (.inr pf)))))], [(y, .inr (1, [.ref sb, .int (nI m), .ref cb, .int (nI C2), .ref pb, .int (nI mp)]))], [(sb, .inl (dd 0, 9, .inl f2))], [(cb, .inl (dd 0, 4, .inl g2))], [(pb, .inl (dd 4, 4, .inr (.inr (.inr (.inr qf)))))], tl]) (fun r w => r = none ∧ ∃ f1 g1 p1, w = fl [[(x, .inr (1, [.ref sa, .int (nI m), .ref ca, .int (nI C2), .ref pa, .int (nI mp)]))], [(sa, .inl (dd 0, 9, .inl f1))], [(ca, .inl (dd 0, 4, .inl g1))], [(pa, .inl (dd 4, 4, .inr (.inr (.inr (.inr p1)))))], [(y, .inr (1, [.ref sb, .int (nI m), .ref cb, .int (nI C2), .ref pb, .int (nI mp)]))], [(sb, .inl (dd 0, 9, .inl f2))], [(cb, .inl (dd 0, 4, .inl g2))], [(pb, .inl (dd 4, 4, .inr (.inr (.inr (.inr qf)))))], tl] ∧ (∀ i, i < 9 → f1 i = f2 i) ∧ (∀ i, i < 4 → g1 i = g2 i) ∧ ∀ i, i < 4 → p1 i = qf i) := by
  refine MW.intro (by decide) (Nat.le_of_ble_eq_true rfl) (fun p_ e_ s_ m_ as_ bl_ me_ c_ A_ X hr hnm => ?_)
  have X : VX p_ s_ m_ as_ me_ c_ cX2_take 2 RX2 D dd A_ := X
  refine v_eq (loc' := [(0, .ref x), (1, .ref y)]) rfl rfl rfl ?_
  refine v_aload_n (pc := 0) X dX2_take_0 rfl 1 rfl ?_
  refine v_getM (pc := 1) X in_X2 (mem_fl 4 rfl List.mem_cons_self) rfl 0 (by decide) q147 (fun y h => h) rfl dX2_take_1 ?_
  refine v_iconst (pc := 4) (v := nI 0) X dX2_take_4 rfl ?_
  refine v_aload_n (pc := 5) X dX2_take_5 rfl 0 rfl ?_
  refine v_getM (pc := 6) X in_X2 (mem_fl 0 rfl List.mem_cons_self) rfl 0 (by decide) q147 (fun y h => h) rfl dX2_take_6 ?_
  refine v_iconst (pc := 9) (v := nI 0) X dX2_take_9 rfl ?_
  refine v_bipush (pc := 10) (v := nI 9) X dX2_take_10 rfl ?_
  refine v_copyi (pc := 12) X q983 q108 5 1 0 rfl rfl rfl rfl (by omega) (by omega) ⟨by omega, by omega, by omega⟩ (fun _ _ => rfl) (Nat.le_of_ble_eq_true rfl) (Nat.le_of_ble_eq_true rfl) (Nat.le_of_ble_eq_true rfl) dX2_take_12 (ws' := fl [[(x, .inr (1, [.ref sa, .int (nI n), .ref ca, .int (nI C), .ref pa, .int (nI np)]))], [(sa, .inl (dd 0, 9, .inl (va_cpy f2 f 0 0 9)))], [(ca, .inl (dd 0, 4, .inl g))], [(pa, .inl (dd 4, 4, .inr (.inr (.inr (.inr pf)))))], [(y, .inr (1, [.ref sb, .int (nI m), .ref cb, .int (nI C2), .ref pb, .int (nI mp)]))], [(sb, .inl (dd 0, 9, .inl f2))], [(cb, .inl (dd 0, 4, .inl g2))], [(pb, .inl (dd 4, 4, .inr (.inr (.inr (.inr qf)))))], tl]) rfl ?_
  refine v_aload_n (pc := 15) X dX2_take_15 rfl 0 rfl ?_
  refine v_aload_n (pc := 16) X dX2_take_16 rfl 1 rfl ?_
  refine v_getM (pc := 17) X in_X2 (mem_fl 4 rfl List.mem_cons_self) rfl 1 (by decide) q150 (fun y h => h) rfl dX2_take_17 ?_
  refine v_put (pc := 20) X in_X2 tyX2 tyX2_ok nmX2 0 rfl rfl 1 (by decide) q150 (fun y h => h) rfl rfl rfl (Nat.le_of_ble_eq_true rfl) dX2_take_20 (ws' := fl [[(x, .inr (1, [.ref sa, .int (nI m), .ref ca, .int (nI C), .ref pa, .int (nI np)]))], [(sa, .inl (dd 0, 9, .inl (va_cpy f2 f 0 0 9)))], [(ca, .inl (dd 0, 4, .inl g))], [(pa, .inl (dd 4, 4, .inr (.inr (.inr (.inr pf)))))], [(y, .inr (1, [.ref sb, .int (nI m), .ref cb, .int (nI C2), .ref pb, .int (nI mp)]))], [(sb, .inl (dd 0, 9, .inl f2))], [(cb, .inl (dd 0, 4, .inl g2))], [(pb, .inl (dd 4, 4, .inr (.inr (.inr (.inr qf)))))], tl]) rfl ?_
  refine v_aload_n (pc := 23) X dX2_take_23 rfl 1 rfl ?_
  refine v_getM (pc := 24) X in_X2 (mem_fl 4 rfl List.mem_cons_self) rfl 2 (by decide) q153 (fun y h => h) rfl dX2_take_24 ?_
  refine v_iconst (pc := 27) (v := nI 0) X dX2_take_27 rfl ?_
  refine v_aload_n (pc := 28) X dX2_take_28 rfl 0 rfl ?_
  refine v_getM (pc := 29) X in_X2 (mem_fl 0 rfl List.mem_cons_self) rfl 2 (by decide) q153 (fun y h => h) rfl dX2_take_29 ?_
  refine v_iconst (pc := 32) (v := nI 0) X dX2_take_32 rfl ?_
  refine v_iconst (pc := 33) (v := nI 4) X dX2_take_33 rfl ?_
  refine v_copyi (pc := 34) X q983 q108 6 2 0 rfl rfl rfl rfl (by omega) (by omega) ⟨by omega, by omega, by omega⟩ (fun _ _ => rfl) (Nat.le_of_ble_eq_true rfl) (Nat.le_of_ble_eq_true rfl) (Nat.le_of_ble_eq_true rfl) dX2_take_34 (ws' := fl [[(x, .inr (1, [.ref sa, .int (nI m), .ref ca, .int (nI C), .ref pa, .int (nI np)]))], [(sa, .inl (dd 0, 9, .inl (va_cpy f2 f 0 0 9)))], [(ca, .inl (dd 0, 4, .inl (va_cpy g2 g 0 0 4)))], [(pa, .inl (dd 4, 4, .inr (.inr (.inr (.inr pf)))))], [(y, .inr (1, [.ref sb, .int (nI m), .ref cb, .int (nI C2), .ref pb, .int (nI mp)]))], [(sb, .inl (dd 0, 9, .inl f2))], [(cb, .inl (dd 0, 4, .inl g2))], [(pb, .inl (dd 4, 4, .inr (.inr (.inr (.inr qf)))))], tl]) rfl ?_
  refine v_aload_n (pc := 37) X dX2_take_37 rfl 0 rfl ?_
  refine v_aload_n (pc := 38) X dX2_take_38 rfl 1 rfl ?_
  refine v_getM (pc := 39) X in_X2 (mem_fl 4 rfl List.mem_cons_self) rfl 3 (by decide) q156 (fun y h => h) rfl dX2_take_39 ?_
  refine v_put (pc := 42) X in_X2 tyX2 tyX2_ok nmX2 0 rfl rfl 3 (by decide) q156 (fun y h => h) rfl rfl rfl (Nat.le_of_ble_eq_true rfl) dX2_take_42 (ws' := fl [[(x, .inr (1, [.ref sa, .int (nI m), .ref ca, .int (nI C2), .ref pa, .int (nI np)]))], [(sa, .inl (dd 0, 9, .inl (va_cpy f2 f 0 0 9)))], [(ca, .inl (dd 0, 4, .inl (va_cpy g2 g 0 0 4)))], [(pa, .inl (dd 4, 4, .inr (.inr (.inr (.inr pf)))))], [(y, .inr (1, [.ref sb, .int (nI m), .ref cb, .int (nI C2), .ref pb, .int (nI mp)]))], [(sb, .inl (dd 0, 9, .inl f2))], [(cb, .inl (dd 0, 4, .inl g2))], [(pb, .inl (dd 4, 4, .inr (.inr (.inr (.inr qf)))))], tl]) rfl ?_
  refine v_aload_n (pc := 45) X dX2_take_45 rfl 1 rfl ?_
  refine v_getM (pc := 46) X in_X2 (mem_fl 4 rfl List.mem_cons_self) rfl 4 (by decide) q159 (fun y h => h) rfl dX2_take_46 ?_
  refine v_iconst (pc := 49) (v := nI 0) X dX2_take_49 rfl ?_
  refine v_aload_n (pc := 50) X dX2_take_50 rfl 0 rfl ?_
  refine v_getM (pc := 51) X in_X2 (mem_fl 0 rfl List.mem_cons_self) rfl 4 (by decide) q159 (fun y h => h) rfl dX2_take_51 ?_
  refine v_iconst (pc := 54) (v := nI 0) X dX2_take_54 rfl ?_
  refine v_iconst (pc := 55) (v := nI 4) X dX2_take_55 rfl ?_
  refine v_copyq (pc := 56) (ci := 10) X q983 q108 7 3 4 (show vwCl[10]? = some _ from rfl) rfl rfl rfl (by omega) (by omega) ⟨by omega, by omega, by omega⟩ (fun i hi y hy => (hq i hi y (by rw [Nat.zero_add] at hy; exact hy)).imp (fun fs h => mem_fl 8 rfl h)) (Nat.le_of_ble_eq_true rfl) (Nat.le_of_ble_eq_true rfl) (Nat.le_of_ble_eq_true rfl) dX2_take_56 (ws' := fl [[(x, .inr (1, [.ref sa, .int (nI m), .ref ca, .int (nI C2), .ref pa, .int (nI np)]))], [(sa, .inl (dd 0, 9, .inl (va_cpy f2 f 0 0 9)))], [(ca, .inl (dd 0, 4, .inl (va_cpy g2 g 0 0 4)))], [(pa, .inl (dd 4, 4, .inr (.inr (.inr (.inr (va_cpy qf pf 0 0 4))))))], [(y, .inr (1, [.ref sb, .int (nI m), .ref cb, .int (nI C2), .ref pb, .int (nI mp)]))], [(sb, .inl (dd 0, 9, .inl f2))], [(cb, .inl (dd 0, 4, .inl g2))], [(pb, .inl (dd 4, 4, .inr (.inr (.inr (.inr qf)))))], tl]) rfl ?_
  refine v_aload_n (pc := 59) X dX2_take_59 rfl 0 rfl ?_
  refine v_aload_n (pc := 60) X dX2_take_60 rfl 1 rfl ?_
  refine v_getM (pc := 61) X in_X2 (mem_fl 4 rfl List.mem_cons_self) rfl 5 (by decide) q161 (fun y h => h) rfl dX2_take_61 ?_
  refine v_put (pc := 64) X in_X2 tyX2 tyX2_ok nmX2 0 rfl rfl 5 (by decide) q161 (fun y h => h) rfl rfl rfl (Nat.le_of_ble_eq_true rfl) dX2_take_64 (ws' := fl [[(x, .inr (1, [.ref sa, .int (nI m), .ref ca, .int (nI C2), .ref pa, .int (nI mp)]))], [(sa, .inl (dd 0, 9, .inl (va_cpy f2 f 0 0 9)))], [(ca, .inl (dd 0, 4, .inl (va_cpy g2 g 0 0 4)))], [(pa, .inl (dd 4, 4, .inr (.inr (.inr (.inr (va_cpy qf pf 0 0 4))))))], [(y, .inr (1, [.ref sb, .int (nI m), .ref cb, .int (nI C2), .ref pb, .int (nI mp)]))], [(sb, .inl (dd 0, 9, .inl f2))], [(cb, .inl (dd 0, 4, .inl g2))], [(pb, .inl (dd 4, 4, .inr (.inr (.inr (.inr qf)))))], tl]) rfl ?_
  exact v_vret (pc := 67) X hr dX2_take_67 ⟨rfl, _, _, _, rfl, fun i hi => cpy_eq _ _ hi, fun i hi => cpy_eq _ _ hi, fun i hi => cpy_eq _ _ hi⟩
theorem hdX2_init : yX2_init.name = "<init>" ∧ yX2_init.cls ≠ "java/lang/invoke/MethodHandle" ∧ yX2_init.cls ≠ "java/lang/invoke/VarHandle" ∧ (parseMethodDescriptor yX2_init.desc).map (fun d => d.parameters.length) = some 0 := by decide +kernel
set_option maxHeartbeats 4000000 in
theorem c_X2_init {l_ : Launch} {D : va_G} {dd : Nat → ClassId} {q : Nat}  : MW l_ D dd yX2_init cX2_init 1 none 1 3 17 20 [.ref q] ([(q, .inr (1, [.null, .int 0, .null, .int 0, .null, .int 0]))]) (fun r w => r = none ∧ ∃ a b c, w = [(q, .inr (1, [.ref a, .int 0, .ref b, .int 0, .ref c, .int 0])), (a, .inl (dd 0, 9, .inl (fun _ => 0))), (b, .inl (dd 0, 4, .inl (fun _ => 0))), (c, .inl (dd 4, 4, .inr (.inr (.inr (.inr (fun _ => none))))))]) := by
  refine MW.intro (by decide) (Nat.le_of_ble_eq_true rfl) (fun p_ e_ s_ m_ as_ bl_ me_ c_ A_ X hr hnm => ?_)
  have X : VX p_ s_ m_ as_ me_ c_ cX2_init 1 RX2 D dd A_ := X
  refine v_eq (loc' := [(0, .ref q)]) rfl rfl rfl ?_
  refine v_aload_n (pc := 0) X dX2_init_0 rfl 0 rfl ?_
  refine v_objInit (pc := 1) X q144 q137 q138 ⟨Nat.le_of_ble_eq_true rfl, Nat.le_of_ble_eq_true rfl⟩ (Nat.le_of_ble_eq_true rfl) dX2_init_1 ?_
  refine v_aload_n (pc := 4) X dX2_init_4 rfl 0 rfl ?_
  refine v_bipush (pc := 5) (v := nI 9) X dX2_init_5 rfl ?_
  refine v_newa (pc := 7) (atype := .int) (ty := .int) (N := 9) X 0 rfl (fun _ _ h => h) q176 rfl (9, .inl (fun _ => 0)) (fun _ => rfl) rfl (by decide) (by decide) ⟨Nat.le_of_ble_eq_true rfl, Nat.le_of_ble_eq_true rfl⟩ dX2_init_7 (fun q1 => ?_)
  refine v_perm (ws' := [(q1, .inl (dd 0, 9, .inl (fun _ => 0)))] ++ [(q, .inr (1, [.null, .int 0, .null, .int 0, .null, .int 0]))]) List.perm_append_comm ?_
  refine v_eq (ws' := [(q1, .inl (dd 0, 9, .inl (fun _ => 0))), (q, .inr (1, [.null, .int 0, .null, .int 0, .null, .int 0]))]) rfl rfl rfl ?_
  refine v_putF (pc := 9) X in_X2 tyX2 tyX2_ok nmX2 1 rfl rfl 0 (by decide) q147 (fun y h => h) rfl hnm rfl rfl rfl (Nat.le_of_ble_eq_true rfl) dX2_init_9 (ws' := [(q1, .inl (dd 0, 9, .inl (fun _ => 0))), (q, .inr (1, [.ref q1, .int 0, .null, .int 0, .null, .int 0]))]) rfl ?_
  refine v_aload_n (pc := 12) X dX2_init_12 rfl 0 rfl ?_
  refine v_iconst (pc := 13) (v := nI 4) X dX2_init_13 rfl ?_
  refine v_newa (pc := 14) (atype := .int) (ty := .int) (N := 4) X 0 rfl (fun _ _ h => h) q176 rfl (4, .inl (fun _ => 0)) (fun _ => rfl) rfl (by decide) (by decide) ⟨Nat.le_of_ble_eq_true rfl, Nat.le_of_ble_eq_true rfl⟩ dX2_init_14 (fun q2 => ?_)
  refine v_perm (ws' := [(q2, .inl (dd 0, 4, .inl (fun _ => 0)))] ++ [(q1, .inl (dd 0, 9, .inl (fun _ => 0))), (q, .inr (1, [.ref q1, .int 0, .null, .int 0, .null, .int 0]))]) List.perm_append_comm ?_
  refine v_eq (ws' := [(q2, .inl (dd 0, 4, .inl (fun _ => 0))), (q1, .inl (dd 0, 9, .inl (fun _ => 0))), (q, .inr (1, [.ref q1, .int 0, .null, .int 0, .null, .int 0]))]) rfl rfl rfl ?_
  refine v_putF (pc := 16) X in_X2 tyX2 tyX2_ok nmX2 2 rfl rfl 2 (by decide) q153 (fun y h => h) rfl hnm rfl rfl rfl (Nat.le_of_ble_eq_true rfl) dX2_init_16 (ws' := [(q2, .inl (dd 0, 4, .inl (fun _ => 0))), (q1, .inl (dd 0, 9, .inl (fun _ => 0))), (q, .inr (1, [.ref q1, .int 0, .ref q2, .int 0, .null, .int 0]))]) rfl ?_
  refine v_aload_n (pc := 19) X dX2_init_19 rfl 0 rfl ?_
  refine v_iconst (pc := 20) (v := nI 4) X dX2_init_20 rfl ?_
  refine v_newq (pc := 21) X 4 rfl q145 (by decide) rfl (by decide) (by decide) ⟨Nat.le_of_ble_eq_true rfl, Nat.le_of_ble_eq_true rfl⟩ dX2_init_21 (fun q3 => ?_)
  refine v_perm (ws' := [(q3, .inl (dd 4, 4, .inr (.inr (.inr (.inr (fun _ => none))))))] ++ [(q2, .inl (dd 0, 4, .inl (fun _ => 0))), (q1, .inl (dd 0, 9, .inl (fun _ => 0))), (q, .inr (1, [.ref q1, .int 0, .ref q2, .int 0, .null, .int 0]))]) List.perm_append_comm ?_
  refine v_eq (ws' := [(q3, .inl (dd 4, 4, .inr (.inr (.inr (.inr (fun _ => none)))))), (q2, .inl (dd 0, 4, .inl (fun _ => 0))), (q1, .inl (dd 0, 9, .inl (fun _ => 0))), (q, .inr (1, [.ref q1, .int 0, .ref q2, .int 0, .null, .int 0]))]) rfl rfl rfl ?_
  refine v_putF (pc := 24) X in_X2 tyX2 tyX2_ok nmX2 3 rfl rfl 4 (by decide) q159 (fun y h => h) rfl hnm rfl rfl rfl (Nat.le_of_ble_eq_true rfl) dX2_init_24 (ws' := [(q3, .inl (dd 4, 4, .inr (.inr (.inr (.inr (fun _ => none)))))), (q2, .inl (dd 0, 4, .inl (fun _ => 0))), (q1, .inl (dd 0, 9, .inl (fun _ => 0))), (q, .inr (1, [.ref q1, .int 0, .ref q2, .int 0, .ref q3, .int 0]))]) rfl ?_
  refine v_perm (ws' := [(q, .inr (1, [.ref q1, .int 0, .ref q2, .int 0, .ref q3, .int 0])), (q1, .inl (dd 0, 9, .inl (fun _ => 0))), (q2, .inl (dd 0, 4, .inl (fun _ => 0))), (q3, .inl (dd 4, 4, .inr (.inr (.inr (.inr (fun _ => none))))))]) ((((mv_perm 0 _).trans (mv_perm 1 _)).trans (mv_perm 2 _)).trans (mv_perm 3 _)) ?_
  refine v_widen (k := 3) (n := 17) (Nat.le_of_ble_eq_true rfl) (Nat.le_of_ble_eq_true rfl) ?_
  exact v_vret (pc := 27) X hr dX2_init_27 ⟨rfl, _, _, _, rfl⟩
theorem hdX12_init : yX12_init.name = "<init>" ∧ yX12_init.cls ≠ "java/lang/invoke/MethodHandle" ∧ yX12_init.cls ≠ "java/lang/invoke/VarHandle" ∧ (parseMethodDescriptor yX12_init.desc).map (fun d => d.parameters.length) = some 2 := by decide +kernel
set_option maxHeartbeats 4000000 in
theorem c_X12_init {l_ : Launch} {D : va_G} {dd : Nat → ClassId} {q od : Nat} {made : Int32} {T : Tr} {tl : va_W} (hT : PartIs tl T od) (hok : TrOk T) : MW l_ D dd yX12_init cX12_init 4 none 12 5 40 310 [.ref q, .ref od, .int made] (fl [[(q, .inr (10, [.null, .int 0, .null, .null, .null, .null, .null, .int 0]))], tl]) (fun r w => r = none ∧ ∃ ad σ, w = pw q ad dd σ ++ tl ∧ PlanIs dd (pw q ad dd σ ++ tl) q T made) := by
  obtain ⟨hrow, hdp, hlv⟩ := id hok
  have hll := hok.len
  have hv1000 : ∀ v ∈ lvs T, v < 1000 := fun v h => Nat.lt_trans (hlv v h) (by decide)
  refine MW.intro (by decide) (Nat.le_of_ble_eq_true rfl) (fun p_ e_ s_ m_ as_ bl_ me_ c_ A_ X hr hnm => ?_)
  have X : VX p_ s_ m_ as_ me_ c_ cX12_init 4 RX12 D dd A_ := X
  refine v_eq (loc' := [(0, .ref q), (1, .ref od), (2, .int made)]) rfl rfl rfl ?_
  refine v_aload_n (pc := 0) X dX12_init_0 rfl 0 rfl ?_
  refine v_objInit (pc := 1) X q1391 q137 q138 ⟨Nat.le_of_ble_eq_true rfl, Nat.le_of_ble_eq_true rfl⟩ (Nat.le_of_ble_eq_true rfl) dX12_init_1 ?_
  refine v_aload_n (pc := 4) X dX12_init_4 rfl 0 rfl ?_
  refine v_bipush (pc := 5) (v := nI 8) X dX12_init_5 rfl ?_
  refine v_newa (pc := 7) (atype := .int) (ty := .int) (N := 8) X 0 rfl (fun _ _ h => h) q176 rfl (8, .inl (fun _ => 0)) (fun _ => rfl) rfl (by decide) (by decide) ⟨Nat.le_of_ble_eq_true rfl, Nat.le_of_ble_eq_true rfl⟩ dX12_init_7 (fun q1 => ?_)
  refine v_perm (ws' := [(q1, .inl (dd 0, 8, .inl (fun _ => 0)))] ++ fl [[(q, .inr (10, [.null, .int 0, .null, .null, .null, .null, .null, .int 0]))], tl]) List.perm_append_comm ?_
  refine v_eq (ws' := fl [[(q1, .inl (dd 0, 8, .inl (fun _ => 0)))], [(q, .inr (10, [.null, .int 0, .null, .null, .null, .null, .null, .int 0]))], tl]) rfl rfl rfl ?_
  refine v_putF (pc := 9) X in_X12 tyX12 tyX12_ok nmX12 1 rfl rfl 2 (by decide) q1419 (fun y h => h) rfl hnm rfl rfl rfl (Nat.le_of_ble_eq_true rfl) dX12_init_9 (ws' := fl [[(q1, .inl (dd 0, 8, .inl (fun _ => 0)))], [(q, .inr (10, [.null, .int 0, .ref q1, .null, .null, .null, .null, .int 0]))], tl]) rfl ?_
  refine v_aload_n (pc := 12) X dX12_init_12 rfl 0 rfl ?_
  refine v_bipush (pc := 13) (v := nI 8) X dX12_init_13 rfl ?_
  refine v_newa (pc := 15) (atype := .int) (ty := .int) (N := 8) X 0 rfl (fun _ _ h => h) q176 rfl (8, .inl (fun _ => 0)) (fun _ => rfl) rfl (by decide) (by decide) ⟨Nat.le_of_ble_eq_true rfl, Nat.le_of_ble_eq_true rfl⟩ dX12_init_15 (fun q2 => ?_)
  refine v_perm (ws' := [(q2, .inl (dd 0, 8, .inl (fun _ => 0)))] ++ fl [[(q1, .inl (dd 0, 8, .inl (fun _ => 0)))], [(q, .inr (10, [.null, .int 0, .ref q1, .null, .null, .null, .null, .int 0]))], tl]) List.perm_append_comm ?_
  refine v_eq (ws' := fl [[(q2, .inl (dd 0, 8, .inl (fun _ => 0)))], [(q1, .inl (dd 0, 8, .inl (fun _ => 0)))], [(q, .inr (10, [.null, .int 0, .ref q1, .null, .null, .null, .null, .int 0]))], tl]) rfl rfl rfl ?_
  refine v_putF (pc := 17) X in_X12 tyX12 tyX12_ok nmX12 2 rfl rfl 3 (by decide) q1421 (fun y h => h) rfl hnm rfl rfl rfl (Nat.le_of_ble_eq_true rfl) dX12_init_17 (ws' := fl [[(q2, .inl (dd 0, 8, .inl (fun _ => 0)))], [(q1, .inl (dd 0, 8, .inl (fun _ => 0)))], [(q, .inr (10, [.null, .int 0, .ref q1, .ref q2, .null, .null, .null, .int 0]))], tl]) rfl ?_
  refine v_aload_n (pc := 20) X dX12_init_20 rfl 0 rfl ?_
  refine v_bipush (pc := 21) (v := nI 8) X dX12_init_21 rfl ?_
  refine v_newa (pc := 23) (atype := .int) (ty := .int) (N := 8) X 0 rfl (fun _ _ h => h) q176 rfl (8, .inl (fun _ => 0)) (fun _ => rfl) rfl (by decide) (by decide) ⟨Nat.le_of_ble_eq_true rfl, Nat.le_of_ble_eq_true rfl⟩ dX12_init_23 (fun q3 => ?_)
  refine v_perm (ws' := [(q3, .inl (dd 0, 8, .inl (fun _ => 0)))] ++ fl [[(q2, .inl (dd 0, 8, .inl (fun _ => 0)))], [(q1, .inl (dd 0, 8, .inl (fun _ => 0)))], [(q, .inr (10, [.null, .int 0, .ref q1, .ref q2, .null, .null, .null, .int 0]))], tl]) List.perm_append_comm ?_
  refine v_eq (ws' := fl [[(q3, .inl (dd 0, 8, .inl (fun _ => 0)))], [(q2, .inl (dd 0, 8, .inl (fun _ => 0)))], [(q1, .inl (dd 0, 8, .inl (fun _ => 0)))], [(q, .inr (10, [.null, .int 0, .ref q1, .ref q2, .null, .null, .null, .int 0]))], tl]) rfl rfl rfl ?_
  refine v_putF (pc := 25) X in_X12 tyX12 tyX12_ok nmX12 3 rfl rfl 4 (by decide) q1423 (fun y h => h) rfl hnm rfl rfl rfl (Nat.le_of_ble_eq_true rfl) dX12_init_25 (ws' := fl [[(q3, .inl (dd 0, 8, .inl (fun _ => 0)))], [(q2, .inl (dd 0, 8, .inl (fun _ => 0)))], [(q1, .inl (dd 0, 8, .inl (fun _ => 0)))], [(q, .inr (10, [.null, .int 0, .ref q1, .ref q2, .ref q3, .null, .null, .int 0]))], tl]) rfl ?_
  refine v_aload_n (pc := 28) X dX12_init_28 rfl 0 rfl ?_
  refine v_bipush (pc := 29) (v := nI 8) X dX12_init_29 rfl ?_
  refine v_newa (pc := 31) (atype := .int) (ty := .int) (N := 8) X 0 rfl (fun _ _ h => h) q176 rfl (8, .inl (fun _ => 0)) (fun _ => rfl) rfl (by decide) (by decide) ⟨Nat.le_of_ble_eq_true rfl, Nat.le_of_ble_eq_true rfl⟩ dX12_init_31 (fun q4 => ?_)
  refine v_perm (ws' := [(q4, .inl (dd 0, 8, .inl (fun _ => 0)))] ++ fl [[(q3, .inl (dd 0, 8, .inl (fun _ => 0)))], [(q2, .inl (dd 0, 8, .inl (fun _ => 0)))], [(q1, .inl (dd 0, 8, .inl (fun _ => 0)))], [(q, .inr (10, [.null, .int 0, .ref q1, .ref q2, .ref q3, .null, .null, .int 0]))], tl]) List.perm_append_comm ?_
  refine v_eq (ws' := fl [[(q4, .inl (dd 0, 8, .inl (fun _ => 0)))], [(q3, .inl (dd 0, 8, .inl (fun _ => 0)))], [(q2, .inl (dd 0, 8, .inl (fun _ => 0)))], [(q1, .inl (dd 0, 8, .inl (fun _ => 0)))], [(q, .inr (10, [.null, .int 0, .ref q1, .ref q2, .ref q3, .null, .null, .int 0]))], tl]) rfl rfl rfl ?_
  refine v_putF (pc := 33) X in_X12 tyX12 tyX12_ok nmX12 4 rfl rfl 5 (by decide) q1425 (fun y h => h) rfl hnm rfl rfl rfl (Nat.le_of_ble_eq_true rfl) dX12_init_33 (ws' := fl [[(q4, .inl (dd 0, 8, .inl (fun _ => 0)))], [(q3, .inl (dd 0, 8, .inl (fun _ => 0)))], [(q2, .inl (dd 0, 8, .inl (fun _ => 0)))], [(q1, .inl (dd 0, 8, .inl (fun _ => 0)))], [(q, .inr (10, [.null, .int 0, .ref q1, .ref q2, .ref q3, .ref q4, .null, .int 0]))], tl]) rfl ?_
  refine v_aload_n (pc := 36) X dX12_init_36 rfl 0 rfl ?_
  refine v_bipush (pc := 37) (v := nI 8) X dX12_init_37 rfl ?_
  refine v_newa (pc := 39) (atype := .int) (ty := .int) (N := 8) X 0 rfl (fun _ _ h => h) q176 rfl (8, .inl (fun _ => 0)) (fun _ => rfl) rfl (by decide) (by decide) ⟨Nat.le_of_ble_eq_true rfl, Nat.le_of_ble_eq_true rfl⟩ dX12_init_39 (fun q5 => ?_)
  refine v_perm (ws' := [(q5, .inl (dd 0, 8, .inl (fun _ => 0)))] ++ fl [[(q4, .inl (dd 0, 8, .inl (fun _ => 0)))], [(q3, .inl (dd 0, 8, .inl (fun _ => 0)))], [(q2, .inl (dd 0, 8, .inl (fun _ => 0)))], [(q1, .inl (dd 0, 8, .inl (fun _ => 0)))], [(q, .inr (10, [.null, .int 0, .ref q1, .ref q2, .ref q3, .ref q4, .null, .int 0]))], tl]) List.perm_append_comm ?_
  refine v_eq (ws' := fl [[(q5, .inl (dd 0, 8, .inl (fun _ => 0)))], [(q4, .inl (dd 0, 8, .inl (fun _ => 0)))], [(q3, .inl (dd 0, 8, .inl (fun _ => 0)))], [(q2, .inl (dd 0, 8, .inl (fun _ => 0)))], [(q1, .inl (dd 0, 8, .inl (fun _ => 0)))], [(q, .inr (10, [.null, .int 0, .ref q1, .ref q2, .ref q3, .ref q4, .null, .int 0]))], tl]) rfl rfl rfl ?_
  refine v_putF (pc := 41) X in_X12 tyX12 tyX12_ok nmX12 5 rfl rfl 6 (by decide) q1427 (fun y h => h) rfl hnm rfl rfl rfl (Nat.le_of_ble_eq_true rfl) dX12_init_41 (ws' := fl [[(q5, .inl (dd 0, 8, .inl (fun _ => 0)))], [(q4, .inl (dd 0, 8, .inl (fun _ => 0)))], [(q3, .inl (dd 0, 8, .inl (fun _ => 0)))], [(q2, .inl (dd 0, 8, .inl (fun _ => 0)))], [(q1, .inl (dd 0, 8, .inl (fun _ => 0)))], [(q, .inr (10, [.null, .int 0, .ref q1, .ref q2, .ref q3, .ref q4, .ref q5, .int 0]))], tl]) rfl ?_
  refine v_aload_n (pc := 44) X dX12_init_44 rfl 0 rfl ?_
  refine v_aload_n (pc := 45) X dX12_init_45 rfl 1 rfl ?_
  refine v_putF (pc := 46) X in_X12 tyX12 tyX12_ok nmX12 5 rfl rfl 0 (by decide) q1414 (fun y h => h) rfl hnm rfl rfl rfl (Nat.le_of_ble_eq_true rfl) dX12_init_46 (ws' := fl [[(q5, .inl (dd 0, 8, .inl (fun _ => 0)))], [(q4, .inl (dd 0, 8, .inl (fun _ => 0)))], [(q3, .inl (dd 0, 8, .inl (fun _ => 0)))], [(q2, .inl (dd 0, 8, .inl (fun _ => 0)))], [(q1, .inl (dd 0, 8, .inl (fun _ => 0)))], [(q, .inr (10, [.ref od, .int 0, .ref q1, .ref q2, .ref q3, .ref q4, .ref q5, .int 0]))], tl]) rfl ?_
  refine v_aload_n (pc := 49) X dX12_init_49 rfl 0 rfl ?_
  refine v_iload_n (pc := 50) X dX12_init_50 rfl 2 rfl ?_
  refine v_putF (pc := 51) X in_X12 tyX12 tyX12_ok nmX12 5 rfl rfl 1 (by decide) q1417 (fun y h => h) rfl hnm rfl rfl rfl (Nat.le_of_ble_eq_true rfl) dX12_init_51 (ws' := fl [[(q5, .inl (dd 0, 8, .inl (fun _ => 0)))], [(q4, .inl (dd 0, 8, .inl (fun _ => 0)))], [(q3, .inl (dd 0, 8, .inl (fun _ => 0)))], [(q2, .inl (dd 0, 8, .inl (fun _ => 0)))], [(q1, .inl (dd 0, 8, .inl (fun _ => 0)))], [(q, .inr (10, [.ref od, .int made, .ref q1, .ref q2, .ref q3, .ref q4, .ref q5, .int 0]))], tl]) rfl ?_
  refine v_aload_n (pc := 54) X dX12_init_54 rfl 0 rfl ?_
  refine v_aload_n (pc := 55) X dX12_init_55 rfl 1 rfl ?_
  refine v_perm (ws' := fl [[(q, .inr (10, [.ref od, .int made, .ref q1, .ref q2, .ref q3, .ref q4, .ref q5, .int 0]))], [(q1, .inl (dd 0, 8, .inl (fun _ => 0)))], [(q2, .inl (dd 0, 8, .inl (fun _ => 0)))], [(q3, .inl (dd 0, 8, .inl (fun _ => 0)))], [(q4, .inl (dd 0, 8, .inl (fun _ => 0)))], [(q5, .inl (dd 0, 8, .inl (fun _ => 0)))], tl]) (fl_perm (((((((mv_perm 6 _).trans (mv_perm 1 _)).trans (mv_perm 2 _)).trans (mv_perm 3 _)).trans (mv_perm 4 _)).trans (mv_perm 5 _)).trans (mv_perm 6 _))) ?_
  have hcp := c_puts (l_ := l_) (D := D) (dd := dd) (px := q) (ad := fun i => [od, 0, q1, q2, q3, q4, q5].getD i 0) (tl := tl) T od hT hrow hv1000 0 (σ := fun r => if r = 99 then (fun j => if j = 1 then made else 0) else fun _ => 0) rfl (by omega)
  refine v_frame (pc := 56) X (wr := []) (perm_nil _) (r_V X hcp (List.mem_of_getElem? (i := 0) rfl) rfl rfl (lw_V q1392 q1394 qs22 q126 q1395) hdX12_puts ⟨by dsimp only; omega, by dsimp only; omega⟩ rfl rfl (Nat.le_of_ble_eq_true rfl) dX12_init_56 ⟨Nat.le_of_ble_eq_true rfl, Nat.le_of_ble_eq_true rfl⟩) (fun v56 w56 h56 => ?_)
  obtain ⟨σ1, rfl, rfl, hP⟩ := h56
  refine v_eq (ws' := pw q (fun i => [od, 0, q1, q2, q3, q4, q5].getD i 0) dd σ1 ++ tl) (List.append_nil _) rfl rfl ?_
  refine v_istore_n (pc := 59) (loc' := [(3, .int (rtT 0 T)), (0, .ref q), (1, .ref od), (2, .int made)]) X dX12_init_59 rfl (by decide) rfl ?_
  refine v_widen (k := 5) (n := 40) (Nat.le_of_ble_eq_true rfl) (Nat.le_of_ble_eq_true rfl) ?_
  exact v_vret (pc := 60) X hr dX12_init_60 ⟨rfl, _, _, rfl, _, _, fun q hq => List.mem_append_left _ hq, hT.mono (fun q hq => List.mem_append_right _ hq), hP.1.2 1 (by decide), (by rw [hP.2.1, Nat.zero_add]), fun k e hk => (by have := hP.2.2.1 k e hk; rw [Nat.zero_add] at this; exact this), fun k e hk => (by have := hP.2.2.2.1 k e hk; rw [Nat.zero_add] at this; exact this)⟩

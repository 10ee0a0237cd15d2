/-! Part.size -/
theorem c_psize {l : Launch} {D : va_G} {dd : Nat → ClassId} {ws : va_W} {T : Tr} {a : Nat} (hp : PartIs ws T a) : MW l D dd yX9_size cX9_size 1 (some .int) (dep T + 1) 0 0 (20 + 20 * dep T) [.ref a] ws (RI (fun r => nI (lsT T) - nI (fsT T) + nI 1 = r) ws) := by
  refine MW.intro (by decide) (Nat.le_of_ble_eq_true rfl) (fun p_ e_ s_ m_ as_ bl_ me_ c_ A_ X hr hnm => ?_)
  have X : VX p_ s_ m_ as_ me_ c_ cX9_size 1 RX9 D dd A_ := X
  refine v_eq (loc' := [(0, .ref a)]) rfl rfl rfl ?_
  refine v_aload_n (pc := 0) X dX9_size_0 rfl 0 rfl ?_
  refine v_plast (pc := 1) X T a hp (c_plast T a hp) ⟨[], (by rw [List.append_nil])⟩ q1405 ⟨Nat.le_refl _, Nat.le_refl _⟩ (by decide) dX9_size_1 ⟨Nat.le_refl _, Nat.le_refl _⟩ (fun r1 h1 => ?_)
  subst h1
  refine v_aload_n (pc := 6) X dX9_size_6 rfl 0 rfl ?_
  refine v_pfirst (pc := 7) X T a hp (c_pfirst T a hp) ⟨[], (by rw [List.append_nil])⟩ q1407 ⟨Nat.le_refl _, Nat.le_refl _⟩ (Nat.le_of_ble_eq_true rfl) dX9_size_7 ⟨Nat.le_refl _, Nat.le_refl _⟩ (fun r2 h2 => ?_)
  subst h2
  refine v_isub (pc := 12) X dX9_size_12 ?_
  refine v_iconst (pc := 13) (v := nI 1) X dX9_size_13 rfl ?_
  refine v_iadd (pc := 14) X dX9_size_14 ?_
  exact v_iret (pc := 15) X hr dX9_size_15 ⟨⟨_, rfl, rfl⟩, rfl⟩

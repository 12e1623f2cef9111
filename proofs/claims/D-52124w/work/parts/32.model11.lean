/-! the model: made, kept, brought back (printed by gen/m32.py) -/
set_option maxRecDepth 100000
set_option maxHeartbeats 4000000 in
theorem mo_init (l : Launch) (G : zG) (o sz : Nat) : zMrw l yX3_init cX3_init 1 none 0 7 1119 G [.ref o] (fun H => H.size = sz ∧ va_P G.1 zCl [(o, .inr (0, [.int 0, .int 0, .int 0, .int 0, .null, .null, .null, .null, .null, .null, .null]))] H ∧ o < sz) none (fun H => ∃ a : Nat → Nat, a 0 = o ∧ zInj a 8 ∧ (∀ k, 1 ≤ k → k < 8 → sz ≤ a k) ∧ zMP G a (nI 0) zK0 zS0 H) (fun q => q = o ∨ sz ≤ q) := by
  refine zMk [(0, .ref o)] (by decide) (Nat.le_of_ble_eq_true rfl) rfl ?_
  intro p e s m below meth c ls C hP hl hin
  generalize ([.ref o] : List Value).toArray = av at C ⊢
  have hx := C.1
  have hb := C.2.1
  have hml := C.2.2.1
  have hown := C.2.2.2.1
  have hts := C.2.2.2.2.1
  have hE := C.2.2.2.2.2.2.2
  obtain ⟨hsz, hP, ho⟩ := hP
  subst hsz
  have hin := hin rfl
  have hS : va_S (fun q => q = o ∨ s.heap.size ≤ q) s.heap s.heap [] := va_S.rf
  have hD : va_D (fun q => q = o ∨ s.heap.size ≤ q) [(o, .inr (0, [.int 0, .int 0, .int 0, .int 0, .null, .null, .null, .null, .null, .null, .null]))] := zD_one (Or.inl rfl)
  have hA : ∀ q, s.heap.size ≤ q → (q = o ∨ s.heap.size ≤ q) := fun q h => Or.inr h
  refine lv_aload_n hx hb dX3_init_0 rfl (lv_at hl 0 rfl) ?_
  refine W.objInit hx hb hown (hts _ q809) (hts _ q74) (hts _ q75) rfl (by rw [hml]; exact hl.1) rfl dX3_init_1 (Nat.le_of_ble_eq_true rfl) (Nat.le_of_ble_eq_true rfl) ?_
  refine W.eq (g2 := F0 m 4 ls []) rfl ?_
  refine lv_aload_n hx hb dX3_init_4 rfl (lv_at hl 0 rfl) ?_
  refine lv_bipush (v := nI 72) hx hb dX3_init_5 (by decide) ?_
  refine zn_newi C q174 hP hD hS hA (by decide) (Nat.le_of_ble_eq_true rfl) (Nat.le_of_ble_eq_true rfl) dX3_init_7 (fun q1 H hq1 _ hP hD hS => ?_)
  have hP : va_P G.1 zCl [(o, .inr (0, [.int 0, .int 0, .int 0, .int 0, .null, .null, .null, .null, .null, .null, .null])), (q1, .inl (G.2 0, 72, .inl (fun _ => nI 0)))] H := hP
  have hD : va_D (fun q => q = o ∨ s.heap.size ≤ q) [(o, .inr (0, [.int 0, .int 0, .int 0, .int 0, .null, .null, .null, .null, .null, .null, .null])), (q1, .inl (G.2 0, 72, .inl (fun _ => nI 0)))] := hD
  refine zpF (T := TX3) (N := 11) (ci := 0) C in_X3 tyX3 tyX3_ok nmX3 hin hP hD hS 0 rfl rfl 4 (by decide) q814 rfl rfl rfl rfl (Nat.le_of_ble_eq_true rfl) dX3_init_9 (fun H locs hP hD hS => ?_)
  have hP : va_P G.1 zCl [(o, .inr (0, [.int 0, .int 0, .int 0, .int 0, .ref q1, .null, .null, .null, .null, .null, .null])), (q1, .inl (G.2 0, 72, .inl (fun _ => nI 0)))] H := hP
  have hD : va_D (fun q => q = o ∨ s.heap.size ≤ q) [(o, .inr (0, [.int 0, .int 0, .int 0, .int 0, .ref q1, .null, .null, .null, .null, .null, .null])), (q1, .inl (G.2 0, 72, .inl (fun _ => nI 0)))] := hD
  refine lv_aload_n hx hb dX3_init_12 rfl (lv_at hl 0 rfl) ?_
  refine lv_sipush (v := nI 864) hx hb dX3_init_13 (by decide) ?_
  refine zn_newi C q174 hP hD hS hA (by decide) (Nat.le_of_ble_eq_true rfl) (Nat.le_of_ble_eq_true rfl) dX3_init_16 (fun q2 H hq2 _ hP hD hS => ?_)
  have hP : va_P G.1 zCl [(o, .inr (0, [.int 0, .int 0, .int 0, .int 0, .ref q1, .null, .null, .null, .null, .null, .null])), (q1, .inl (G.2 0, 72, .inl (fun _ => nI 0))), (q2, .inl (G.2 0, 864, .inl (fun _ => nI 0)))] H := hP
  have hD : va_D (fun q => q = o ∨ s.heap.size ≤ q) [(o, .inr (0, [.int 0, .int 0, .int 0, .int 0, .ref q1, .null, .null, .null, .null, .null, .null])), (q1, .inl (G.2 0, 72, .inl (fun _ => nI 0))), (q2, .inl (G.2 0, 864, .inl (fun _ => nI 0)))] := hD
  refine zpF (T := TX3) (N := 11) (ci := 0) C in_X3 tyX3 tyX3_ok nmX3 hin hP hD hS 0 rfl rfl 5 (by decide) q815 rfl rfl rfl rfl (Nat.le_of_ble_eq_true rfl) dX3_init_18 (fun H locs hP hD hS => ?_)
  have hP : va_P G.1 zCl [(o, .inr (0, [.int 0, .int 0, .int 0, .int 0, .ref q1, .ref q2, .null, .null, .null, .null, .null])), (q1, .inl (G.2 0, 72, .inl (fun _ => nI 0))), (q2, .inl (G.2 0, 864, .inl (fun _ => nI 0)))] H := hP
  have hD : va_D (fun q => q = o ∨ s.heap.size ≤ q) [(o, .inr (0, [.int 0, .int 0, .int 0, .int 0, .ref q1, .ref q2, .null, .null, .null, .null, .null])), (q1, .inl (G.2 0, 72, .inl (fun _ => nI 0))), (q2, .inl (G.2 0, 864, .inl (fun _ => nI 0)))] := hD
  refine lv_aload_n hx hb dX3_init_21 rfl (lv_at hl 0 rfl) ?_
  refine lv_bipush (v := nI 72) hx hb dX3_init_22 (by decide) ?_
  refine zn_newi C q174 hP hD hS hA (by decide) (Nat.le_of_ble_eq_true rfl) (Nat.le_of_ble_eq_true rfl) dX3_init_24 (fun q3 H hq3 _ hP hD hS => ?_)
  have hP : va_P G.1 zCl [(o, .inr (0, [.int 0, .int 0, .int 0, .int 0, .ref q1, .ref q2, .null, .null, .null, .null, .null])), (q1, .inl (G.2 0, 72, .inl (fun _ => nI 0))), (q2, .inl (G.2 0, 864, .inl (fun _ => nI 0))), (q3, .inl (G.2 0, 72, .inl (fun _ => nI 0)))] H := hP
  have hD : va_D (fun q => q = o ∨ s.heap.size ≤ q) [(o, .inr (0, [.int 0, .int 0, .int 0, .int 0, .ref q1, .ref q2, .null, .null, .null, .null, .null])), (q1, .inl (G.2 0, 72, .inl (fun _ => nI 0))), (q2, .inl (G.2 0, 864, .inl (fun _ => nI 0))), (q3, .inl (G.2 0, 72, .inl (fun _ => nI 0)))] := hD
  refine zpF (T := TX3) (N := 11) (ci := 0) C in_X3 tyX3 tyX3_ok nmX3 hin hP hD hS 0 rfl rfl 6 (by decide) q816 rfl rfl rfl rfl (Nat.le_of_ble_eq_true rfl) dX3_init_26 (fun H locs hP hD hS => ?_)
  have hP : va_P G.1 zCl [(o, .inr (0, [.int 0, .int 0, .int 0, .int 0, .ref q1, .ref q2, .ref q3, .null, .null, .null, .null])), (q1, .inl (G.2 0, 72, .inl (fun _ => nI 0))), (q2, .inl (G.2 0, 864, .inl (fun _ => nI 0))), (q3, .inl (G.2 0, 72, .inl (fun _ => nI 0)))] H := hP
  have hD : va_D (fun q => q = o ∨ s.heap.size ≤ q) [(o, .inr (0, [.int 0, .int 0, .int 0, .int 0, .ref q1, .ref q2, .ref q3, .null, .null, .null, .null])), (q1, .inl (G.2 0, 72, .inl (fun _ => nI 0))), (q2, .inl (G.2 0, 864, .inl (fun _ => nI 0))), (q3, .inl (G.2 0, 72, .inl (fun _ => nI 0)))] := hD
  refine lv_aload_n hx hb dX3_init_29 rfl (lv_at hl 0 rfl) ?_
  refine lv_bipush (v := nI 40) hx hb dX3_init_30 (by decide) ?_
  refine zn_newi C q174 hP hD hS hA (by decide) (Nat.le_of_ble_eq_true rfl) (Nat.le_of_ble_eq_true rfl) dX3_init_32 (fun q4 H hq4 _ hP hD hS => ?_)
  have hP : va_P G.1 zCl [(o, .inr (0, [.int 0, .int 0, .int 0, .int 0, .ref q1, .ref q2, .ref q3, .null, .null, .null, .null])), (q1, .inl (G.2 0, 72, .inl (fun _ => nI 0))), (q2, .inl (G.2 0, 864, .inl (fun _ => nI 0))), (q3, .inl (G.2 0, 72, .inl (fun _ => nI 0))), (q4, .inl (G.2 0, 40, .inl (fun _ => nI 0)))] H := hP
  have hD : va_D (fun q => q = o ∨ s.heap.size ≤ q) [(o, .inr (0, [.int 0, .int 0, .int 0, .int 0, .ref q1, .ref q2, .ref q3, .null, .null, .null, .null])), (q1, .inl (G.2 0, 72, .inl (fun _ => nI 0))), (q2, .inl (G.2 0, 864, .inl (fun _ => nI 0))), (q3, .inl (G.2 0, 72, .inl (fun _ => nI 0))), (q4, .inl (G.2 0, 40, .inl (fun _ => nI 0)))] := hD
  refine zpF (T := TX3) (N := 11) (ci := 0) C in_X3 tyX3 tyX3_ok nmX3 hin hP hD hS 0 rfl rfl 7 (by decide) q817 rfl rfl rfl rfl (Nat.le_of_ble_eq_true rfl) dX3_init_34 (fun H locs hP hD hS => ?_)
  have hP : va_P G.1 zCl [(o, .inr (0, [.int 0, .int 0, .int 0, .int 0, .ref q1, .ref q2, .ref q3, .ref q4, .null, .null, .null])), (q1, .inl (G.2 0, 72, .inl (fun _ => nI 0))), (q2, .inl (G.2 0, 864, .inl (fun _ => nI 0))), (q3, .inl (G.2 0, 72, .inl (fun _ => nI 0))), (q4, .inl (G.2 0, 40, .inl (fun _ => nI 0)))] H := hP
  have hD : va_D (fun q => q = o ∨ s.heap.size ≤ q) [(o, .inr (0, [.int 0, .int 0, .int 0, .int 0, .ref q1, .ref q2, .ref q3, .ref q4, .null, .null, .null])), (q1, .inl (G.2 0, 72, .inl (fun _ => nI 0))), (q2, .inl (G.2 0, 864, .inl (fun _ => nI 0))), (q3, .inl (G.2 0, 72, .inl (fun _ => nI 0))), (q4, .inl (G.2 0, 40, .inl (fun _ => nI 0)))] := hD
  refine lv_aload_n hx hb dX3_init_37 rfl (lv_at hl 0 rfl) ?_
  refine lv_bipush (v := nI 60) hx hb dX3_init_38 (by decide) ?_
  refine zn_newi C q174 hP hD hS hA (by decide) (Nat.le_of_ble_eq_true rfl) (Nat.le_of_ble_eq_true rfl) dX3_init_40 (fun q5 H hq5 _ hP hD hS => ?_)
  have hP : va_P G.1 zCl [(o, .inr (0, [.int 0, .int 0, .int 0, .int 0, .ref q1, .ref q2, .ref q3, .ref q4, .null, .null, .null])), (q1, .inl (G.2 0, 72, .inl (fun _ => nI 0))), (q2, .inl (G.2 0, 864, .inl (fun _ => nI 0))), (q3, .inl (G.2 0, 72, .inl (fun _ => nI 0))), (q4, .inl (G.2 0, 40, .inl (fun _ => nI 0))), (q5, .inl (G.2 0, 60, .inl (fun _ => nI 0)))] H := hP
  have hD : va_D (fun q => q = o ∨ s.heap.size ≤ q) [(o, .inr (0, [.int 0, .int 0, .int 0, .int 0, .ref q1, .ref q2, .ref q3, .ref q4, .null, .null, .null])), (q1, .inl (G.2 0, 72, .inl (fun _ => nI 0))), (q2, .inl (G.2 0, 864, .inl (fun _ => nI 0))), (q3, .inl (G.2 0, 72, .inl (fun _ => nI 0))), (q4, .inl (G.2 0, 40, .inl (fun _ => nI 0))), (q5, .inl (G.2 0, 60, .inl (fun _ => nI 0)))] := hD
  refine zpF (T := TX3) (N := 11) (ci := 0) C in_X3 tyX3 tyX3_ok nmX3 hin hP hD hS 0 rfl rfl 8 (by decide) q818 rfl rfl rfl rfl (Nat.le_of_ble_eq_true rfl) dX3_init_42 (fun H locs hP hD hS => ?_)
  have hP : va_P G.1 zCl [(o, .inr (0, [.int 0, .int 0, .int 0, .int 0, .ref q1, .ref q2, .ref q3, .ref q4, .ref q5, .null, .null])), (q1, .inl (G.2 0, 72, .inl (fun _ => nI 0))), (q2, .inl (G.2 0, 864, .inl (fun _ => nI 0))), (q3, .inl (G.2 0, 72, .inl (fun _ => nI 0))), (q4, .inl (G.2 0, 40, .inl (fun _ => nI 0))), (q5, .inl (G.2 0, 60, .inl (fun _ => nI 0)))] H := hP
  have hD : va_D (fun q => q = o ∨ s.heap.size ≤ q) [(o, .inr (0, [.int 0, .int 0, .int 0, .int 0, .ref q1, .ref q2, .ref q3, .ref q4, .ref q5, .null, .null])), (q1, .inl (G.2 0, 72, .inl (fun _ => nI 0))), (q2, .inl (G.2 0, 864, .inl (fun _ => nI 0))), (q3, .inl (G.2 0, 72, .inl (fun _ => nI 0))), (q4, .inl (G.2 0, 40, .inl (fun _ => nI 0))), (q5, .inl (G.2 0, 60, .inl (fun _ => nI 0)))] := hD
  refine lv_aload_n hx hb dX3_init_45 rfl (lv_at hl 0 rfl) ?_
  refine lv_bipush (v := nI 8) hx hb dX3_init_46 (by decide) ?_
  refine zn_newi C q174 hP hD hS hA (by decide) (Nat.le_of_ble_eq_true rfl) (Nat.le_of_ble_eq_true rfl) dX3_init_48 (fun q6 H hq6 _ hP hD hS => ?_)
  have hP : va_P G.1 zCl [(o, .inr (0, [.int 0, .int 0, .int 0, .int 0, .ref q1, .ref q2, .ref q3, .ref q4, .ref q5, .null, .null])), (q1, .inl (G.2 0, 72, .inl (fun _ => nI 0))), (q2, .inl (G.2 0, 864, .inl (fun _ => nI 0))), (q3, .inl (G.2 0, 72, .inl (fun _ => nI 0))), (q4, .inl (G.2 0, 40, .inl (fun _ => nI 0))), (q5, .inl (G.2 0, 60, .inl (fun _ => nI 0))), (q6, .inl (G.2 0, 8, .inl (fun _ => nI 0)))] H := hP
  have hD : va_D (fun q => q = o ∨ s.heap.size ≤ q) [(o, .inr (0, [.int 0, .int 0, .int 0, .int 0, .ref q1, .ref q2, .ref q3, .ref q4, .ref q5, .null, .null])), (q1, .inl (G.2 0, 72, .inl (fun _ => nI 0))), (q2, .inl (G.2 0, 864, .inl (fun _ => nI 0))), (q3, .inl (G.2 0, 72, .inl (fun _ => nI 0))), (q4, .inl (G.2 0, 40, .inl (fun _ => nI 0))), (q5, .inl (G.2 0, 60, .inl (fun _ => nI 0))), (q6, .inl (G.2 0, 8, .inl (fun _ => nI 0)))] := hD
  refine zpF (T := TX3) (N := 11) (ci := 0) C in_X3 tyX3 tyX3_ok nmX3 hin hP hD hS 0 rfl rfl 9 (by decide) q819 rfl rfl rfl rfl (Nat.le_of_ble_eq_true rfl) dX3_init_50 (fun H locs hP hD hS => ?_)
  have hP : va_P G.1 zCl [(o, .inr (0, [.int 0, .int 0, .int 0, .int 0, .ref q1, .ref q2, .ref q3, .ref q4, .ref q5, .ref q6, .null])), (q1, .inl (G.2 0, 72, .inl (fun _ => nI 0))), (q2, .inl (G.2 0, 864, .inl (fun _ => nI 0))), (q3, .inl (G.2 0, 72, .inl (fun _ => nI 0))), (q4, .inl (G.2 0, 40, .inl (fun _ => nI 0))), (q5, .inl (G.2 0, 60, .inl (fun _ => nI 0))), (q6, .inl (G.2 0, 8, .inl (fun _ => nI 0)))] H := hP
  have hD : va_D (fun q => q = o ∨ s.heap.size ≤ q) [(o, .inr (0, [.int 0, .int 0, .int 0, .int 0, .ref q1, .ref q2, .ref q3, .ref q4, .ref q5, .ref q6, .null])), (q1, .inl (G.2 0, 72, .inl (fun _ => nI 0))), (q2, .inl (G.2 0, 864, .inl (fun _ => nI 0))), (q3, .inl (G.2 0, 72, .inl (fun _ => nI 0))), (q4, .inl (G.2 0, 40, .inl (fun _ => nI 0))), (q5, .inl (G.2 0, 60, .inl (fun _ => nI 0))), (q6, .inl (G.2 0, 8, .inl (fun _ => nI 0)))] := hD
  refine lv_aload_n hx hb dX3_init_53 rfl (lv_at hl 0 rfl) ?_
  refine lv_iconst (v := nI 3) hx hb dX3_init_54 (by decide) ?_
  refine zn_newi C q174 hP hD hS hA (by decide) (Nat.le_of_ble_eq_true rfl) (Nat.le_of_ble_eq_true rfl) dX3_init_55 (fun q7 H hq7 _ hP hD hS => ?_)
  have hP : va_P G.1 zCl [(o, .inr (0, [.int 0, .int 0, .int 0, .int 0, .ref q1, .ref q2, .ref q3, .ref q4, .ref q5, .ref q6, .null])), (q1, .inl (G.2 0, 72, .inl (fun _ => nI 0))), (q2, .inl (G.2 0, 864, .inl (fun _ => nI 0))), (q3, .inl (G.2 0, 72, .inl (fun _ => nI 0))), (q4, .inl (G.2 0, 40, .inl (fun _ => nI 0))), (q5, .inl (G.2 0, 60, .inl (fun _ => nI 0))), (q6, .inl (G.2 0, 8, .inl (fun _ => nI 0))), (q7, .inl (G.2 0, 3, .inl (fun _ => nI 0)))] H := hP
  have hD : va_D (fun q => q = o ∨ s.heap.size ≤ q) [(o, .inr (0, [.int 0, .int 0, .int 0, .int 0, .ref q1, .ref q2, .ref q3, .ref q4, .ref q5, .ref q6, .null])), (q1, .inl (G.2 0, 72, .inl (fun _ => nI 0))), (q2, .inl (G.2 0, 864, .inl (fun _ => nI 0))), (q3, .inl (G.2 0, 72, .inl (fun _ => nI 0))), (q4, .inl (G.2 0, 40, .inl (fun _ => nI 0))), (q5, .inl (G.2 0, 60, .inl (fun _ => nI 0))), (q6, .inl (G.2 0, 8, .inl (fun _ => nI 0))), (q7, .inl (G.2 0, 3, .inl (fun _ => nI 0)))] := hD
  refine lv_dup hx hb dX3_init_57 rfl ?_
  refine lv_iconst (v := nI 0) hx hb dX3_init_58 (by decide) ?_
  refine lv_iconst (v := nI 0) hx hb dX3_init_59 (by decide) ?_
  refine zn_ast C hP hD hS 7 rfl (by decide) (Nat.le_of_ble_eq_true rfl) dX3_init_60 (fun H locs hP hS => ?_)
  have hP : va_P G.1 zCl [(o, .inr (0, [.int 0, .int 0, .int 0, .int 0, .ref q1, .ref q2, .ref q3, .ref q4, .ref q5, .ref q6, .null])), (q1, .inl (G.2 0, 72, .inl (fun _ => nI 0))), (q2, .inl (G.2 0, 864, .inl (fun _ => nI 0))), (q3, .inl (G.2 0, 72, .inl (fun _ => nI 0))), (q4, .inl (G.2 0, 40, .inl (fun _ => nI 0))), (q5, .inl (G.2 0, 60, .inl (fun _ => nI 0))), (q6, .inl (G.2 0, 8, .inl (fun _ => nI 0))), (q7, .inl (G.2 0, 3, .inl (upd (fun _ => nI 0) 0 (nI 0))))] H := hP
  have hD : va_D (fun q => q = o ∨ s.heap.size ≤ q) [(o, .inr (0, [.int 0, .int 0, .int 0, .int 0, .ref q1, .ref q2, .ref q3, .ref q4, .ref q5, .ref q6, .null])), (q1, .inl (G.2 0, 72, .inl (fun _ => nI 0))), (q2, .inl (G.2 0, 864, .inl (fun _ => nI 0))), (q3, .inl (G.2 0, 72, .inl (fun _ => nI 0))), (q4, .inl (G.2 0, 40, .inl (fun _ => nI 0))), (q5, .inl (G.2 0, 60, .inl (fun _ => nI 0))), (q6, .inl (G.2 0, 8, .inl (fun _ => nI 0))), (q7, .inl (G.2 0, 3, .inl (upd (fun _ => nI 0) 0 (nI 0))))] := zD_cong (by rfl) hD
  refine lv_dup hx hb dX3_init_61 rfl ?_
  refine lv_iconst (v := nI 1) hx hb dX3_init_62 (by decide) ?_
  refine lv_iconst (v := nI 0) hx hb dX3_init_63 (by decide) ?_
  refine zn_ast C hP hD hS 7 rfl (by decide) (Nat.le_of_ble_eq_true rfl) dX3_init_64 (fun H locs hP hS => ?_)
  have hP : va_P G.1 zCl [(o, .inr (0, [.int 0, .int 0, .int 0, .int 0, .ref q1, .ref q2, .ref q3, .ref q4, .ref q5, .ref q6, .null])), (q1, .inl (G.2 0, 72, .inl (fun _ => nI 0))), (q2, .inl (G.2 0, 864, .inl (fun _ => nI 0))), (q3, .inl (G.2 0, 72, .inl (fun _ => nI 0))), (q4, .inl (G.2 0, 40, .inl (fun _ => nI 0))), (q5, .inl (G.2 0, 60, .inl (fun _ => nI 0))), (q6, .inl (G.2 0, 8, .inl (fun _ => nI 0))), (q7, .inl (G.2 0, 3, .inl (upd (upd (fun _ => nI 0) 0 (nI 0)) 1 (nI 0))))] H := hP
  have hD : va_D (fun q => q = o ∨ s.heap.size ≤ q) [(o, .inr (0, [.int 0, .int 0, .int 0, .int 0, .ref q1, .ref q2, .ref q3, .ref q4, .ref q5, .ref q6, .null])), (q1, .inl (G.2 0, 72, .inl (fun _ => nI 0))), (q2, .inl (G.2 0, 864, .inl (fun _ => nI 0))), (q3, .inl (G.2 0, 72, .inl (fun _ => nI 0))), (q4, .inl (G.2 0, 40, .inl (fun _ => nI 0))), (q5, .inl (G.2 0, 60, .inl (fun _ => nI 0))), (q6, .inl (G.2 0, 8, .inl (fun _ => nI 0))), (q7, .inl (G.2 0, 3, .inl (upd (upd (fun _ => nI 0) 0 (nI 0)) 1 (nI 0))))] := zD_cong (by rfl) hD
  refine lv_dup hx hb dX3_init_65 rfl ?_
  refine lv_iconst (v := nI 2) hx hb dX3_init_66 (by decide) ?_
  refine lv_iconst (v := nI 0) hx hb dX3_init_67 (by decide) ?_
  refine zn_ast C hP hD hS 7 rfl (by decide) (Nat.le_of_ble_eq_true rfl) dX3_init_68 (fun H locs hP hS => ?_)
  have hP : va_P G.1 zCl [(o, .inr (0, [.int 0, .int 0, .int 0, .int 0, .ref q1, .ref q2, .ref q3, .ref q4, .ref q5, .ref q6, .null])), (q1, .inl (G.2 0, 72, .inl (fun _ => nI 0))), (q2, .inl (G.2 0, 864, .inl (fun _ => nI 0))), (q3, .inl (G.2 0, 72, .inl (fun _ => nI 0))), (q4, .inl (G.2 0, 40, .inl (fun _ => nI 0))), (q5, .inl (G.2 0, 60, .inl (fun _ => nI 0))), (q6, .inl (G.2 0, 8, .inl (fun _ => nI 0))), (q7, .inl (G.2 0, 3, .inl (upd (upd (upd (fun _ => nI 0) 0 (nI 0)) 1 (nI 0)) 2 (nI 0))))] H := hP
  have hD : va_D (fun q => q = o ∨ s.heap.size ≤ q) [(o, .inr (0, [.int 0, .int 0, .int 0, .int 0, .ref q1, .ref q2, .ref q3, .ref q4, .ref q5, .ref q6, .null])), (q1, .inl (G.2 0, 72, .inl (fun _ => nI 0))), (q2, .inl (G.2 0, 864, .inl (fun _ => nI 0))), (q3, .inl (G.2 0, 72, .inl (fun _ => nI 0))), (q4, .inl (G.2 0, 40, .inl (fun _ => nI 0))), (q5, .inl (G.2 0, 60, .inl (fun _ => nI 0))), (q6, .inl (G.2 0, 8, .inl (fun _ => nI 0))), (q7, .inl (G.2 0, 3, .inl (upd (upd (upd (fun _ => nI 0) 0 (nI 0)) 1 (nI 0)) 2 (nI 0))))] := zD_cong (by rfl) hD
  refine zpF (T := TX3) (N := 11) (ci := 0) C in_X3 tyX3 tyX3_ok nmX3 hin hP hD hS 0 rfl rfl 10 (by decide) q820 rfl rfl rfl rfl (Nat.le_of_ble_eq_true rfl) dX3_init_69 (fun H locs hP hD hS => ?_)
  have hP : va_P G.1 zCl [(o, .inr (0, [.int 0, .int 0, .int 0, .int 0, .ref q1, .ref q2, .ref q3, .ref q4, .ref q5, .ref q6, .ref q7])), (q1, .inl (G.2 0, 72, .inl (fun _ => nI 0))), (q2, .inl (G.2 0, 864, .inl (fun _ => nI 0))), (q3, .inl (G.2 0, 72, .inl (fun _ => nI 0))), (q4, .inl (G.2 0, 40, .inl (fun _ => nI 0))), (q5, .inl (G.2 0, 60, .inl (fun _ => nI 0))), (q6, .inl (G.2 0, 8, .inl (fun _ => nI 0))), (q7, .inl (G.2 0, 3, .inl (upd (upd (upd (fun _ => nI 0) 0 (nI 0)) 1 (nI 0)) 2 (nI 0))))] H := hP
  have hD : va_D (fun q => q = o ∨ s.heap.size ≤ q) [(o, .inr (0, [.int 0, .int 0, .int 0, .int 0, .ref q1, .ref q2, .ref q3, .ref q4, .ref q5, .ref q6, .ref q7])), (q1, .inl (G.2 0, 72, .inl (fun _ => nI 0))), (q2, .inl (G.2 0, 864, .inl (fun _ => nI 0))), (q3, .inl (G.2 0, 72, .inl (fun _ => nI 0))), (q4, .inl (G.2 0, 40, .inl (fun _ => nI 0))), (q5, .inl (G.2 0, 60, .inl (fun _ => nI 0))), (q6, .inl (G.2 0, 8, .inl (fun _ => nI 0))), (q7, .inl (G.2 0, 3, .inl (upd (upd (upd (fun _ => nI 0) 0 (nI 0)) 1 (nI 0)) 2 (nI 0))))] := hD
  rw [zupd_c, zupd_c, zupd_c] at hP
  refine zw_vret C ⟨zad [o, q1, q2, q3, q4, q5, q6, q7], rfl, ?_, ?_, hP⟩ hS dX3_init_72
  · refine zInj_D hD (fun k hk => ?_)
    rcases (show k = 0 ∨ k = 1 ∨ k = 2 ∨ k = 3 ∨ k = 4 ∨ k = 5 ∨ k = 6 ∨ k = 7 by omega) with rfl | rfl | rfl | rfl | rfl | rfl | rfl | rfl <;> exact ⟨_, rfl⟩
  · intro k h1 h2
    rcases (show k = 1 ∨ k = 2 ∨ k = 3 ∨ k = 4 ∨ k = 5 ∨ k = 6 ∨ k = 7 by omega) with rfl | rfl | rfl | rfl | rfl | rfl | rfl
    · exact hq1
    · exact hq2
    · exact hq3
    · exact hq4
    · exact hq5
    · exact hq6
    · exact hq7
set_option maxHeartbeats 4000000 in
theorem mo_kept (l : Launch) (G : zG) (a : Nat → Nat) (th : Int32) (K : zKt) (σ : zSt) (hI : zInj a 8) (sz : Nat) : zMrr l yX3_kept cX3_kept 1 (some (.array (.array .int))) 0 6 188 G [.ref (a 0)] (zMPz sz G a th K σ) (fun q H => ∃ k : Nat → Nat, k 0 = q ∧ zInj k 6 ∧ (∀ i j, i < 8 → j < 6 → a i ≠ k j) ∧ (∀ j, j < 6 → zAs a 8 sz (k j)) ∧ va_P G.1 zCl (zKp6 G k σ) H ∧ zMP G a th K σ H) (zAs a 8 sz) := by
  refine zMk [(0, .ref (a 0))] (by decide) (Nat.le_of_ble_eq_true rfl) rfl ?_
  intro p e s m below meth c ls C hP hl _
  generalize ([.ref (a 0)] : List Value).toArray = av at C ⊢
  have hx := C.1
  have hb := C.2.1
  have hml := C.2.2.1
  have hown := C.2.2.2.1
  have hts := C.2.2.2.2.1
  have hE := C.2.2.2.2.2.2.2
  obtain ⟨hsz, hP⟩ := hP
  subst hsz
  have hS : va_S (zAs a 8 s.heap.size) s.heap s.heap [] := va_S.rf
  refine lv_iconst (v := nI 5) hx hb dX3_kept_0 (by decide) ?_
  refine zn_newII C q1050 hP (zM_D hI zAs.in) hS zAs.new (by decide) (Nat.le_of_ble_eq_true rfl) (Nat.le_of_ble_eq_true rfl) dX3_kept_1 (fun q0 H hq0 hP hD hS => ?_)
  refine lv_dup hx hb dX3_kept_4 rfl ?_
  refine lv_iconst (v := nI 0) hx hb dX3_kept_5 (by decide) ?_
  refine lv_aload_n hx hb dX3_kept_6 rfl (lv_at hl 0 rfl) ?_
  have hP9 := hP
  have hP : zMP G a th K σ H := zP_left hP9
  refine zgM C hP 6 (by decide) q816 rfl rfl dX3_kept_7 ?_
  refine zn_clone C hl.1 q1052 hP9 hD hS zAs.new 3 rfl (Nat.le_of_ble_eq_true rfl) (Nat.le_of_ble_eq_true rfl) (Nat.le_of_ble_eq_true rfl) (Nat.le_of_ble_eq_true rfl) dX3_kept_10 (fun q1 H hP hD hS => ?_)
  have hP : va_P G.1 zCl (zM G a th K σ ++ [(q0, .inl (G.2 4, 5, .inr (.inr (.inr (.inr (fun _ => none)))))), (q1, .inl (G.2 0, 72, .inl (fun j => σ (j % 9) (j / 9))))]) H := hP
  have hD : va_D (zAs a 8 s.heap.size) (zM G a th K σ ++ [(q0, .inl (G.2 4, 5, .inr (.inr (.inr (.inr (fun _ => none)))))), (q1, .inl (G.2 0, 72, .inl (fun j => σ (j % 9) (j / 9))))]) := hD
  refine zn_castI C q1050 hP 9 rfl dX3_kept_13 ?_
  refine zn_astII C hP hD hS 8 9 rfl rfl (by decide) (Nat.le_of_ble_eq_true rfl) dX3_kept_16 (fun H locs hP hD hS => ?_)
  have hP : va_P G.1 zCl (zM G a th K σ ++ [(q0, .inl (G.2 4, 5, .inr (.inr (.inr (.inr (va_up (fun _ => none) 0 (some q1))))))), (q1, .inl (G.2 0, 72, .inl (fun j => σ (j % 9) (j / 9))))]) H := hP
  have hD : va_D (zAs a 8 s.heap.size) (zM G a th K σ ++ [(q0, .inl (G.2 4, 5, .inr (.inr (.inr (.inr (va_up (fun _ => none) 0 (some q1))))))), (q1, .inl (G.2 0, 72, .inl (fun j => σ (j % 9) (j / 9))))]) := hD
  refine lv_dup hx hb dX3_kept_17 rfl ?_
  refine lv_iconst (v := nI 1) hx hb dX3_kept_18 (by decide) ?_
  refine lv_aload_n hx hb dX3_kept_19 rfl (lv_at hl 0 rfl) ?_
  have hP9 := hP
  have hP : zMP G a th K σ H := zP_left hP9
  refine zgM C hP 7 (by decide) q817 rfl rfl dX3_kept_20 ?_
  refine zn_clone C hl.1 q1052 hP9 hD hS zAs.new 4 rfl (Nat.le_of_ble_eq_true rfl) (Nat.le_of_ble_eq_true rfl) (Nat.le_of_ble_eq_true rfl) (Nat.le_of_ble_eq_true rfl) dX3_kept_23 (fun q2 H hP hD hS => ?_)
  have hP : va_P G.1 zCl (zM G a th K σ ++ [(q0, .inl (G.2 4, 5, .inr (.inr (.inr (.inr (va_up (fun _ => none) 0 (some q1))))))), (q1, .inl (G.2 0, 72, .inl (fun j => σ (j % 9) (j / 9)))), (q2, .inl (G.2 0, 40, .inl (σ 20)))]) H := hP
  have hD : va_D (zAs a 8 s.heap.size) (zM G a th K σ ++ [(q0, .inl (G.2 4, 5, .inr (.inr (.inr (.inr (va_up (fun _ => none) 0 (some q1))))))), (q1, .inl (G.2 0, 72, .inl (fun j => σ (j % 9) (j / 9)))), (q2, .inl (G.2 0, 40, .inl (σ 20)))]) := hD
  refine zn_castI C q1050 hP 10 rfl dX3_kept_26 ?_
  refine zn_astII C hP hD hS 8 10 rfl rfl (by decide) (Nat.le_of_ble_eq_true rfl) dX3_kept_29 (fun H locs hP hD hS => ?_)
  have hP : va_P G.1 zCl (zM G a th K σ ++ [(q0, .inl (G.2 4, 5, .inr (.inr (.inr (.inr (va_up (va_up (fun _ => none) 0 (some q1)) 1 (some q2))))))), (q1, .inl (G.2 0, 72, .inl (fun j => σ (j % 9) (j / 9)))), (q2, .inl (G.2 0, 40, .inl (σ 20)))]) H := hP
  have hD : va_D (zAs a 8 s.heap.size) (zM G a th K σ ++ [(q0, .inl (G.2 4, 5, .inr (.inr (.inr (.inr (va_up (va_up (fun _ => none) 0 (some q1)) 1 (some q2))))))), (q1, .inl (G.2 0, 72, .inl (fun j => σ (j % 9) (j / 9)))), (q2, .inl (G.2 0, 40, .inl (σ 20)))]) := hD
  refine lv_dup hx hb dX3_kept_30 rfl ?_
  refine lv_iconst (v := nI 2) hx hb dX3_kept_31 (by decide) ?_
  refine lv_aload_n hx hb dX3_kept_32 rfl (lv_at hl 0 rfl) ?_
  have hP9 := hP
  have hP : zMP G a th K σ H := zP_left hP9
  refine zgM C hP 8 (by decide) q818 rfl rfl dX3_kept_33 ?_
  refine zn_clone C hl.1 q1052 hP9 hD hS zAs.new 5 rfl (Nat.le_of_ble_eq_true rfl) (Nat.le_of_ble_eq_true rfl) (Nat.le_of_ble_eq_true rfl) (Nat.le_of_ble_eq_true rfl) dX3_kept_36 (fun q3 H hP hD hS => ?_)
  have hP : va_P G.1 zCl (zM G a th K σ ++ [(q0, .inl (G.2 4, 5, .inr (.inr (.inr (.inr (va_up (va_up (fun _ => none) 0 (some q1)) 1 (some q2))))))), (q1, .inl (G.2 0, 72, .inl (fun j => σ (j % 9) (j / 9)))), (q2, .inl (G.2 0, 40, .inl (σ 20))), (q3, .inl (G.2 0, 60, .inl (fun j => σ (10 + j % 6) (j / 6))))]) H := hP
  have hD : va_D (zAs a 8 s.heap.size) (zM G a th K σ ++ [(q0, .inl (G.2 4, 5, .inr (.inr (.inr (.inr (va_up (va_up (fun _ => none) 0 (some q1)) 1 (some q2))))))), (q1, .inl (G.2 0, 72, .inl (fun j => σ (j % 9) (j / 9)))), (q2, .inl (G.2 0, 40, .inl (σ 20))), (q3, .inl (G.2 0, 60, .inl (fun j => σ (10 + j % 6) (j / 6))))]) := hD
  refine zn_castI C q1050 hP 11 rfl dX3_kept_39 ?_
  refine zn_astII C hP hD hS 8 11 rfl rfl (by decide) (Nat.le_of_ble_eq_true rfl) dX3_kept_42 (fun H locs hP hD hS => ?_)
  have hP : va_P G.1 zCl (zM G a th K σ ++ [(q0, .inl (G.2 4, 5, .inr (.inr (.inr (.inr (va_up (va_up (va_up (fun _ => none) 0 (some q1)) 1 (some q2)) 2 (some q3))))))), (q1, .inl (G.2 0, 72, .inl (fun j => σ (j % 9) (j / 9)))), (q2, .inl (G.2 0, 40, .inl (σ 20))), (q3, .inl (G.2 0, 60, .inl (fun j => σ (10 + j % 6) (j / 6))))]) H := hP
  have hD : va_D (zAs a 8 s.heap.size) (zM G a th K σ ++ [(q0, .inl (G.2 4, 5, .inr (.inr (.inr (.inr (va_up (va_up (va_up (fun _ => none) 0 (some q1)) 1 (some q2)) 2 (some q3))))))), (q1, .inl (G.2 0, 72, .inl (fun j => σ (j % 9) (j / 9)))), (q2, .inl (G.2 0, 40, .inl (σ 20))), (q3, .inl (G.2 0, 60, .inl (fun j => σ (10 + j % 6) (j / 6))))]) := hD
  refine lv_dup hx hb dX3_kept_43 rfl ?_
  refine lv_iconst (v := nI 3) hx hb dX3_kept_44 (by decide) ?_
  refine lv_aload_n hx hb dX3_kept_45 rfl (lv_at hl 0 rfl) ?_
  have hP9 := hP
  have hP : zMP G a th K σ H := zP_left hP9
  refine zgM C hP 9 (by decide) q819 rfl rfl dX3_kept_46 ?_
  refine zn_clone C hl.1 q1052 hP9 hD hS zAs.new 6 rfl (Nat.le_of_ble_eq_true rfl) (Nat.le_of_ble_eq_true rfl) (Nat.le_of_ble_eq_true rfl) (Nat.le_of_ble_eq_true rfl) dX3_kept_49 (fun q4 H hP hD hS => ?_)
  have hP : va_P G.1 zCl (zM G a th K σ ++ [(q0, .inl (G.2 4, 5, .inr (.inr (.inr (.inr (va_up (va_up (va_up (fun _ => none) 0 (some q1)) 1 (some q2)) 2 (some q3))))))), (q1, .inl (G.2 0, 72, .inl (fun j => σ (j % 9) (j / 9)))), (q2, .inl (G.2 0, 40, .inl (σ 20))), (q3, .inl (G.2 0, 60, .inl (fun j => σ (10 + j % 6) (j / 6)))), (q4, .inl (G.2 0, 8, .inl (σ 21)))]) H := hP
  have hD : va_D (zAs a 8 s.heap.size) (zM G a th K σ ++ [(q0, .inl (G.2 4, 5, .inr (.inr (.inr (.inr (va_up (va_up (va_up (fun _ => none) 0 (some q1)) 1 (some q2)) 2 (some q3))))))), (q1, .inl (G.2 0, 72, .inl (fun j => σ (j % 9) (j / 9)))), (q2, .inl (G.2 0, 40, .inl (σ 20))), (q3, .inl (G.2 0, 60, .inl (fun j => σ (10 + j % 6) (j / 6)))), (q4, .inl (G.2 0, 8, .inl (σ 21)))]) := hD
  refine zn_castI C q1050 hP 12 rfl dX3_kept_52 ?_
  refine zn_astII C hP hD hS 8 12 rfl rfl (by decide) (Nat.le_of_ble_eq_true rfl) dX3_kept_55 (fun H locs hP hD hS => ?_)
  have hP : va_P G.1 zCl (zM G a th K σ ++ [(q0, .inl (G.2 4, 5, .inr (.inr (.inr (.inr (va_up (va_up (va_up (va_up (fun _ => none) 0 (some q1)) 1 (some q2)) 2 (some q3)) 3 (some q4))))))), (q1, .inl (G.2 0, 72, .inl (fun j => σ (j % 9) (j / 9)))), (q2, .inl (G.2 0, 40, .inl (σ 20))), (q3, .inl (G.2 0, 60, .inl (fun j => σ (10 + j % 6) (j / 6)))), (q4, .inl (G.2 0, 8, .inl (σ 21)))]) H := hP
  have hD : va_D (zAs a 8 s.heap.size) (zM G a th K σ ++ [(q0, .inl (G.2 4, 5, .inr (.inr (.inr (.inr (va_up (va_up (va_up (va_up (fun _ => none) 0 (some q1)) 1 (some q2)) 2 (some q3)) 3 (some q4))))))), (q1, .inl (G.2 0, 72, .inl (fun j => σ (j % 9) (j / 9)))), (q2, .inl (G.2 0, 40, .inl (σ 20))), (q3, .inl (G.2 0, 60, .inl (fun j => σ (10 + j % 6) (j / 6)))), (q4, .inl (G.2 0, 8, .inl (σ 21)))]) := hD
  refine lv_dup hx hb dX3_kept_56 rfl ?_
  refine lv_iconst (v := nI 4) hx hb dX3_kept_57 (by decide) ?_
  refine lv_aload_n hx hb dX3_kept_58 rfl (lv_at hl 0 rfl) ?_
  have hP9 := hP
  have hP : zMP G a th K σ H := zP_left hP9
  refine zgM C hP 10 (by decide) q820 rfl rfl dX3_kept_59 ?_
  refine zn_clone C hl.1 q1052 hP9 hD hS zAs.new 7 rfl (Nat.le_of_ble_eq_true rfl) (Nat.le_of_ble_eq_true rfl) (Nat.le_of_ble_eq_true rfl) (Nat.le_of_ble_eq_true rfl) dX3_kept_62 (fun q5 H hP hD hS => ?_)
  have hP : va_P G.1 zCl (zM G a th K σ ++ [(q0, .inl (G.2 4, 5, .inr (.inr (.inr (.inr (va_up (va_up (va_up (va_up (fun _ => none) 0 (some q1)) 1 (some q2)) 2 (some q3)) 3 (some q4))))))), (q1, .inl (G.2 0, 72, .inl (fun j => σ (j % 9) (j / 9)))), (q2, .inl (G.2 0, 40, .inl (σ 20))), (q3, .inl (G.2 0, 60, .inl (fun j => σ (10 + j % 6) (j / 6)))), (q4, .inl (G.2 0, 8, .inl (σ 21))), (q5, .inl (G.2 0, 3, .inl (σ 22)))]) H := hP
  have hD : va_D (zAs a 8 s.heap.size) (zM G a th K σ ++ [(q0, .inl (G.2 4, 5, .inr (.inr (.inr (.inr (va_up (va_up (va_up (va_up (fun _ => none) 0 (some q1)) 1 (some q2)) 2 (some q3)) 3 (some q4))))))), (q1, .inl (G.2 0, 72, .inl (fun j => σ (j % 9) (j / 9)))), (q2, .inl (G.2 0, 40, .inl (σ 20))), (q3, .inl (G.2 0, 60, .inl (fun j => σ (10 + j % 6) (j / 6)))), (q4, .inl (G.2 0, 8, .inl (σ 21))), (q5, .inl (G.2 0, 3, .inl (σ 22)))]) := hD
  refine zn_castI C q1050 hP 13 rfl dX3_kept_65 ?_
  refine zn_astII C hP hD hS 8 13 rfl rfl (by decide) (Nat.le_of_ble_eq_true rfl) dX3_kept_68 (fun H locs hP hD hS => ?_)
  have hP : va_P G.1 zCl (zM G a th K σ ++ [(q0, .inl (G.2 4, 5, .inr (.inr (.inr (.inr (va_up (va_up (va_up (va_up (va_up (fun _ => none) 0 (some q1)) 1 (some q2)) 2 (some q3)) 3 (some q4)) 4 (some q5))))))), (q1, .inl (G.2 0, 72, .inl (fun j => σ (j % 9) (j / 9)))), (q2, .inl (G.2 0, 40, .inl (σ 20))), (q3, .inl (G.2 0, 60, .inl (fun j => σ (10 + j % 6) (j / 6)))), (q4, .inl (G.2 0, 8, .inl (σ 21))), (q5, .inl (G.2 0, 3, .inl (σ 22)))]) H := hP
  have hD : va_D (zAs a 8 s.heap.size) (zM G a th K σ ++ [(q0, .inl (G.2 4, 5, .inr (.inr (.inr (.inr (va_up (va_up (va_up (va_up (va_up (fun _ => none) 0 (some q1)) 1 (some q2)) 2 (some q3)) 3 (some q4)) 4 (some q5))))))), (q1, .inl (G.2 0, 72, .inl (fun j => σ (j % 9) (j / 9)))), (q2, .inl (G.2 0, 40, .inl (σ 20))), (q3, .inl (G.2 0, 60, .inl (fun j => σ (10 + j % 6) (j / 6)))), (q4, .inl (G.2 0, 8, .inl (σ 21))), (q5, .inl (G.2 0, 3, .inl (σ 22)))]) := hD
  refine zw_aret C (Or.inr ⟨_, rfl⟩) ⟨zad [q0, q1, q2, q3, q4, q5], rfl, ?_, ?_, ?_, zP_right hP, zP_left hP⟩ hS dX3_kept_69
  · refine zInj_D (A := zAs a 8 s.heap.size) (ws := zKp6 G (zad [q0, q1, q2, q3, q4, q5]) σ) ⟨fun i j x y hi hj hxy => ?_, fun k q hk => ?_⟩ (fun k hk => ?_)
    · have := hD.1 (8 + i) (8 + j) x y (by rw [List.getElem?_append_right (by show 8 ≤ 8 + i; omega)]; show _[8 + i - 8]? = _; rw [Nat.add_sub_cancel_left]; exact hi) (by rw [List.getElem?_append_right (by show 8 ≤ 8 + j; omega)]; show _[8 + j - 8]? = _; rw [Nat.add_sub_cancel_left]; exact hj) hxy
      omega
    · exact hD.2 (8 + k) q (by rw [List.getElem?_append_right (by show 8 ≤ 8 + k; omega)]; show _[8 + k - 8]? = _; rw [Nat.add_sub_cancel_left]; exact hk)
    · rcases (show k = 0 ∨ k = 1 ∨ k = 2 ∨ k = 3 ∨ k = 4 ∨ k = 5 by omega) with rfl | rfl | rfl | rfl | rfl | rfl <;> exact ⟨_, rfl⟩
  · intro i j hi hj hij
    have h1 := hD.1 i (8 + j)
    have h2 : ∀ i, i < 8 → ∃ e, (zM G a th K σ)[i]? = some (a i, e) := fun i hi => by
      rcases (show i = 0 ∨ i = 1 ∨ i = 2 ∨ i = 3 ∨ i = 4 ∨ i = 5 ∨ i = 6 ∨ i = 7 by omega) with rfl | rfl | rfl | rfl | rfl | rfl | rfl | rfl <;> exact ⟨_, rfl⟩
    have h3 : ∀ j, j < 6 → ∃ e, (zKp6 G (zad [q0, q1, q2, q3, q4, q5]) σ)[j]? = some (zad [q0, q1, q2, q3, q4, q5] j, e) := fun j hj => by
      rcases (show j = 0 ∨ j = 1 ∨ j = 2 ∨ j = 3 ∨ j = 4 ∨ j = 5 by omega) with rfl | rfl | rfl | rfl | rfl | rfl <;> exact ⟨_, rfl⟩
    obtain ⟨e1, g1⟩ := h2 i hi
    obtain ⟨e2, g2⟩ := h3 j hj
    have := h1 _ _ (by rw [List.getElem?_append_left (by show i < 8; omega)]; exact g1) (by rw [List.getElem?_append_right (by show 8 ≤ 8 + j; omega)]; show _[8 + j - 8]? = _; rw [Nat.add_sub_cancel_left]; exact g2) hij
    omega
  · intro j hj
    rcases (show j = 0 ∨ j = 1 ∨ j = 2 ∨ j = 3 ∨ j = 4 ∨ j = 5 by omega) with rfl | rfl | rfl | rfl | rfl | rfl
    · exact hD.2 8 _ rfl
    · exact hD.2 9 _ rfl
    · exact hD.2 10 _ rfl
    · exact hD.2 11 _ rfl
    · exact hD.2 12 _ rfl
    · exact hD.2 13 _ rfl
set_option maxHeartbeats 4000000 in
theorem mo_bringBack (l : Launch) (G : zG) (a : Nat → Nat) (th : Int32) (K : zKt) (σ : zSt) (τ : zSt) (k : Nat → Nat) (hI : zInj a 8) (hk : zInj k 6) (hd : ∀ i j, i < 8 → j < 6 → a i ≠ k j) (sz : Nat) : zMrw l yX3_bringBack cX3_bringBack 4 none 0 1 5 G [.ref (a 0), .ref (k 0)] (fun H => H.size = sz ∧ va_P G.1 zCl (zM G a th K τ ++ zKp6 G k σ) H) none (va_P G.1 zCl (zM G a th K σ ++ zKp6 G k σ)) (zAk a k sz) := by
  refine zMk [(0, .ref (a 0)), (1, .ref (k 0))] (by decide) (Nat.le_of_ble_eq_true rfl) rfl ?_
  intro p e s m below meth c ls C hP hl _
  generalize ([.ref (a 0), .ref (k 0)] : List Value).toArray = av at C ⊢
  have hx := C.1
  have hb := C.2.1
  have hml := C.2.2.1
  have hown := C.2.2.2.1
  have hts := C.2.2.2.2.1
  have hE := C.2.2.2.2.2.2.2
  obtain ⟨hsz, hP⟩ := hP
  subst hsz
  have hS : va_S (zAk a k s.heap.size) s.heap s.heap [] := va_S.rf
  have hA : ∀ q, s.heap.size ≤ q → zAk a k s.heap.size q := fun q h => Or.inr (Or.inr h)
  refine lv_iconst (v := nI 5) hx hb dX3_bringBack_0 (by decide) ?_
  refine zn_newII C q1050 hP (zMK_D hI hk hd) hS hA (by decide) (Nat.le_of_ble_eq_true rfl) (Nat.le_of_ble_eq_true rfl) dX3_bringBack_1 (fun q0 H hq0 hP hD hS => ?_)
  refine lv_dup hx hb dX3_bringBack_4 rfl ?_
  refine lv_iconst (v := nI 0) hx hb dX3_bringBack_5 (by decide) ?_
  refine lv_aload_n hx hb dX3_bringBack_6 rfl (lv_at hl 0 rfl) ?_
  have hP9 := hP
  have hP : zMP G a th K τ H := zP_left (zP_left hP9)
  refine zgM C hP 6 (by decide) q816 rfl rfl dX3_bringBack_7 ?_
  refine zn_astII C hP9 hD hS 14 3 rfl rfl (by decide) (Nat.le_of_ble_eq_true rfl) dX3_bringBack_10 (fun H locs hP hD hS => ?_)
  have hP : va_P G.1 zCl ([(a 0, .inr (0, zMf a th K)), (a 1, .inl (G.2 0, 72, .inl (fun j => zkC K (j / 9) (j % 9)))), (a 2, .inl (G.2 0, 864, .inl (fun j => zkN K (j / 108) (j % 108 / 9) (j % 9)))), (a 3, .inl (G.2 0, 72, .inl (fun j => τ (j % 9) (j / 9)))), (a 4, .inl (G.2 0, 40, .inl (τ 20))), (a 5, .inl (G.2 0, 60, .inl (fun j => τ (10 + j % 6) (j / 6)))), (a 6, .inl (G.2 0, 8, .inl (τ 21))), (a 7, .inl (G.2 0, 3, .inl (τ 22)))] ++ zKp6 G k σ ++ [(q0, .inl (G.2 4, 5, .inr (.inr (.inr (.inr (va_up (fun _ => none) 0 (some (a 3))))))))]) H := hP
  have hD : va_D (zAk a k s.heap.size) ([(a 0, .inr (0, zMf a th K)), (a 1, .inl (G.2 0, 72, .inl (fun j => zkC K (j / 9) (j % 9)))), (a 2, .inl (G.2 0, 864, .inl (fun j => zkN K (j / 108) (j % 108 / 9) (j % 9)))), (a 3, .inl (G.2 0, 72, .inl (fun j => τ (j % 9) (j / 9)))), (a 4, .inl (G.2 0, 40, .inl (τ 20))), (a 5, .inl (G.2 0, 60, .inl (fun j => τ (10 + j % 6) (j / 6)))), (a 6, .inl (G.2 0, 8, .inl (τ 21))), (a 7, .inl (G.2 0, 3, .inl (τ 22)))] ++ zKp6 G k σ ++ [(q0, .inl (G.2 4, 5, .inr (.inr (.inr (.inr (va_up (fun _ => none) 0 (some (a 3))))))))]) := hD
  refine lv_dup hx hb dX3_bringBack_11 rfl ?_
  refine lv_iconst (v := nI 1) hx hb dX3_bringBack_12 (by decide) ?_
  refine lv_aload_n hx hb dX3_bringBack_13 rfl (lv_at hl 0 rfl) ?_
  have hP9 := hP
  have hP : zMP G a th K τ H := zP_left (zP_left hP9)
  refine zgM C hP 7 (by decide) q817 rfl rfl dX3_bringBack_14 ?_
  refine zn_astII C hP9 hD hS 14 4 rfl rfl (by decide) (Nat.le_of_ble_eq_true rfl) dX3_bringBack_17 (fun H locs hP hD hS => ?_)
  have hP : va_P G.1 zCl ([(a 0, .inr (0, zMf a th K)), (a 1, .inl (G.2 0, 72, .inl (fun j => zkC K (j / 9) (j % 9)))), (a 2, .inl (G.2 0, 864, .inl (fun j => zkN K (j / 108) (j % 108 / 9) (j % 9)))), (a 3, .inl (G.2 0, 72, .inl (fun j => τ (j % 9) (j / 9)))), (a 4, .inl (G.2 0, 40, .inl (τ 20))), (a 5, .inl (G.2 0, 60, .inl (fun j => τ (10 + j % 6) (j / 6)))), (a 6, .inl (G.2 0, 8, .inl (τ 21))), (a 7, .inl (G.2 0, 3, .inl (τ 22)))] ++ zKp6 G k σ ++ [(q0, .inl (G.2 4, 5, .inr (.inr (.inr (.inr (va_up (va_up (fun _ => none) 0 (some (a 3))) 1 (some (a 4))))))))]) H := hP
  have hD : va_D (zAk a k s.heap.size) ([(a 0, .inr (0, zMf a th K)), (a 1, .inl (G.2 0, 72, .inl (fun j => zkC K (j / 9) (j % 9)))), (a 2, .inl (G.2 0, 864, .inl (fun j => zkN K (j / 108) (j % 108 / 9) (j % 9)))), (a 3, .inl (G.2 0, 72, .inl (fun j => τ (j % 9) (j / 9)))), (a 4, .inl (G.2 0, 40, .inl (τ 20))), (a 5, .inl (G.2 0, 60, .inl (fun j => τ (10 + j % 6) (j / 6)))), (a 6, .inl (G.2 0, 8, .inl (τ 21))), (a 7, .inl (G.2 0, 3, .inl (τ 22)))] ++ zKp6 G k σ ++ [(q0, .inl (G.2 4, 5, .inr (.inr (.inr (.inr (va_up (va_up (fun _ => none) 0 (some (a 3))) 1 (some (a 4))))))))]) := hD
  refine lv_dup hx hb dX3_bringBack_18 rfl ?_
  refine lv_iconst (v := nI 2) hx hb dX3_bringBack_19 (by decide) ?_
  refine lv_aload_n hx hb dX3_bringBack_20 rfl (lv_at hl 0 rfl) ?_
  have hP9 := hP
  have hP : zMP G a th K τ H := zP_left (zP_left hP9)
  refine zgM C hP 8 (by decide) q818 rfl rfl dX3_bringBack_21 ?_
  refine zn_astII C hP9 hD hS 14 5 rfl rfl (by decide) (Nat.le_of_ble_eq_true rfl) dX3_bringBack_24 (fun H locs hP hD hS => ?_)
  have hP : va_P G.1 zCl ([(a 0, .inr (0, zMf a th K)), (a 1, .inl (G.2 0, 72, .inl (fun j => zkC K (j / 9) (j % 9)))), (a 2, .inl (G.2 0, 864, .inl (fun j => zkN K (j / 108) (j % 108 / 9) (j % 9)))), (a 3, .inl (G.2 0, 72, .inl (fun j => τ (j % 9) (j / 9)))), (a 4, .inl (G.2 0, 40, .inl (τ 20))), (a 5, .inl (G.2 0, 60, .inl (fun j => τ (10 + j % 6) (j / 6)))), (a 6, .inl (G.2 0, 8, .inl (τ 21))), (a 7, .inl (G.2 0, 3, .inl (τ 22)))] ++ zKp6 G k σ ++ [(q0, .inl (G.2 4, 5, .inr (.inr (.inr (.inr (va_up (va_up (va_up (fun _ => none) 0 (some (a 3))) 1 (some (a 4))) 2 (some (a 5))))))))]) H := hP
  have hD : va_D (zAk a k s.heap.size) ([(a 0, .inr (0, zMf a th K)), (a 1, .inl (G.2 0, 72, .inl (fun j => zkC K (j / 9) (j % 9)))), (a 2, .inl (G.2 0, 864, .inl (fun j => zkN K (j / 108) (j % 108 / 9) (j % 9)))), (a 3, .inl (G.2 0, 72, .inl (fun j => τ (j % 9) (j / 9)))), (a 4, .inl (G.2 0, 40, .inl (τ 20))), (a 5, .inl (G.2 0, 60, .inl (fun j => τ (10 + j % 6) (j / 6)))), (a 6, .inl (G.2 0, 8, .inl (τ 21))), (a 7, .inl (G.2 0, 3, .inl (τ 22)))] ++ zKp6 G k σ ++ [(q0, .inl (G.2 4, 5, .inr (.inr (.inr (.inr (va_up (va_up (va_up (fun _ => none) 0 (some (a 3))) 1 (some (a 4))) 2 (some (a 5))))))))]) := hD
  refine lv_dup hx hb dX3_bringBack_25 rfl ?_
  refine lv_iconst (v := nI 3) hx hb dX3_bringBack_26 (by decide) ?_
  refine lv_aload_n hx hb dX3_bringBack_27 rfl (lv_at hl 0 rfl) ?_
  have hP9 := hP
  have hP : zMP G a th K τ H := zP_left (zP_left hP9)
  refine zgM C hP 9 (by decide) q819 rfl rfl dX3_bringBack_28 ?_
  refine zn_astII C hP9 hD hS 14 6 rfl rfl (by decide) (Nat.le_of_ble_eq_true rfl) dX3_bringBack_31 (fun H locs hP hD hS => ?_)
  have hP : va_P G.1 zCl ([(a 0, .inr (0, zMf a th K)), (a 1, .inl (G.2 0, 72, .inl (fun j => zkC K (j / 9) (j % 9)))), (a 2, .inl (G.2 0, 864, .inl (fun j => zkN K (j / 108) (j % 108 / 9) (j % 9)))), (a 3, .inl (G.2 0, 72, .inl (fun j => τ (j % 9) (j / 9)))), (a 4, .inl (G.2 0, 40, .inl (τ 20))), (a 5, .inl (G.2 0, 60, .inl (fun j => τ (10 + j % 6) (j / 6)))), (a 6, .inl (G.2 0, 8, .inl (τ 21))), (a 7, .inl (G.2 0, 3, .inl (τ 22)))] ++ zKp6 G k σ ++ [(q0, .inl (G.2 4, 5, .inr (.inr (.inr (.inr (va_up (va_up (va_up (va_up (fun _ => none) 0 (some (a 3))) 1 (some (a 4))) 2 (some (a 5))) 3 (some (a 6))))))))]) H := hP
  have hD : va_D (zAk a k s.heap.size) ([(a 0, .inr (0, zMf a th K)), (a 1, .inl (G.2 0, 72, .inl (fun j => zkC K (j / 9) (j % 9)))), (a 2, .inl (G.2 0, 864, .inl (fun j => zkN K (j / 108) (j % 108 / 9) (j % 9)))), (a 3, .inl (G.2 0, 72, .inl (fun j => τ (j % 9) (j / 9)))), (a 4, .inl (G.2 0, 40, .inl (τ 20))), (a 5, .inl (G.2 0, 60, .inl (fun j => τ (10 + j % 6) (j / 6)))), (a 6, .inl (G.2 0, 8, .inl (τ 21))), (a 7, .inl (G.2 0, 3, .inl (τ 22)))] ++ zKp6 G k σ ++ [(q0, .inl (G.2 4, 5, .inr (.inr (.inr (.inr (va_up (va_up (va_up (va_up (fun _ => none) 0 (some (a 3))) 1 (some (a 4))) 2 (some (a 5))) 3 (some (a 6))))))))]) := hD
  refine lv_dup hx hb dX3_bringBack_32 rfl ?_
  refine lv_iconst (v := nI 4) hx hb dX3_bringBack_33 (by decide) ?_
  refine lv_aload_n hx hb dX3_bringBack_34 rfl (lv_at hl 0 rfl) ?_
  have hP9 := hP
  have hP : zMP G a th K τ H := zP_left (zP_left hP9)
  refine zgM C hP 10 (by decide) q820 rfl rfl dX3_bringBack_35 ?_
  refine zn_astII C hP9 hD hS 14 7 rfl rfl (by decide) (Nat.le_of_ble_eq_true rfl) dX3_bringBack_38 (fun H locs hP hD hS => ?_)
  have hP : va_P G.1 zCl ([(a 0, .inr (0, zMf a th K)), (a 1, .inl (G.2 0, 72, .inl (fun j => zkC K (j / 9) (j % 9)))), (a 2, .inl (G.2 0, 864, .inl (fun j => zkN K (j / 108) (j % 108 / 9) (j % 9)))), (a 3, .inl (G.2 0, 72, .inl (fun j => τ (j % 9) (j / 9)))), (a 4, .inl (G.2 0, 40, .inl (τ 20))), (a 5, .inl (G.2 0, 60, .inl (fun j => τ (10 + j % 6) (j / 6)))), (a 6, .inl (G.2 0, 8, .inl (τ 21))), (a 7, .inl (G.2 0, 3, .inl (τ 22)))] ++ zKp6 G k σ ++ [(q0, .inl (G.2 4, 5, .inr (.inr (.inr (.inr (va_up (va_up (va_up (va_up (va_up (fun _ => none) 0 (some (a 3))) 1 (some (a 4))) 2 (some (a 5))) 3 (some (a 6))) 4 (some (a 7))))))))]) H := hP
  have hD : va_D (zAk a k s.heap.size) ([(a 0, .inr (0, zMf a th K)), (a 1, .inl (G.2 0, 72, .inl (fun j => zkC K (j / 9) (j % 9)))), (a 2, .inl (G.2 0, 864, .inl (fun j => zkN K (j / 108) (j % 108 / 9) (j % 9)))), (a 3, .inl (G.2 0, 72, .inl (fun j => τ (j % 9) (j / 9)))), (a 4, .inl (G.2 0, 40, .inl (τ 20))), (a 5, .inl (G.2 0, 60, .inl (fun j => τ (10 + j % 6) (j / 6)))), (a 6, .inl (G.2 0, 8, .inl (τ 21))), (a 7, .inl (G.2 0, 3, .inl (τ 22)))] ++ zKp6 G k σ ++ [(q0, .inl (G.2 4, 5, .inr (.inr (.inr (.inr (va_up (va_up (va_up (va_up (va_up (fun _ => none) 0 (some (a 3))) 1 (some (a 4))) 2 (some (a 5))) 3 (some (a 6))) 4 (some (a 7))))))))]) := hD
  refine lv_astore_n (lv' := [(2, .ref q0), (0, .ref (a 0)), (1, .ref (k 0))]) hx hb dX3_bringBack_39 rfl hl (by decide) rfl (fun ls hl => ?_)
  refine lv_iconst (v := nI 0) hx hb dX3_bringBack_40 (by decide) ?_
  refine lv_istore_n (lv' := [(3, .int (nI 0)), (2, .ref q0), (0, .ref (a 0)), (1, .ref (k 0))]) hx hb dX3_bringBack_41 rfl hl (by decide) rfl (fun ls hl => ?_)
  refine lv_iload_n hx hb dX3_bringBack_42 rfl (lv_at hl 0 rfl) ?_
  refine lv_iconst (v := nI 5) hx hb dX3_bringBack_43 (by decide) ?_
  refine zn_ge (tgt := 68) C (by decide) (by decide) dX3_bringBack_44 (by decide) (fun c_1 => ?_) (fun c_1 => ?_)
  · exact absurd c_1 (by decide)
  · refine lv_aload_n hx hb dX3_bringBack_47 rfl (lv_at hl 3 rfl) ?_
    refine lv_iload_n hx hb dX3_bringBack_48 rfl (lv_at hl 0 rfl) ?_
    refine zn_aldII (v := k 1) C hP 8 rfl (by decide) (Nat.le_of_ble_eq_true rfl) rfl dX3_bringBack_49 ?_
    refine lv_iconst (v := nI 0) hx hb dX3_bringBack_50 (by decide) ?_
    refine lv_aload_n hx hb dX3_bringBack_51 rfl (lv_at hl 1 rfl) ?_
    refine lv_iload_n hx hb dX3_bringBack_52 rfl (lv_at hl 0 rfl) ?_
    refine zn_aldII (v := a 3) C hP 14 rfl (by decide) (Nat.le_of_ble_eq_true rfl) rfl dX3_bringBack_53 ?_
    refine lv_iconst (v := nI 0) hx hb dX3_bringBack_54 (by decide) ?_
    refine lv_aload_n hx hb dX3_bringBack_55 rfl (lv_at hl 1 rfl) ?_
    refine lv_iload_n hx hb dX3_bringBack_56 rfl (lv_at hl 0 rfl) ?_
    refine zn_aldII (v := a 3) C hP 14 rfl (by decide) (Nat.le_of_ble_eq_true rfl) rfl dX3_bringBack_57 ?_
    refine va_alen (v := nI 72) hx hb hE.1 hP 3 0 rfl rfl rfl dX3_bringBack_58 ?_
    refine zn_copy C hl.1 q863 q458 q457 q59 hP hD hS 9 3 rfl rfl (by decide) (by decide) (by decide) (by decide) (Nat.le_of_ble_eq_true rfl) (Nat.le_of_ble_eq_true rfl) dX3_bringBack_59 (fun H locs hP hS => ?_)
    have hP := zP_same (g := (fun j => σ (j % 9) (j / 9))) (fun k hk => by simp only [va_cpy]; rw [if_pos ⟨Nat.zero_le _, by omega⟩]; simp) hP
    have hP : va_P G.1 zCl ([(a 0, .inr (0, zMf a th K)), (a 1, .inl (G.2 0, 72, .inl (fun j => zkC K (j / 9) (j % 9)))), (a 2, .inl (G.2 0, 864, .inl (fun j => zkN K (j / 108) (j % 108 / 9) (j % 9)))), (a 3, .inl (G.2 0, 72, .inl (fun j => σ (j % 9) (j / 9)))), (a 4, .inl (G.2 0, 40, .inl (τ 20))), (a 5, .inl (G.2 0, 60, .inl (fun j => τ (10 + j % 6) (j / 6)))), (a 6, .inl (G.2 0, 8, .inl (τ 21))), (a 7, .inl (G.2 0, 3, .inl (τ 22)))] ++ zKp6 G k σ ++ [(q0, .inl (G.2 4, 5, .inr (.inr (.inr (.inr (va_up (va_up (va_up (va_up (va_up (fun _ => none) 0 (some (a 3))) 1 (some (a 4))) 2 (some (a 5))) 3 (some (a 6))) 4 (some (a 7))))))))]) H := hP
    have hD : va_D (zAk a k s.heap.size) ([(a 0, .inr (0, zMf a th K)), (a 1, .inl (G.2 0, 72, .inl (fun j => zkC K (j / 9) (j % 9)))), (a 2, .inl (G.2 0, 864, .inl (fun j => zkN K (j / 108) (j % 108 / 9) (j % 9)))), (a 3, .inl (G.2 0, 72, .inl (fun j => σ (j % 9) (j / 9)))), (a 4, .inl (G.2 0, 40, .inl (τ 20))), (a 5, .inl (G.2 0, 60, .inl (fun j => τ (10 + j % 6) (j / 6)))), (a 6, .inl (G.2 0, 8, .inl (τ 21))), (a 7, .inl (G.2 0, 3, .inl (τ 22)))] ++ zKp6 G k σ ++ [(q0, .inl (G.2 4, 5, .inr (.inr (.inr (.inr (va_up (va_up (va_up (va_up (va_up (fun _ => none) 0 (some (a 3))) 1 (some (a 4))) 2 (some (a 5))) 3 (some (a 6))) 4 (some (a 7))))))))]) := zD_cong (by rfl) hD
    refine lv_iinc (v := nI 1) (lv' := [(3, .int (nI 1)), (2, .ref q0), (0, .ref (a 0)), (1, .ref (k 0))]) hx hb dX3_bringBack_62 hl (k := 0) rfl (by decide) (by decide) rfl (fun ls hl => ?_)
    refine lv_goto (tgt := 42) hx hb dX3_bringBack_65 (by decide) ?_
    refine lv_iload_n hx hb dX3_bringBack_42 rfl (lv_at hl 0 rfl) ?_
    refine lv_iconst (v := nI 5) hx hb dX3_bringBack_43 (by decide) ?_
    refine zn_ge (tgt := 68) C (by decide) (by decide) dX3_bringBack_44 (by decide) (fun c_2 => ?_) (fun c_2 => ?_)
    · exact absurd c_2 (by decide)
    · refine lv_aload_n hx hb dX3_bringBack_47 rfl (lv_at hl 3 rfl) ?_
      refine lv_iload_n hx hb dX3_bringBack_48 rfl (lv_at hl 0 rfl) ?_
      refine zn_aldII (v := k 2) C hP 8 rfl (by decide) (Nat.le_of_ble_eq_true rfl) rfl dX3_bringBack_49 ?_
      refine lv_iconst (v := nI 0) hx hb dX3_bringBack_50 (by decide) ?_
      refine lv_aload_n hx hb dX3_bringBack_51 rfl (lv_at hl 1 rfl) ?_
      refine lv_iload_n hx hb dX3_bringBack_52 rfl (lv_at hl 0 rfl) ?_
      refine zn_aldII (v := a 4) C hP 14 rfl (by decide) (Nat.le_of_ble_eq_true rfl) rfl dX3_bringBack_53 ?_
      refine lv_iconst (v := nI 0) hx hb dX3_bringBack_54 (by decide) ?_
      refine lv_aload_n hx hb dX3_bringBack_55 rfl (lv_at hl 1 rfl) ?_
      refine lv_iload_n hx hb dX3_bringBack_56 rfl (lv_at hl 0 rfl) ?_
      refine zn_aldII (v := a 4) C hP 14 rfl (by decide) (Nat.le_of_ble_eq_true rfl) rfl dX3_bringBack_57 ?_
      refine va_alen (v := nI 40) hx hb hE.1 hP 4 0 rfl rfl rfl dX3_bringBack_58 ?_
      refine zn_copy C hl.1 q863 q458 q457 q59 hP hD hS 10 4 rfl rfl (by decide) (by decide) (by decide) (by decide) (Nat.le_of_ble_eq_true rfl) (Nat.le_of_ble_eq_true rfl) dX3_bringBack_59 (fun H locs hP hS => ?_)
      have hP := zP_same (g := (σ 20)) (fun k hk => by simp only [va_cpy]; rw [if_pos ⟨Nat.zero_le _, by omega⟩]; simp) hP
      have hP : va_P G.1 zCl ([(a 0, .inr (0, zMf a th K)), (a 1, .inl (G.2 0, 72, .inl (fun j => zkC K (j / 9) (j % 9)))), (a 2, .inl (G.2 0, 864, .inl (fun j => zkN K (j / 108) (j % 108 / 9) (j % 9)))), (a 3, .inl (G.2 0, 72, .inl (fun j => σ (j % 9) (j / 9)))), (a 4, .inl (G.2 0, 40, .inl (σ 20))), (a 5, .inl (G.2 0, 60, .inl (fun j => τ (10 + j % 6) (j / 6)))), (a 6, .inl (G.2 0, 8, .inl (τ 21))), (a 7, .inl (G.2 0, 3, .inl (τ 22)))] ++ zKp6 G k σ ++ [(q0, .inl (G.2 4, 5, .inr (.inr (.inr (.inr (va_up (va_up (va_up (va_up (va_up (fun _ => none) 0 (some (a 3))) 1 (some (a 4))) 2 (some (a 5))) 3 (some (a 6))) 4 (some (a 7))))))))]) H := hP
      have hD : va_D (zAk a k s.heap.size) ([(a 0, .inr (0, zMf a th K)), (a 1, .inl (G.2 0, 72, .inl (fun j => zkC K (j / 9) (j % 9)))), (a 2, .inl (G.2 0, 864, .inl (fun j => zkN K (j / 108) (j % 108 / 9) (j % 9)))), (a 3, .inl (G.2 0, 72, .inl (fun j => σ (j % 9) (j / 9)))), (a 4, .inl (G.2 0, 40, .inl (σ 20))), (a 5, .inl (G.2 0, 60, .inl (fun j => τ (10 + j % 6) (j / 6)))), (a 6, .inl (G.2 0, 8, .inl (τ 21))), (a 7, .inl (G.2 0, 3, .inl (τ 22)))] ++ zKp6 G k σ ++ [(q0, .inl (G.2 4, 5, .inr (.inr (.inr (.inr (va_up (va_up (va_up (va_up (va_up (fun _ => none) 0 (some (a 3))) 1 (some (a 4))) 2 (some (a 5))) 3 (some (a 6))) 4 (some (a 7))))))))]) := zD_cong (by rfl) hD
      refine lv_iinc (v := nI 2) (lv' := [(3, .int (nI 2)), (2, .ref q0), (0, .ref (a 0)), (1, .ref (k 0))]) hx hb dX3_bringBack_62 hl (k := 0) rfl (by decide) (by decide) rfl (fun ls hl => ?_)
      refine lv_goto (tgt := 42) hx hb dX3_bringBack_65 (by decide) ?_
      refine lv_iload_n hx hb dX3_bringBack_42 rfl (lv_at hl 0 rfl) ?_
      refine lv_iconst (v := nI 5) hx hb dX3_bringBack_43 (by decide) ?_
      refine zn_ge (tgt := 68) C (by decide) (by decide) dX3_bringBack_44 (by decide) (fun c_3 => ?_) (fun c_3 => ?_)
      · exact absurd c_3 (by decide)
      · refine lv_aload_n hx hb dX3_bringBack_47 rfl (lv_at hl 3 rfl) ?_
        refine lv_iload_n hx hb dX3_bringBack_48 rfl (lv_at hl 0 rfl) ?_
        refine zn_aldII (v := k 3) C hP 8 rfl (by decide) (Nat.le_of_ble_eq_true rfl) rfl dX3_bringBack_49 ?_
        refine lv_iconst (v := nI 0) hx hb dX3_bringBack_50 (by decide) ?_
        refine lv_aload_n hx hb dX3_bringBack_51 rfl (lv_at hl 1 rfl) ?_
        refine lv_iload_n hx hb dX3_bringBack_52 rfl (lv_at hl 0 rfl) ?_
        refine zn_aldII (v := a 5) C hP 14 rfl (by decide) (Nat.le_of_ble_eq_true rfl) rfl dX3_bringBack_53 ?_
        refine lv_iconst (v := nI 0) hx hb dX3_bringBack_54 (by decide) ?_
        refine lv_aload_n hx hb dX3_bringBack_55 rfl (lv_at hl 1 rfl) ?_
        refine lv_iload_n hx hb dX3_bringBack_56 rfl (lv_at hl 0 rfl) ?_
        refine zn_aldII (v := a 5) C hP 14 rfl (by decide) (Nat.le_of_ble_eq_true rfl) rfl dX3_bringBack_57 ?_
        refine va_alen (v := nI 60) hx hb hE.1 hP 5 0 rfl rfl rfl dX3_bringBack_58 ?_
        refine zn_copy C hl.1 q863 q458 q457 q59 hP hD hS 11 5 rfl rfl (by decide) (by decide) (by decide) (by decide) (Nat.le_of_ble_eq_true rfl) (Nat.le_of_ble_eq_true rfl) dX3_bringBack_59 (fun H locs hP hS => ?_)
        have hP := zP_same (g := (fun j => σ (10 + j % 6) (j / 6))) (fun k hk => by simp only [va_cpy]; rw [if_pos ⟨Nat.zero_le _, by omega⟩]; simp) hP
        have hP : va_P G.1 zCl ([(a 0, .inr (0, zMf a th K)), (a 1, .inl (G.2 0, 72, .inl (fun j => zkC K (j / 9) (j % 9)))), (a 2, .inl (G.2 0, 864, .inl (fun j => zkN K (j / 108) (j % 108 / 9) (j % 9)))), (a 3, .inl (G.2 0, 72, .inl (fun j => σ (j % 9) (j / 9)))), (a 4, .inl (G.2 0, 40, .inl (σ 20))), (a 5, .inl (G.2 0, 60, .inl (fun j => σ (10 + j % 6) (j / 6)))), (a 6, .inl (G.2 0, 8, .inl (τ 21))), (a 7, .inl (G.2 0, 3, .inl (τ 22)))] ++ zKp6 G k σ ++ [(q0, .inl (G.2 4, 5, .inr (.inr (.inr (.inr (va_up (va_up (va_up (va_up (va_up (fun _ => none) 0 (some (a 3))) 1 (some (a 4))) 2 (some (a 5))) 3 (some (a 6))) 4 (some (a 7))))))))]) H := hP
        have hD : va_D (zAk a k s.heap.size) ([(a 0, .inr (0, zMf a th K)), (a 1, .inl (G.2 0, 72, .inl (fun j => zkC K (j / 9) (j % 9)))), (a 2, .inl (G.2 0, 864, .inl (fun j => zkN K (j / 108) (j % 108 / 9) (j % 9)))), (a 3, .inl (G.2 0, 72, .inl (fun j => σ (j % 9) (j / 9)))), (a 4, .inl (G.2 0, 40, .inl (σ 20))), (a 5, .inl (G.2 0, 60, .inl (fun j => σ (10 + j % 6) (j / 6)))), (a 6, .inl (G.2 0, 8, .inl (τ 21))), (a 7, .inl (G.2 0, 3, .inl (τ 22)))] ++ zKp6 G k σ ++ [(q0, .inl (G.2 4, 5, .inr (.inr (.inr (.inr (va_up (va_up (va_up (va_up (va_up (fun _ => none) 0 (some (a 3))) 1 (some (a 4))) 2 (some (a 5))) 3 (some (a 6))) 4 (some (a 7))))))))]) := zD_cong (by rfl) hD
        refine lv_iinc (v := nI 3) (lv' := [(3, .int (nI 3)), (2, .ref q0), (0, .ref (a 0)), (1, .ref (k 0))]) hx hb dX3_bringBack_62 hl (k := 0) rfl (by decide) (by decide) rfl (fun ls hl => ?_)
        refine lv_goto (tgt := 42) hx hb dX3_bringBack_65 (by decide) ?_
        refine lv_iload_n hx hb dX3_bringBack_42 rfl (lv_at hl 0 rfl) ?_
        refine lv_iconst (v := nI 5) hx hb dX3_bringBack_43 (by decide) ?_
        refine zn_ge (tgt := 68) C (by decide) (by decide) dX3_bringBack_44 (by decide) (fun c_4 => ?_) (fun c_4 => ?_)
        · exact absurd c_4 (by decide)
        · refine lv_aload_n hx hb dX3_bringBack_47 rfl (lv_at hl 3 rfl) ?_
          refine lv_iload_n hx hb dX3_bringBack_48 rfl (lv_at hl 0 rfl) ?_
          refine zn_aldII (v := k 4) C hP 8 rfl (by decide) (Nat.le_of_ble_eq_true rfl) rfl dX3_bringBack_49 ?_
          refine lv_iconst (v := nI 0) hx hb dX3_bringBack_50 (by decide) ?_
          refine lv_aload_n hx hb dX3_bringBack_51 rfl (lv_at hl 1 rfl) ?_
          refine lv_iload_n hx hb dX3_bringBack_52 rfl (lv_at hl 0 rfl) ?_
          refine zn_aldII (v := a 6) C hP 14 rfl (by decide) (Nat.le_of_ble_eq_true rfl) rfl dX3_bringBack_53 ?_
          refine lv_iconst (v := nI 0) hx hb dX3_bringBack_54 (by decide) ?_
          refine lv_aload_n hx hb dX3_bringBack_55 rfl (lv_at hl 1 rfl) ?_
          refine lv_iload_n hx hb dX3_bringBack_56 rfl (lv_at hl 0 rfl) ?_
          refine zn_aldII (v := a 6) C hP 14 rfl (by decide) (Nat.le_of_ble_eq_true rfl) rfl dX3_bringBack_57 ?_
          refine va_alen (v := nI 8) hx hb hE.1 hP 6 0 rfl rfl rfl dX3_bringBack_58 ?_
          refine zn_copy C hl.1 q863 q458 q457 q59 hP hD hS 12 6 rfl rfl (by decide) (by decide) (by decide) (by decide) (Nat.le_of_ble_eq_true rfl) (Nat.le_of_ble_eq_true rfl) dX3_bringBack_59 (fun H locs hP hS => ?_)
          have hP := zP_same (g := (σ 21)) (fun k hk => by simp only [va_cpy]; rw [if_pos ⟨Nat.zero_le _, by omega⟩]; simp) hP
          have hP : va_P G.1 zCl ([(a 0, .inr (0, zMf a th K)), (a 1, .inl (G.2 0, 72, .inl (fun j => zkC K (j / 9) (j % 9)))), (a 2, .inl (G.2 0, 864, .inl (fun j => zkN K (j / 108) (j % 108 / 9) (j % 9)))), (a 3, .inl (G.2 0, 72, .inl (fun j => σ (j % 9) (j / 9)))), (a 4, .inl (G.2 0, 40, .inl (σ 20))), (a 5, .inl (G.2 0, 60, .inl (fun j => σ (10 + j % 6) (j / 6)))), (a 6, .inl (G.2 0, 8, .inl (σ 21))), (a 7, .inl (G.2 0, 3, .inl (τ 22)))] ++ zKp6 G k σ ++ [(q0, .inl (G.2 4, 5, .inr (.inr (.inr (.inr (va_up (va_up (va_up (va_up (va_up (fun _ => none) 0 (some (a 3))) 1 (some (a 4))) 2 (some (a 5))) 3 (some (a 6))) 4 (some (a 7))))))))]) H := hP
          have hD : va_D (zAk a k s.heap.size) ([(a 0, .inr (0, zMf a th K)), (a 1, .inl (G.2 0, 72, .inl (fun j => zkC K (j / 9) (j % 9)))), (a 2, .inl (G.2 0, 864, .inl (fun j => zkN K (j / 108) (j % 108 / 9) (j % 9)))), (a 3, .inl (G.2 0, 72, .inl (fun j => σ (j % 9) (j / 9)))), (a 4, .inl (G.2 0, 40, .inl (σ 20))), (a 5, .inl (G.2 0, 60, .inl (fun j => σ (10 + j % 6) (j / 6)))), (a 6, .inl (G.2 0, 8, .inl (σ 21))), (a 7, .inl (G.2 0, 3, .inl (τ 22)))] ++ zKp6 G k σ ++ [(q0, .inl (G.2 4, 5, .inr (.inr (.inr (.inr (va_up (va_up (va_up (va_up (va_up (fun _ => none) 0 (some (a 3))) 1 (some (a 4))) 2 (some (a 5))) 3 (some (a 6))) 4 (some (a 7))))))))]) := zD_cong (by rfl) hD
          refine lv_iinc (v := nI 4) (lv' := [(3, .int (nI 4)), (2, .ref q0), (0, .ref (a 0)), (1, .ref (k 0))]) hx hb dX3_bringBack_62 hl (k := 0) rfl (by decide) (by decide) rfl (fun ls hl => ?_)
          refine lv_goto (tgt := 42) hx hb dX3_bringBack_65 (by decide) ?_
          refine lv_iload_n hx hb dX3_bringBack_42 rfl (lv_at hl 0 rfl) ?_
          refine lv_iconst (v := nI 5) hx hb dX3_bringBack_43 (by decide) ?_
          refine zn_ge (tgt := 68) C (by decide) (by decide) dX3_bringBack_44 (by decide) (fun c_5 => ?_) (fun c_5 => ?_)
          · exact absurd c_5 (by decide)
          · refine lv_aload_n hx hb dX3_bringBack_47 rfl (lv_at hl 3 rfl) ?_
            refine lv_iload_n hx hb dX3_bringBack_48 rfl (lv_at hl 0 rfl) ?_
            refine zn_aldII (v := k 5) C hP 8 rfl (by decide) (Nat.le_of_ble_eq_true rfl) rfl dX3_bringBack_49 ?_
            refine lv_iconst (v := nI 0) hx hb dX3_bringBack_50 (by decide) ?_
            refine lv_aload_n hx hb dX3_bringBack_51 rfl (lv_at hl 1 rfl) ?_
            refine lv_iload_n hx hb dX3_bringBack_52 rfl (lv_at hl 0 rfl) ?_
            refine zn_aldII (v := a 7) C hP 14 rfl (by decide) (Nat.le_of_ble_eq_true rfl) rfl dX3_bringBack_53 ?_
            refine lv_iconst (v := nI 0) hx hb dX3_bringBack_54 (by decide) ?_
            refine lv_aload_n hx hb dX3_bringBack_55 rfl (lv_at hl 1 rfl) ?_
            refine lv_iload_n hx hb dX3_bringBack_56 rfl (lv_at hl 0 rfl) ?_
            refine zn_aldII (v := a 7) C hP 14 rfl (by decide) (Nat.le_of_ble_eq_true rfl) rfl dX3_bringBack_57 ?_
            refine va_alen (v := nI 3) hx hb hE.1 hP 7 0 rfl rfl rfl dX3_bringBack_58 ?_
            refine zn_copy C hl.1 q863 q458 q457 q59 hP hD hS 13 7 rfl rfl (by decide) (by decide) (by decide) (by decide) (Nat.le_of_ble_eq_true rfl) (Nat.le_of_ble_eq_true rfl) dX3_bringBack_59 (fun H locs hP hS => ?_)
            have hP := zP_same (g := (σ 22)) (fun k hk => by simp only [va_cpy]; rw [if_pos ⟨Nat.zero_le _, by omega⟩]; simp) hP
            have hP : va_P G.1 zCl ([(a 0, .inr (0, zMf a th K)), (a 1, .inl (G.2 0, 72, .inl (fun j => zkC K (j / 9) (j % 9)))), (a 2, .inl (G.2 0, 864, .inl (fun j => zkN K (j / 108) (j % 108 / 9) (j % 9)))), (a 3, .inl (G.2 0, 72, .inl (fun j => σ (j % 9) (j / 9)))), (a 4, .inl (G.2 0, 40, .inl (σ 20))), (a 5, .inl (G.2 0, 60, .inl (fun j => σ (10 + j % 6) (j / 6)))), (a 6, .inl (G.2 0, 8, .inl (σ 21))), (a 7, .inl (G.2 0, 3, .inl (σ 22)))] ++ zKp6 G k σ ++ [(q0, .inl (G.2 4, 5, .inr (.inr (.inr (.inr (va_up (va_up (va_up (va_up (va_up (fun _ => none) 0 (some (a 3))) 1 (some (a 4))) 2 (some (a 5))) 3 (some (a 6))) 4 (some (a 7))))))))]) H := hP
            have hD : va_D (zAk a k s.heap.size) ([(a 0, .inr (0, zMf a th K)), (a 1, .inl (G.2 0, 72, .inl (fun j => zkC K (j / 9) (j % 9)))), (a 2, .inl (G.2 0, 864, .inl (fun j => zkN K (j / 108) (j % 108 / 9) (j % 9)))), (a 3, .inl (G.2 0, 72, .inl (fun j => σ (j % 9) (j / 9)))), (a 4, .inl (G.2 0, 40, .inl (σ 20))), (a 5, .inl (G.2 0, 60, .inl (fun j => σ (10 + j % 6) (j / 6)))), (a 6, .inl (G.2 0, 8, .inl (σ 21))), (a 7, .inl (G.2 0, 3, .inl (σ 22)))] ++ zKp6 G k σ ++ [(q0, .inl (G.2 4, 5, .inr (.inr (.inr (.inr (va_up (va_up (va_up (va_up (va_up (fun _ => none) 0 (some (a 3))) 1 (some (a 4))) 2 (some (a 5))) 3 (some (a 6))) 4 (some (a 7))))))))]) := zD_cong (by rfl) hD
            refine lv_iinc (v := nI 5) (lv' := [(3, .int (nI 5)), (2, .ref q0), (0, .ref (a 0)), (1, .ref (k 0))]) hx hb dX3_bringBack_62 hl (k := 0) rfl (by decide) (by decide) rfl (fun ls hl => ?_)
            refine lv_goto (tgt := 42) hx hb dX3_bringBack_65 (by decide) ?_
            refine lv_iload_n hx hb dX3_bringBack_42 rfl (lv_at hl 0 rfl) ?_
            refine lv_iconst (v := nI 5) hx hb dX3_bringBack_43 (by decide) ?_
            refine zn_ge (tgt := 68) C (by decide) (by decide) dX3_bringBack_44 (by decide) (fun c_6 => ?_) (fun c_6 => ?_)
            · exact zw_vret C (zP_left hP) hS dX3_bringBack_68
            · exact absurd c_6 (by decide)

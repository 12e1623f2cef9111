/-! the model: calls that need no new cell (printed by gen/m25.py) -/
set_option maxRecDepth 100000
theorem zpd : ∀ k, k < 4 → parseFieldDescriptor (TX3 k).2.2.1 = some .int := by decide +kernel
set_option maxHeartbeats 4000000 in
theorem mo_thrown (l : Launch) (G : zG) (a : Nat → Nat) (th : Int32) (K : zKt) (σ : zSt)  : zMro l yX3_thrown cX3_thrown 1 (some .int) 0 G [.ref (a 0)] (zMP G a th K σ) (some (.int th)) := by
  refine zMk [(0, .ref (a 0))] (by decide) (Nat.le_of_ble_eq_true rfl) rfl ?_
  intro p e s m below meth c ls C hP hl _
  generalize ([.ref (a 0)] : List Value).toArray = av at C ⊢
  have hx := C.1
  have hb := C.2.1
  have hml := C.2.2.1
  have hown := C.2.2.2.1
  have hts := C.2.2.2.2.1
  have hE := C.2.2.2.2.2.2.2
  refine lv_aload_n hx hb dX3_thrown_0 rfl (lv_at hl 0 rfl) ?_
  refine zgM C hP 0 (by decide) q810 rfl rfl dX3_thrown_1 ?_
  exact ze_iretE C (rfl) dX3_thrown_4
set_option maxHeartbeats 4000000 in
theorem mo_fail (l : Launch) (G : zG) (a : Nat → Nat) (th : Int32) (K : zKt) (σ : zSt) (hI : zInj a 8) (v : Int32) : zMrw l yX3_fail cX3_fail 2 (some .int) 0 0 0 G [.ref (a 0), .int v] (zMP G a th K σ) (some (.int (nI 0))) (zMP G a v K σ) (zA a 8) := by
  refine zMk [(0, .ref (a 0)), (1, .int v)] (by decide) (Nat.le_of_ble_eq_true rfl) rfl ?_
  intro p e s m below meth c ls C hP hl _
  generalize ([.ref (a 0), .int v] : List Value).toArray = av at C ⊢
  have hx := C.1
  have hb := C.2.1
  have hml := C.2.2.1
  have hown := C.2.2.2.1
  have hts := C.2.2.2.2.1
  have hE := C.2.2.2.2.2.2.2
  have hS : va_S (zA a 8) s.heap s.heap [] := va_S.rf
  refine lv_aload_n hx hb dX3_fail_0 rfl (lv_at hl 0 rfl) ?_
  refine lv_iload_n hx hb dX3_fail_1 rfl (lv_at hl 1 rfl) ?_
  refine zpM (th' := v) (K' := K) C hI (fun _ h => h) hP hS 0 (by decide) q810 rfl rfl (zpd 0 (by decide)) rfl ⟨rfl, rfl⟩ dX3_fail_2 (fun H locs hP hS => ?_)
  refine lv_iconst (v := nI 0) hx hb dX3_fail_5 (by decide) ?_
  exact zw_iretE C (rfl) (hP) hS dX3_fail_6
set_option maxHeartbeats 4000000 in
theorem mo_bend (l : Launch) (G : zG) (a : Nat → Nat) (th : Int32) (K : zKt) (σ : zSt) (hI : zInj a 8) (mv rv cv sv : Int32) (hO : zOk K σ) : zMrw l yX3_bend cX3_bend 6 (some .int) 3 0 0 G [.ref (a 0), .int mv, .int rv, .int cv, .int sv] (zMP G a th K σ) (some (.int (oBend K σ mv rv cv sv).2.1)) (zMP G a (oBend K σ mv rv cv sv).1 (oBend K σ mv rv cv sv).2.2.1 (oBend K σ mv rv cv sv).2.2.2) (zA a 8) := by
  refine zMk [(0, .ref (a 0)), (1, .int mv), (2, .int rv), (3, .int cv), (4, .int sv)] (by decide) (Nat.le_of_ble_eq_true rfl) rfl ?_
  intro p e s m below meth c ls C hP hl _
  generalize ([.ref (a 0), .int mv, .int rv, .int cv, .int sv] : List Value).toArray = av at C ⊢
  have hx := C.1
  have hb := C.2.1
  have hml := C.2.2.1
  have hown := C.2.2.2.1
  have hts := C.2.2.2.2.1
  have hE := C.2.2.2.2.2.2.2
  have hS : va_S (zA a 8) s.heap s.heap [] := va_S.rf
  refine lv_aload_n hx hb dX3_bend_0 rfl (lv_at hl 0 rfl) ?_
  refine lv_iconst (v := nI 0) hx hb dX3_bend_1 (by decide) ?_
  refine zpM (th' := (nI 0)) (K' := K) C hI (fun _ h => h) hP hS 0 (by decide) q810 rfl rfl (zpd 0 (by decide)) rfl ⟨rfl, rfl⟩ dX3_bend_2 (fun H locs hP hS => ?_)
  refine lv_aload_n hx hb dX3_bend_5 rfl (lv_at hl 0 rfl) ?_
  refine lv_iload_n hx hb dX3_bend_6 rfl (lv_at hl 1 rfl) ?_
  refine zcV1 (As := [.int mv]) (rest := []) C (mo_isMachine l G a (nI 0) K σ mv) (lw_V q872 q874 qs14 q48 q875) hdX3_isMachine ⟨Nat.le_of_ble_eq_true rfl, Nat.le_of_ble_eq_true rfl⟩ (zrM hE hP) (hP) hl.1 rfl (Nat.le_of_ble_eq_true rfl) ⟨Nat.le_of_ble_eq_true rfl, Nat.le_of_ble_eq_true rfl⟩ dX3_bend_7 ?_
  refine zb_ifn (zMac K mv) (tgt := 19) C rfl dX3_bend_10 (by decide) (fun c_1 => ?_) (fun c_1 => ?_)
  · obtain ⟨i, hi, rfl⟩ := zIdx (n := zkM K) (by have := hO.1; have := hO.2.1; omega) c_1
    have hci : (nI i).toNatClampNeg = i := nI_clamp (by have := hO.1; have := hO.2.1; omega)
    have hi9 : i < 8 := by have := hO.1; have := hO.2.1; omega
    refine lv_aload_n hx hb dX3_bend_19 rfl (lv_at hl 0 rfl) ?_
    refine lv_iload_n hx hb dX3_bend_20 rfl (lv_at hl 1 rfl) ?_
    refine lv_iload_n hx hb dX3_bend_21 rfl (lv_at hl 3 rfl) ?_
    refine zcV1 (As := [.int (nI i), .int cv]) (rest := []) C (mo_isColumn l G a (nI 0) K σ i cv (by omega)) (lw_V q876 q878 qs15 q48 q879) hdX3_isColumn ⟨Nat.le_of_ble_eq_true rfl, Nat.le_of_ble_eq_true rfl⟩ (zrM hE hP) (hP) hl.1 rfl (Nat.le_of_ble_eq_true rfl) ⟨Nat.le_of_ble_eq_true rfl, Nat.le_of_ble_eq_true rfl⟩ dX3_bend_22 ?_
    refine zb_if (σ 0 i = 0 ∧ nI 0 ≤ cv ∧ cv ≤ σ 1 i - nI 1) (tgt := 54) C rfl dX3_bend_25 (by decide) (fun c_2 => ?_) (fun c_2 => ?_)
    · refine lv_aload_n hx hb dX3_bend_54 rfl (lv_at hl 0 rfl) ?_
      refine lv_iconst (v := nI 2) hx hb dX3_bend_55 (by decide) ?_
      refine zwV1 (As := [.int (nI 2)]) (rest := []) C (mo_fail l G a (nI 0) K σ hI (nI 2)) (lw_V q855 q857 qs12 q48 q858) hdX3_fail ⟨Nat.le_of_ble_eq_true rfl, Nat.le_of_ble_eq_true rfl⟩ (zrM hE hP) (hP) hl.1 rfl (Nat.le_of_ble_eq_true rfl) ⟨Nat.le_of_ble_eq_true rfl, Nat.le_of_ble_eq_true rfl⟩ dX3_bend_56 hS (fun _ h => h) (fun H locs hP _ hS => ?_)
      exact zw_iretE C (by unfold oBend; rw [if_pos c_1, hci, if_neg c_2]; try rfl) (by unfold oBend; rw [if_pos c_1, hci, if_neg c_2]; exact hP) hS dX3_bend_59
    · have hT : zTab σ i := by
        rcases hO.2.2.1 i (by omega) with h | h
        · exact h
        · exact absurd (h.1.symm.trans c_2.1) (by decide)
      have hw9 := hT.2.2.1
      obtain ⟨k, hk, rfl⟩ := zIdx (v := cv) (n := zWd σ i) (by omega) (by have := c_2.2; rw [hT.2.2.2.2.2.1] at this; exact this)
      have hck : (nI k).toNatClampNeg = k := nI_clamp (by omega)
      refine lv_iload_n hx hb dX3_bend_28 rfl (lv_at hl 2 rfl) ?_
      refine lv_iconst (v := nI 0) hx hb dX3_bend_29 (by decide) ?_
      refine lv_aload_n hx hb dX3_bend_30 rfl (lv_at hl 0 rfl) ?_
      refine lv_iload_n hx hb dX3_bend_31 rfl (lv_at hl 1 rfl) ?_
      refine lv_iconst (v := nI 2) hx hb dX3_bend_32 (by decide) ?_
      refine zcV1 (As := [.int (nI i), .int (nI 2)]) (rest := [.int (nI 0), .int rv]) C (mo_ma l G a (nI 0) K σ i 2 (σ 2 i) (by omega) (by omega) rfl) (lw_V q884 q886 qs17 q48 q887) hdX3_ma ⟨Nat.le_of_ble_eq_true rfl, Nat.le_of_ble_eq_true rfl⟩ (zrM hE hP) (hP) hl.1 rfl (Nat.le_of_ble_eq_true rfl) ⟨Nat.le_of_ble_eq_true rfl, Nat.le_of_ble_eq_true rfl⟩ dX3_bend_33 ?_
      refine lv_iconst (v := nI 1) hx hb dX3_bend_36 (by decide) ?_
      refine lv_isub hx hb dX3_bend_37 ?_
      refine zcS1 (As := [.int rv, .int (nI 0), .int ((σ 2 i) - (nI 1))]) (rest := []) C (mo_isIn l G rv (nI 0) ((σ 2 i) - (nI 1))) (lw_S q852 q853 q48 q854) hdX3_isIn.2 ⟨Nat.le_of_ble_eq_true rfl, Nat.le_of_ble_eq_true rfl⟩ (trivial) hl.1 rfl (Nat.le_of_ble_eq_true rfl) ⟨Nat.le_of_ble_eq_true rfl, Nat.le_of_ble_eq_true rfl⟩ dX3_bend_38 ?_
      refine zb_if ((nI 0) ≤ rv ∧ rv ≤ ((σ 2 i) - (nI 1))) (tgt := 54) C rfl dX3_bend_41 (by decide) (fun c_3 => ?_) (fun c_3 => ?_)
      · refine lv_aload_n hx hb dX3_bend_54 rfl (lv_at hl 0 rfl) ?_
        refine lv_iconst (v := nI 2) hx hb dX3_bend_55 (by decide) ?_
        refine zwV1 (As := [.int (nI 2)]) (rest := []) C (mo_fail l G a (nI 0) K σ hI (nI 2)) (lw_V q855 q857 qs12 q48 q858) hdX3_fail ⟨Nat.le_of_ble_eq_true rfl, Nat.le_of_ble_eq_true rfl⟩ (zrM hE hP) (hP) hl.1 rfl (Nat.le_of_ble_eq_true rfl) ⟨Nat.le_of_ble_eq_true rfl, Nat.le_of_ble_eq_true rfl⟩ dX3_bend_56 hS (fun _ h => h) (fun H locs hP _ hS => ?_)
        exact zw_iretE C (by unfold oBend; rw [if_pos c_1, hci, if_pos c_2, if_neg c_3]; try rfl) (by unfold oBend; rw [if_pos c_1, hci, if_pos c_2, if_neg c_3]; exact hP) hS dX3_bend_59
      · have hd12 := hT.2.2.2.2.1
        obtain ⟨r, hr, rfl⟩ := zIdx (v := rv) (n := zDp σ i) (by omega) (by have := c_3; rw [hT.2.2.2.2.2.2] at this; exact this)
        have hcr : (nI r).toNatClampNeg = r := nI_clamp (by omega)
        refine lv_iload hx hb dX3_bend_44 (lv_at hl 4 rfl) ?_
        refine lv_iconst (v := (-1)) hx hb dX3_bend_46 (by decide) ?_
        refine lv_iconst (v := nI 1) hx hb dX3_bend_47 (by decide) ?_
        refine zcS1 (As := [.int sv, .int (-1), .int (nI 1)]) (rest := []) C (mo_isIn l G sv (-1) (nI 1)) (lw_S q852 q853 q48 q854) hdX3_isIn.2 ⟨Nat.le_of_ble_eq_true rfl, Nat.le_of_ble_eq_true rfl⟩ (trivial) hl.1 rfl (Nat.le_of_ble_eq_true rfl) ⟨Nat.le_of_ble_eq_true rfl, Nat.le_of_ble_eq_true rfl⟩ dX3_bend_48 ?_
        refine zb_ifn ((-1) ≤ sv ∧ sv ≤ (nI 1)) (tgt := 60) C rfl dX3_bend_51 (by decide) (fun c_4 => ?_) (fun c_4 => ?_)
        · refine lv_aload_n hx hb dX3_bend_60 rfl (lv_at hl 0 rfl) ?_
          refine zgM C hP 5 (by decide) q815 rfl rfl dX3_bend_61 ?_
          refine lv_iload_n hx hb dX3_bend_64 rfl (lv_at hl 1 rfl) ?_
          refine lv_iload_n hx hb dX3_bend_65 rfl (lv_at hl 2 rfl) ?_
          refine lv_iload_n hx hb dX3_bend_66 rfl (lv_at hl 3 rfl) ?_
          refine zcS1 (As := [.int (nI i), .int (nI r), .int (nI k)]) (rest := [.ref (a 2)]) C (mo_pin l G i r k) (lw_S q888 q889 q48 q890) hdX3_pin.2 ⟨Nat.le_of_ble_eq_true rfl, Nat.le_of_ble_eq_true rfl⟩ (trivial) hl.1 rfl (Nat.le_of_ble_eq_true rfl) ⟨Nat.le_of_ble_eq_true rfl, Nat.le_of_ble_eq_true rfl⟩ dX3_bend_67 ?_
          refine zn_ald C hP 2 rfl (by omega) (Nat.le_of_ble_eq_true rfl) dX3_bend_70 ?_
          rw [show (9 * (12 * i + r) + k) / 108 = i by omega, show (9 * (12 * i + r) + k) % 108 / 9 = r by omega, show (9 * (12 * i + r) + k) % 9 = k by omega]
          refine lv_istore (lv' := [(5, .int (zkN K i r k)), (0, .ref (a 0)), (1, .int (nI i)), (2, .int (nI r)), (3, .int (nI k)), (4, .int sv)]) hx hb dX3_bend_71 hl (by decide) rfl (fun ls hl => ?_)
          refine lv_aload_n hx hb dX3_bend_73 rfl (lv_at hl 1 rfl) ?_
          refine zgM C hP 5 (by decide) q815 rfl rfl dX3_bend_74 ?_
          refine lv_iload_n hx hb dX3_bend_77 rfl (lv_at hl 2 rfl) ?_
          refine lv_iload_n hx hb dX3_bend_78 rfl (lv_at hl 3 rfl) ?_
          refine lv_iload_n hx hb dX3_bend_79 rfl (lv_at hl 4 rfl) ?_
          refine zcS1 (As := [.int (nI i), .int (nI r), .int (nI k)]) (rest := [.ref (a 2)]) C (mo_pin l G i r k) (lw_S q888 q889 q48 q890) hdX3_pin.2 ⟨Nat.le_of_ble_eq_true rfl, Nat.le_of_ble_eq_true rfl⟩ (trivial) hl.1 rfl (Nat.le_of_ble_eq_true rfl) ⟨Nat.le_of_ble_eq_true rfl, Nat.le_of_ble_eq_true rfl⟩ dX3_bend_80 ?_
          refine lv_iload hx hb dX3_bend_83 (lv_at hl 5 rfl) ?_
          refine zn_ast C hP (zM_D hI (fun _ h => h)) hS 2 rfl (by omega) (Nat.le_of_ble_eq_true rfl) dX3_bend_85 (fun H locs hP hS => ?_)
          rw [zM_pn (by omega) (by omega)] at hP
          refine lv_iload hx hb dX3_bend_86 (lv_at hl 0 rfl) ?_
          exact zw_iretE C (by unfold oBend; rw [if_pos c_1, hci, if_pos c_2, if_pos c_3, if_pos c_4, hck, hcr]; try rfl) (by unfold oBend; rw [if_pos c_1, hci, if_pos c_2, if_pos c_3, if_pos c_4, hck, hcr]; exact hP) hS dX3_bend_88
        · refine lv_aload_n hx hb dX3_bend_54 rfl (lv_at hl 0 rfl) ?_
          refine lv_iconst (v := nI 2) hx hb dX3_bend_55 (by decide) ?_
          refine zwV1 (As := [.int (nI 2)]) (rest := []) C (mo_fail l G a (nI 0) K σ hI (nI 2)) (lw_V q855 q857 qs12 q48 q858) hdX3_fail ⟨Nat.le_of_ble_eq_true rfl, Nat.le_of_ble_eq_true rfl⟩ (zrM hE hP) (hP) hl.1 rfl (Nat.le_of_ble_eq_true rfl) ⟨Nat.le_of_ble_eq_true rfl, Nat.le_of_ble_eq_true rfl⟩ dX3_bend_56 hS (fun _ h => h) (fun H locs hP _ hS => ?_)
          exact zw_iretE C (by unfold oBend; rw [if_pos c_1, hci, if_pos c_2, if_pos c_3, if_neg c_4]; try rfl) (by unfold oBend; rw [if_pos c_1, hci, if_pos c_2, if_pos c_3, if_neg c_4]; exact hP) hS dX3_bend_59
  · refine lv_aload_n hx hb dX3_bend_13 rfl (lv_at hl 0 rfl) ?_
    refine lv_iconst (v := nI 1) hx hb dX3_bend_14 (by decide) ?_
    refine zwV1 (As := [.int (nI 1)]) (rest := []) C (mo_fail l G a (nI 0) K σ hI (nI 1)) (lw_V q855 q857 qs12 q48 q858) hdX3_fail ⟨Nat.le_of_ble_eq_true rfl, Nat.le_of_ble_eq_true rfl⟩ (zrM hE hP) (hP) hl.1 rfl (Nat.le_of_ble_eq_true rfl) ⟨Nat.le_of_ble_eq_true rfl, Nat.le_of_ble_eq_true rfl⟩ dX3_bend_15 hS (fun _ h => h) (fun H locs hP _ hS => ?_)
    exact zw_iretE C (by unfold oBend; rw [if_neg c_1]; try rfl) (by unfold oBend; rw [if_neg c_1]; exact hP) hS dX3_bend_18
set_option maxHeartbeats 4000000 in
theorem mo_setCup (l : Launch) (G : zG) (a : Nat → Nat) (th : Int32) (K : zKt) (σ : zSt) (hI : zInj a 8) (mv cv pv : Int32) (hO : zOk K σ) : zMrw l yX3_setCup cX3_setCup 5 (some .int) 3 0 0 G [.ref (a 0), .int mv, .int cv, .int pv] (zMP G a th K σ) (some (.int (oSetCup K σ mv cv pv).2.1)) (zMP G a (oSetCup K σ mv cv pv).1 (oSetCup K σ mv cv pv).2.2.1 (oSetCup K σ mv cv pv).2.2.2) (zA a 8) := by
  refine zMk [(0, .ref (a 0)), (1, .int mv), (2, .int cv), (3, .int pv)] (by decide) (Nat.le_of_ble_eq_true rfl) rfl ?_
  intro p e s m below meth c ls C hP hl _
  generalize ([.ref (a 0), .int mv, .int cv, .int pv] : List Value).toArray = av at C ⊢
  have hx := C.1
  have hb := C.2.1
  have hml := C.2.2.1
  have hown := C.2.2.2.1
  have hts := C.2.2.2.2.1
  have hE := C.2.2.2.2.2.2.2
  have hS : va_S (zA a 8) s.heap s.heap [] := va_S.rf
  refine lv_aload_n hx hb dX3_setCup_0 rfl (lv_at hl 0 rfl) ?_
  refine lv_iconst (v := nI 0) hx hb dX3_setCup_1 (by decide) ?_
  refine zpM (th' := (nI 0)) (K' := K) C hI (fun _ h => h) hP hS 0 (by decide) q810 rfl rfl (zpd 0 (by decide)) rfl ⟨rfl, rfl⟩ dX3_setCup_2 (fun H locs hP hS => ?_)
  refine lv_aload_n hx hb dX3_setCup_5 rfl (lv_at hl 0 rfl) ?_
  refine lv_iload_n hx hb dX3_setCup_6 rfl (lv_at hl 1 rfl) ?_
  refine zcV1 (As := [.int mv]) (rest := []) C (mo_isMachine l G a (nI 0) K σ mv) (lw_V q872 q874 qs14 q48 q875) hdX3_isMachine ⟨Nat.le_of_ble_eq_true rfl, Nat.le_of_ble_eq_true rfl⟩ (zrM hE hP) (hP) hl.1 rfl (Nat.le_of_ble_eq_true rfl) ⟨Nat.le_of_ble_eq_true rfl, Nat.le_of_ble_eq_true rfl⟩ dX3_setCup_7 ?_
  refine zb_ifn (zMac K mv) (tgt := 19) C rfl dX3_setCup_10 (by decide) (fun c_1 => ?_) (fun c_1 => ?_)
  · obtain ⟨i, hi, rfl⟩ := zIdx (n := zkM K) (by have := hO.1; have := hO.2.1; omega) c_1
    have hci : (nI i).toNatClampNeg = i := nI_clamp (by have := hO.1; have := hO.2.1; omega)
    have hi9 : i < 8 := by have := hO.1; have := hO.2.1; omega
    refine lv_aload_n hx hb dX3_setCup_19 rfl (lv_at hl 0 rfl) ?_
    refine lv_iload_n hx hb dX3_setCup_20 rfl (lv_at hl 1 rfl) ?_
    refine lv_iload_n hx hb dX3_setCup_21 rfl (lv_at hl 2 rfl) ?_
    refine zcV1 (As := [.int (nI i), .int cv]) (rest := []) C (mo_isColumn l G a (nI 0) K σ i cv (by omega)) (lw_V q876 q878 qs15 q48 q879) hdX3_isColumn ⟨Nat.le_of_ble_eq_true rfl, Nat.le_of_ble_eq_true rfl⟩ (zrM hE hP) (hP) hl.1 rfl (Nat.le_of_ble_eq_true rfl) ⟨Nat.le_of_ble_eq_true rfl, Nat.le_of_ble_eq_true rfl⟩ dX3_setCup_22 ?_
    refine zb_if (σ 0 i = 0 ∧ nI 0 ≤ cv ∧ cv ≤ σ 1 i - nI 1) (tgt := 38) C rfl dX3_setCup_25 (by decide) (fun c_2 => ?_) (fun c_2 => ?_)
    · refine lv_aload_n hx hb dX3_setCup_38 rfl (lv_at hl 0 rfl) ?_
      refine lv_iconst (v := nI 2) hx hb dX3_setCup_39 (by decide) ?_
      refine zwV1 (As := [.int (nI 2)]) (rest := []) C (mo_fail l G a (nI 0) K σ hI (nI 2)) (lw_V q855 q857 qs12 q48 q858) hdX3_fail ⟨Nat.le_of_ble_eq_true rfl, Nat.le_of_ble_eq_true rfl⟩ (zrM hE hP) (hP) hl.1 rfl (Nat.le_of_ble_eq_true rfl) ⟨Nat.le_of_ble_eq_true rfl, Nat.le_of_ble_eq_true rfl⟩ dX3_setCup_40 hS (fun _ h => h) (fun H locs hP _ hS => ?_)
      exact zw_iretE C (by unfold oSetCup; rw [if_pos c_1, hci, if_neg c_2]; try rfl) (by unfold oSetCup; rw [if_pos c_1, hci, if_neg c_2]; exact hP) hS dX3_setCup_43
    · have hT : zTab σ i := by
        rcases hO.2.2.1 i (by omega) with h | h
        · exact h
        · exact absurd (h.1.symm.trans c_2.1) (by decide)
      have hw9 := hT.2.2.1
      obtain ⟨k, hk, rfl⟩ := zIdx (v := cv) (n := zWd σ i) (by omega) (by have := c_2.2; rw [hT.2.2.2.2.2.1] at this; exact this)
      have hck : (nI k).toNatClampNeg = k := nI_clamp (by omega)
      refine lv_iload_n hx hb dX3_setCup_28 rfl (lv_at hl 3 rfl) ?_
      refine lv_iconst (v := nI 0) hx hb dX3_setCup_29 (by decide) ?_
      refine lv_bipush (v := nI 20) hx hb dX3_setCup_30 (by decide) ?_
      refine zcS1 (As := [.int pv, .int (nI 0), .int (nI 20)]) (rest := []) C (mo_isIn l G pv (nI 0) (nI 20)) (lw_S q852 q853 q48 q854) hdX3_isIn.2 ⟨Nat.le_of_ble_eq_true rfl, Nat.le_of_ble_eq_true rfl⟩ (trivial) hl.1 rfl (Nat.le_of_ble_eq_true rfl) ⟨Nat.le_of_ble_eq_true rfl, Nat.le_of_ble_eq_true rfl⟩ dX3_setCup_32 ?_
      refine zb_ifn ((nI 0) ≤ pv ∧ pv ≤ (nI 20)) (tgt := 44) C rfl dX3_setCup_35 (by decide) (fun c_3 => ?_) (fun c_3 => ?_)
      · refine lv_aload_n hx hb dX3_setCup_44 rfl (lv_at hl 0 rfl) ?_
        refine zgM C hP 4 (by decide) q814 rfl rfl dX3_setCup_45 ?_
        refine lv_bipush (v := nI 9) hx hb dX3_setCup_48 (by decide) ?_
        refine lv_iload_n hx hb dX3_setCup_50 rfl (lv_at hl 1 rfl) ?_
        refine zn_mul C dX3_setCup_51 ?_
        refine lv_iload_n hx hb dX3_setCup_52 rfl (lv_at hl 2 rfl) ?_
        refine zn_add C dX3_setCup_53 ?_
        refine zn_ald C hP 1 rfl (by omega) (Nat.le_of_ble_eq_true rfl) dX3_setCup_54 ?_
        rw [show (9 * i + k) / 9 = i by omega, show (9 * i + k) % 9 = k by omega]
        refine lv_istore (lv' := [(4, .int (zkC K i k)), (0, .ref (a 0)), (1, .int (nI i)), (2, .int (nI k)), (3, .int pv)]) hx hb dX3_setCup_55 hl (by decide) rfl (fun ls hl => ?_)
        refine lv_aload_n hx hb dX3_setCup_57 rfl (lv_at hl 1 rfl) ?_
        refine zgM C hP 4 (by decide) q814 rfl rfl dX3_setCup_58 ?_
        refine lv_bipush (v := nI 9) hx hb dX3_setCup_61 (by decide) ?_
        refine lv_iload_n hx hb dX3_setCup_63 rfl (lv_at hl 2 rfl) ?_
        refine zn_mul C dX3_setCup_64 ?_
        refine lv_iload_n hx hb dX3_setCup_65 rfl (lv_at hl 3 rfl) ?_
        refine zn_add C dX3_setCup_66 ?_
        refine lv_iload_n hx hb dX3_setCup_67 rfl (lv_at hl 4 rfl) ?_
        refine zn_ast C hP (zM_D hI (fun _ h => h)) hS 1 rfl (by omega) (Nat.le_of_ble_eq_true rfl) dX3_setCup_68 (fun H locs hP hS => ?_)
        rw [zM_cu (by omega)] at hP
        refine lv_iload hx hb dX3_setCup_69 (lv_at hl 0 rfl) ?_
        exact zw_iretE C (by unfold oSetCup; rw [if_pos c_1, hci, if_pos c_2, if_pos c_3, hck]; try rfl) (by unfold oSetCup; rw [if_pos c_1, hci, if_pos c_2, if_pos c_3, hck]; exact hP) hS dX3_setCup_71
      · refine lv_aload_n hx hb dX3_setCup_38 rfl (lv_at hl 0 rfl) ?_
        refine lv_iconst (v := nI 2) hx hb dX3_setCup_39 (by decide) ?_
        refine zwV1 (As := [.int (nI 2)]) (rest := []) C (mo_fail l G a (nI 0) K σ hI (nI 2)) (lw_V q855 q857 qs12 q48 q858) hdX3_fail ⟨Nat.le_of_ble_eq_true rfl, Nat.le_of_ble_eq_true rfl⟩ (zrM hE hP) (hP) hl.1 rfl (Nat.le_of_ble_eq_true rfl) ⟨Nat.le_of_ble_eq_true rfl, Nat.le_of_ble_eq_true rfl⟩ dX3_setCup_40 hS (fun _ h => h) (fun H locs hP _ hS => ?_)
        exact zw_iretE C (by unfold oSetCup; rw [if_pos c_1, hci, if_pos c_2, if_neg c_3]; try rfl) (by unfold oSetCup; rw [if_pos c_1, hci, if_pos c_2, if_neg c_3]; exact hP) hS dX3_setCup_43
  · refine lv_aload_n hx hb dX3_setCup_13 rfl (lv_at hl 0 rfl) ?_
    refine lv_iconst (v := nI 1) hx hb dX3_setCup_14 (by decide) ?_
    refine zwV1 (As := [.int (nI 1)]) (rest := []) C (mo_fail l G a (nI 0) K σ hI (nI 1)) (lw_V q855 q857 qs12 q48 q858) hdX3_fail ⟨Nat.le_of_ble_eq_true rfl, Nat.le_of_ble_eq_true rfl⟩ (zrM hE hP) (hP) hl.1 rfl (Nat.le_of_ble_eq_true rfl) ⟨Nat.le_of_ble_eq_true rfl, Nat.le_of_ble_eq_true rfl⟩ dX3_setCup_15 hS (fun _ h => h) (fun H locs hP _ hS => ?_)
    exact zw_iretE C (by unfold oSetCup; rw [if_neg c_1]; try rfl) (by unfold oSetCup; rw [if_neg c_1]; exact hP) hS dX3_setCup_18
set_option maxHeartbeats 4000000 in
theorem mo_machine (l : Launch) (G : zG) (a : Nat → Nat) (th : Int32) (K : zKt) (σ : zSt) (hI : zInj a 8) (mv wv : Int32) (hO : zOk K σ) : zMrw l yX3_machine cX3_machine 3 (some .int) 2 0 0 G [.ref (a 0), .int mv, .int wv] (zMP G a th K σ) (some (.int (oMachine K σ mv wv).2.1)) (zMP G a (oMachine K σ mv wv).1 (oMachine K σ mv wv).2.2.1 (oMachine K σ mv wv).2.2.2) (zA a 8) := by
  refine zMk [(0, .ref (a 0)), (1, .int mv), (2, .int wv)] (by decide) (Nat.le_of_ble_eq_true rfl) rfl ?_
  intro p e s m below meth c ls C hP hl _
  generalize ([.ref (a 0), .int mv, .int wv] : List Value).toArray = av at C ⊢
  have hx := C.1
  have hb := C.2.1
  have hml := C.2.2.1
  have hown := C.2.2.2.1
  have hts := C.2.2.2.2.1
  have hE := C.2.2.2.2.2.2.2
  have hS : va_S (zA a 8) s.heap s.heap [] := va_S.rf
  refine lv_aload_n hx hb dX3_machine_0 rfl (lv_at hl 0 rfl) ?_
  refine lv_iconst (v := nI 0) hx hb dX3_machine_1 (by decide) ?_
  refine zpM (th' := (nI 0)) (K' := K) C hI (fun _ h => h) hP hS 0 (by decide) q810 rfl rfl (zpd 0 (by decide)) rfl ⟨rfl, rfl⟩ dX3_machine_2 (fun H locs hP hS => ?_)
  refine lv_aload_n hx hb dX3_machine_5 rfl (lv_at hl 0 rfl) ?_
  refine lv_iload_n hx hb dX3_machine_6 rfl (lv_at hl 1 rfl) ?_
  refine zcV1 (As := [.int mv]) (rest := []) C (mo_isMachine l G a (nI 0) K σ mv) (lw_V q872 q874 qs14 q48 q875) hdX3_isMachine ⟨Nat.le_of_ble_eq_true rfl, Nat.le_of_ble_eq_true rfl⟩ (zrM hE hP) (hP) hl.1 rfl (Nat.le_of_ble_eq_true rfl) ⟨Nat.le_of_ble_eq_true rfl, Nat.le_of_ble_eq_true rfl⟩ dX3_machine_7 ?_
  refine zb_if (zMac K mv) (tgt := 32) C rfl dX3_machine_10 (by decide) (fun c_1 => ?_) (fun c_1 => ?_)
  · refine lv_aload_n hx hb dX3_machine_32 rfl (lv_at hl 0 rfl) ?_
    refine lv_iconst (v := nI 1) hx hb dX3_machine_33 (by decide) ?_
    refine zwV1 (As := [.int (nI 1)]) (rest := []) C (mo_fail l G a (nI 0) K σ hI (nI 1)) (lw_V q855 q857 qs12 q48 q858) hdX3_fail ⟨Nat.le_of_ble_eq_true rfl, Nat.le_of_ble_eq_true rfl⟩ (zrM hE hP) (hP) hl.1 rfl (Nat.le_of_ble_eq_true rfl) ⟨Nat.le_of_ble_eq_true rfl, Nat.le_of_ble_eq_true rfl⟩ dX3_machine_34 hS (fun _ h => h) (fun H locs hP _ hS => ?_)
    exact zw_iretE C (by unfold oMachine; rw [if_neg c_1]; try rfl) (by unfold oMachine; rw [if_neg c_1]; exact hP) hS dX3_machine_37
  · obtain ⟨i, hi, rfl⟩ := zIdx (n := zkM K) (by have := hO.1; have := hO.2.1; omega) c_1
    have hci : (nI i).toNatClampNeg = i := nI_clamp (by have := hO.1; have := hO.2.1; omega)
    have hi9 : i < 8 := by have := hO.1; have := hO.2.1; omega
    refine lv_iload_n hx hb dX3_machine_13 rfl (lv_at hl 2 rfl) ?_
    refine lv_iconst (v := nI 0) hx hb dX3_machine_14 (by decide) ?_
    refine lv_bipush (v := nI 10) hx hb dX3_machine_15 (by decide) ?_
    refine zcS1 (As := [.int wv, .int (nI 0), .int (nI 10)]) (rest := []) C (mo_isIn l G wv (nI 0) (nI 10)) (lw_S q852 q853 q48 q854) hdX3_isIn.2 ⟨Nat.le_of_ble_eq_true rfl, Nat.le_of_ble_eq_true rfl⟩ (trivial) hl.1 rfl (Nat.le_of_ble_eq_true rfl) ⟨Nat.le_of_ble_eq_true rfl, Nat.le_of_ble_eq_true rfl⟩ dX3_machine_17 ?_
    refine zb_if ((nI 0) ≤ wv ∧ wv ≤ (nI 10)) (tgt := 32) C rfl dX3_machine_20 (by decide) (fun c_2 => ?_) (fun c_2 => ?_)
    · refine lv_aload_n hx hb dX3_machine_32 rfl (lv_at hl 0 rfl) ?_
      refine lv_iconst (v := nI 1) hx hb dX3_machine_33 (by decide) ?_
      refine zwV1 (As := [.int (nI 1)]) (rest := []) C (mo_fail l G a (nI 0) K σ hI (nI 1)) (lw_V q855 q857 qs12 q48 q858) hdX3_fail ⟨Nat.le_of_ble_eq_true rfl, Nat.le_of_ble_eq_true rfl⟩ (zrM hE hP) (hP) hl.1 rfl (Nat.le_of_ble_eq_true rfl) ⟨Nat.le_of_ble_eq_true rfl, Nat.le_of_ble_eq_true rfl⟩ dX3_machine_34 hS (fun _ h => h) (fun H locs hP _ hS => ?_)
      exact zw_iretE C (by unfold oMachine; rw [if_pos c_1, hci, if_neg c_2]; try rfl) (by unfold oMachine; rw [if_pos c_1, hci, if_neg c_2]; exact hP) hS dX3_machine_37
    · obtain ⟨w, hw, rfl⟩ := zIdx (v := wv) (n := 11) (by omega) c_2
      have hcw : (nI w).toNatClampNeg = w := nI_clamp (by omega)
      refine lv_aload_n hx hb dX3_machine_23 rfl (lv_at hl 0 rfl) ?_
      refine lv_iload_n hx hb dX3_machine_24 rfl (lv_at hl 1 rfl) ?_
      refine lv_iload_n hx hb dX3_machine_25 rfl (lv_at hl 2 rfl) ?_
      refine zcV1 (As := [.int (nI i), .int (nI w)]) (rest := []) C (mo_machineTold l G a (nI 0) K σ i w (by omega) hw hO.2.1) (lw_V q899 q901 qs18 q48 q902) hdX3_machineTold ⟨Nat.le_of_ble_eq_true rfl, Nat.le_of_ble_eq_true rfl⟩ (zrM hE hP) (hP) hl.1 rfl (Nat.le_of_ble_eq_true rfl) ⟨Nat.le_of_ble_eq_true rfl, Nat.le_of_ble_eq_true rfl⟩ dX3_machine_26 ?_
      refine lv_goto (tgt := 37) hx hb dX3_machine_29 (by decide) ?_
      exact zw_iretE C (by unfold oMachine; rw [if_pos c_1, hci, if_pos c_2, hcw]; try rfl) (by unfold oMachine; rw [if_pos c_1, hci, if_pos c_2, hcw]; exact hP) hS dX3_machine_37
set_option maxHeartbeats 4000000 in
theorem mo_ends (l : Launch) (G : zG) (a : Nat → Nat) (th : Int32) (K : zKt) (σ : zSt) (hI : zInj a 8) (mv cv tv : Int32) (hO : zOk K σ) : zMrw l yX3_ends cX3_ends 4 (some .int) 3 0 0 G [.ref (a 0), .int mv, .int cv, .int tv] (zMP G a th K σ) (some (.int (oEnds K σ mv cv tv).2.1)) (zMP G a (oEnds K σ mv cv tv).1 (oEnds K σ mv cv tv).2.2.1 (oEnds K σ mv cv tv).2.2.2) (zA a 8) := by
  refine zMk [(0, .ref (a 0)), (1, .int mv), (2, .int cv), (3, .int tv)] (by decide) (Nat.le_of_ble_eq_true rfl) rfl ?_
  intro p e s m below meth c ls C hP hl _
  generalize ([.ref (a 0), .int mv, .int cv, .int tv] : List Value).toArray = av at C ⊢
  have hx := C.1
  have hb := C.2.1
  have hml := C.2.2.1
  have hown := C.2.2.2.1
  have hts := C.2.2.2.2.1
  have hE := C.2.2.2.2.2.2.2
  have hS : va_S (zA a 8) s.heap s.heap [] := va_S.rf
  refine lv_aload_n hx hb dX3_ends_0 rfl (lv_at hl 0 rfl) ?_
  refine lv_iconst (v := nI 0) hx hb dX3_ends_1 (by decide) ?_
  refine zpM (th' := (nI 0)) (K' := K) C hI (fun _ h => h) hP hS 0 (by decide) q810 rfl rfl (zpd 0 (by decide)) rfl ⟨rfl, rfl⟩ dX3_ends_2 (fun H locs hP hS => ?_)
  refine lv_aload_n hx hb dX3_ends_5 rfl (lv_at hl 0 rfl) ?_
  refine lv_iload_n hx hb dX3_ends_6 rfl (lv_at hl 1 rfl) ?_
  refine zcV1 (As := [.int mv]) (rest := []) C (mo_isMachine l G a (nI 0) K σ mv) (lw_V q872 q874 qs14 q48 q875) hdX3_isMachine ⟨Nat.le_of_ble_eq_true rfl, Nat.le_of_ble_eq_true rfl⟩ (zrM hE hP) (hP) hl.1 rfl (Nat.le_of_ble_eq_true rfl) ⟨Nat.le_of_ble_eq_true rfl, Nat.le_of_ble_eq_true rfl⟩ dX3_ends_7 ?_
  refine zb_ifn (zMac K mv) (tgt := 19) C rfl dX3_ends_10 (by decide) (fun c_1 => ?_) (fun c_1 => ?_)
  · obtain ⟨i, hi, rfl⟩ := zIdx (n := zkM K) (by have := hO.1; have := hO.2.1; omega) c_1
    have hci : (nI i).toNatClampNeg = i := nI_clamp (by have := hO.1; have := hO.2.1; omega)
    have hi9 : i < 8 := by have := hO.1; have := hO.2.1; omega
    refine lv_aload_n hx hb dX3_ends_19 rfl (lv_at hl 0 rfl) ?_
    refine lv_iload_n hx hb dX3_ends_20 rfl (lv_at hl 1 rfl) ?_
    refine lv_iload_n hx hb dX3_ends_21 rfl (lv_at hl 2 rfl) ?_
    refine zcV1 (As := [.int (nI i), .int cv]) (rest := []) C (mo_isColumn l G a (nI 0) K σ i cv (by omega)) (lw_V q876 q878 qs15 q48 q879) hdX3_isColumn ⟨Nat.le_of_ble_eq_true rfl, Nat.le_of_ble_eq_true rfl⟩ (zrM hE hP) (hP) hl.1 rfl (Nat.le_of_ble_eq_true rfl) ⟨Nat.le_of_ble_eq_true rfl, Nat.le_of_ble_eq_true rfl⟩ dX3_ends_22 ?_
    refine zb_if (σ 0 i = 0 ∧ nI 0 ≤ cv ∧ cv ≤ σ 1 i - nI 1) (tgt := 47) C rfl dX3_ends_25 (by decide) (fun c_2 => ?_) (fun c_2 => ?_)
    · refine lv_aload_n hx hb dX3_ends_47 rfl (lv_at hl 0 rfl) ?_
      refine lv_iconst (v := nI 2) hx hb dX3_ends_48 (by decide) ?_
      refine zwV1 (As := [.int (nI 2)]) (rest := []) C (mo_fail l G a (nI 0) K σ hI (nI 2)) (lw_V q855 q857 qs12 q48 q858) hdX3_fail ⟨Nat.le_of_ble_eq_true rfl, Nat.le_of_ble_eq_true rfl⟩ (zrM hE hP) (hP) hl.1 rfl (Nat.le_of_ble_eq_true rfl) ⟨Nat.le_of_ble_eq_true rfl, Nat.le_of_ble_eq_true rfl⟩ dX3_ends_49 hS (fun _ h => h) (fun H locs hP _ hS => ?_)
      exact zw_iretE C (by unfold oEnds; rw [if_pos c_1, hci, if_neg c_2]; try rfl) (by unfold oEnds; rw [if_pos c_1, hci, if_neg c_2]; exact hP) hS dX3_ends_52
    · have hT : zTab σ i := by
        rcases hO.2.2.1 i (by omega) with h | h
        · exact h
        · exact absurd (h.1.symm.trans c_2.1) (by decide)
      have hw9 := hT.2.2.1
      obtain ⟨k, hk, rfl⟩ := zIdx (v := cv) (n := zWd σ i) (by omega) (by have := c_2.2; rw [hT.2.2.2.2.2.1] at this; exact this)
      have hck : (nI k).toNatClampNeg = k := nI_clamp (by omega)
      refine lv_iload_n hx hb dX3_ends_28 rfl (lv_at hl 3 rfl) ?_
      refine lv_iconst (v := (-1)) hx hb dX3_ends_29 (by decide) ?_
      refine lv_iconst (v := nI 1) hx hb dX3_ends_30 (by decide) ?_
      refine zcS1 (As := [.int tv, .int (-1), .int (nI 1)]) (rest := []) C (mo_isIn l G tv (-1) (nI 1)) (lw_S q852 q853 q48 q854) hdX3_isIn.2 ⟨Nat.le_of_ble_eq_true rfl, Nat.le_of_ble_eq_true rfl⟩ (trivial) hl.1 rfl (Nat.le_of_ble_eq_true rfl) ⟨Nat.le_of_ble_eq_true rfl, Nat.le_of_ble_eq_true rfl⟩ dX3_ends_31 ?_
      refine zb_if ((-1) ≤ tv ∧ tv ≤ (nI 1)) (tgt := 47) C rfl dX3_ends_34 (by decide) (fun c_3 => ?_) (fun c_3 => ?_)
      · refine lv_aload_n hx hb dX3_ends_47 rfl (lv_at hl 0 rfl) ?_
        refine lv_iconst (v := nI 2) hx hb dX3_ends_48 (by decide) ?_
        refine zwV1 (As := [.int (nI 2)]) (rest := []) C (mo_fail l G a (nI 0) K σ hI (nI 2)) (lw_V q855 q857 qs12 q48 q858) hdX3_fail ⟨Nat.le_of_ble_eq_true rfl, Nat.le_of_ble_eq_true rfl⟩ (zrM hE hP) (hP) hl.1 rfl (Nat.le_of_ble_eq_true rfl) ⟨Nat.le_of_ble_eq_true rfl, Nat.le_of_ble_eq_true rfl⟩ dX3_ends_49 hS (fun _ h => h) (fun H locs hP _ hS => ?_)
        exact zw_iretE C (by unfold oEnds; rw [if_pos c_1, hci, if_pos c_2, if_neg c_3]; try rfl) (by unfold oEnds; rw [if_pos c_1, hci, if_pos c_2, if_neg c_3]; exact hP) hS dX3_ends_52
      · refine lv_aload_n hx hb dX3_ends_37 rfl (lv_at hl 0 rfl) ?_
        refine lv_iload_n hx hb dX3_ends_38 rfl (lv_at hl 1 rfl) ?_
        refine lv_iload_n hx hb dX3_ends_39 rfl (lv_at hl 2 rfl) ?_
        refine lv_iload_n hx hb dX3_ends_40 rfl (lv_at hl 3 rfl) ?_
        refine zcV1 (As := [.int (nI i), .int (nI k), .int tv]) (rest := []) C (mo_end l G a (nI 0) K σ i k tv (by omega) hT hk) (lw_V q915 q917 qs21 q48 q918) hdX3_end ⟨Nat.le_of_ble_eq_true rfl, Nat.le_of_ble_eq_true rfl⟩ (zrM hE hP) (hP) hl.1 rfl (Nat.le_of_ble_eq_true rfl) ⟨Nat.le_of_ble_eq_true rfl, Nat.le_of_ble_eq_true rfl⟩ dX3_ends_41 ?_
        refine lv_goto (tgt := 52) hx hb dX3_ends_44 (by decide) ?_
        exact zw_iretE C (by unfold oEnds; rw [if_pos c_1, hci, if_pos c_2, if_pos c_3, hck]; try rfl) (by unfold oEnds; rw [if_pos c_1, hci, if_pos c_2, if_pos c_3, hck]; exact hP) hS dX3_ends_52
  · refine lv_aload_n hx hb dX3_ends_13 rfl (lv_at hl 0 rfl) ?_
    refine lv_iconst (v := nI 1) hx hb dX3_ends_14 (by decide) ?_
    refine zwV1 (As := [.int (nI 1)]) (rest := []) C (mo_fail l G a (nI 0) K σ hI (nI 1)) (lw_V q855 q857 qs12 q48 q858) hdX3_fail ⟨Nat.le_of_ble_eq_true rfl, Nat.le_of_ble_eq_true rfl⟩ (zrM hE hP) (hP) hl.1 rfl (Nat.le_of_ble_eq_true rfl) ⟨Nat.le_of_ble_eq_true rfl, Nat.le_of_ble_eq_true rfl⟩ dX3_ends_15 hS (fun _ h => h) (fun H locs hP _ hS => ?_)
    exact zw_iretE C (by unfold oEnds; rw [if_neg c_1]; try rfl) (by unfold oEnds; rw [if_neg c_1]; exact hP) hS dX3_ends_18
set_option maxHeartbeats 4000000 in
theorem mo_bestTilt (l : Launch) (G : zG) (a : Nat → Nat) (th : Int32) (K : zKt) (σ : zSt) (hI : zInj a 8) (mv cv : Int32) (hO : zOk K σ) : zMrw l yX3_bestTilt cX3_bestTilt 3 (some .int) 4 0 0 G [.ref (a 0), .int mv, .int cv] (zMP G a th K σ) (some (.int (oBestTilt K σ mv cv).2.1)) (zMP G a (oBestTilt K σ mv cv).1 (oBestTilt K σ mv cv).2.2.1 (oBestTilt K σ mv cv).2.2.2) (zA a 8) := by
  refine zMk [(0, .ref (a 0)), (1, .int mv), (2, .int cv)] (by decide) (Nat.le_of_ble_eq_true rfl) rfl ?_
  intro p e s m below meth c ls C hP hl _
  generalize ([.ref (a 0), .int mv, .int cv] : List Value).toArray = av at C ⊢
  have hx := C.1
  have hb := C.2.1
  have hml := C.2.2.1
  have hown := C.2.2.2.1
  have hts := C.2.2.2.2.1
  have hE := C.2.2.2.2.2.2.2
  have hS : va_S (zA a 8) s.heap s.heap [] := va_S.rf
  refine lv_aload_n hx hb dX3_bestTilt_0 rfl (lv_at hl 0 rfl) ?_
  refine lv_iconst (v := nI 0) hx hb dX3_bestTilt_1 (by decide) ?_
  refine zpM (th' := (nI 0)) (K' := K) C hI (fun _ h => h) hP hS 0 (by decide) q810 rfl rfl (zpd 0 (by decide)) rfl ⟨rfl, rfl⟩ dX3_bestTilt_2 (fun H locs hP hS => ?_)
  refine lv_aload_n hx hb dX3_bestTilt_5 rfl (lv_at hl 0 rfl) ?_
  refine lv_iload_n hx hb dX3_bestTilt_6 rfl (lv_at hl 1 rfl) ?_
  refine zcV1 (As := [.int mv]) (rest := []) C (mo_isMachine l G a (nI 0) K σ mv) (lw_V q872 q874 qs14 q48 q875) hdX3_isMachine ⟨Nat.le_of_ble_eq_true rfl, Nat.le_of_ble_eq_true rfl⟩ (zrM hE hP) (hP) hl.1 rfl (Nat.le_of_ble_eq_true rfl) ⟨Nat.le_of_ble_eq_true rfl, Nat.le_of_ble_eq_true rfl⟩ dX3_bestTilt_7 ?_
  refine zb_ifn (zMac K mv) (tgt := 19) C rfl dX3_bestTilt_10 (by decide) (fun c_1 => ?_) (fun c_1 => ?_)
  · obtain ⟨i, hi, rfl⟩ := zIdx (n := zkM K) (by have := hO.1; have := hO.2.1; omega) c_1
    have hci : (nI i).toNatClampNeg = i := nI_clamp (by have := hO.1; have := hO.2.1; omega)
    have hi9 : i < 8 := by have := hO.1; have := hO.2.1; omega
    refine lv_aload_n hx hb dX3_bestTilt_19 rfl (lv_at hl 0 rfl) ?_
    refine lv_iload_n hx hb dX3_bestTilt_20 rfl (lv_at hl 1 rfl) ?_
    refine lv_iload_n hx hb dX3_bestTilt_21 rfl (lv_at hl 2 rfl) ?_
    refine zcV1 (As := [.int (nI i), .int cv]) (rest := []) C (mo_isColumn l G a (nI 0) K σ i cv (by omega)) (lw_V q876 q878 qs15 q48 q879) hdX3_isColumn ⟨Nat.le_of_ble_eq_true rfl, Nat.le_of_ble_eq_true rfl⟩ (zrM hE hP) (hP) hl.1 rfl (Nat.le_of_ble_eq_true rfl) ⟨Nat.le_of_ble_eq_true rfl, Nat.le_of_ble_eq_true rfl⟩ dX3_bestTilt_22 ?_
    refine zb_if (σ 0 i = 0 ∧ nI 0 ≤ cv ∧ cv ≤ σ 1 i - nI 1) (tgt := 37) C rfl dX3_bestTilt_25 (by decide) (fun c_2 => ?_) (fun c_2 => ?_)
    · refine lv_aload_n hx hb dX3_bestTilt_37 rfl (lv_at hl 0 rfl) ?_
      refine lv_iconst (v := nI 2) hx hb dX3_bestTilt_38 (by decide) ?_
      refine zwV1 (As := [.int (nI 2)]) (rest := []) C (mo_fail l G a (nI 0) K σ hI (nI 2)) (lw_V q855 q857 qs12 q48 q858) hdX3_fail ⟨Nat.le_of_ble_eq_true rfl, Nat.le_of_ble_eq_true rfl⟩ (zrM hE hP) (hP) hl.1 rfl (Nat.le_of_ble_eq_true rfl) ⟨Nat.le_of_ble_eq_true rfl, Nat.le_of_ble_eq_true rfl⟩ dX3_bestTilt_39 hS (fun _ h => h) (fun H locs hP _ hS => ?_)
      exact zw_iretE C (by unfold oBestTilt; rw [if_pos c_1, hci, if_neg c_2]; try rfl) (by unfold oBestTilt; rw [if_pos c_1, hci, if_neg c_2]; exact hP) hS dX3_bestTilt_42
    · have hT : zTab σ i := by
        rcases hO.2.2.1 i (by omega) with h | h
        · exact h
        · exact absurd (h.1.symm.trans c_2.1) (by decide)
      have hw9 := hT.2.2.1
      obtain ⟨k, hk, rfl⟩ := zIdx (v := cv) (n := zWd σ i) (by omega) (by have := c_2.2; rw [hT.2.2.2.2.2.1] at this; exact this)
      have hck : (nI k).toNatClampNeg = k := nI_clamp (by omega)
      refine lv_aload_n hx hb dX3_bestTilt_28 rfl (lv_at hl 0 rfl) ?_
      refine lv_iload_n hx hb dX3_bestTilt_29 rfl (lv_at hl 1 rfl) ?_
      refine lv_iload_n hx hb dX3_bestTilt_30 rfl (lv_at hl 2 rfl) ?_
      refine zcV1 (As := [.int (nI i), .int (nI k)]) (rest := []) C (mo_best l G a (nI 0) K σ i k (by omega) hT hk) (lw_V q925 q927 qs22 q48 q928) hdX3_best ⟨Nat.le_of_ble_eq_true rfl, Nat.le_of_ble_eq_true rfl⟩ (zrM hE hP) (hP) hl.1 rfl (Nat.le_of_ble_eq_true rfl) ⟨Nat.le_of_ble_eq_true rfl, Nat.le_of_ble_eq_true rfl⟩ dX3_bestTilt_31 ?_
      refine lv_goto (tgt := 42) hx hb dX3_bestTilt_34 (by decide) ?_
      exact zw_iretE C (by unfold oBestTilt; rw [if_pos c_1, hci, if_pos c_2, hck]; try rfl) (by unfold oBestTilt; rw [if_pos c_1, hci, if_pos c_2, hck]; exact hP) hS dX3_bestTilt_42
  · refine lv_aload_n hx hb dX3_bestTilt_13 rfl (lv_at hl 0 rfl) ?_
    refine lv_iconst (v := nI 1) hx hb dX3_bestTilt_14 (by decide) ?_
    refine zwV1 (As := [.int (nI 1)]) (rest := []) C (mo_fail l G a (nI 0) K σ hI (nI 1)) (lw_V q855 q857 qs12 q48 q858) hdX3_fail ⟨Nat.le_of_ble_eq_true rfl, Nat.le_of_ble_eq_true rfl⟩ (zrM hE hP) (hP) hl.1 rfl (Nat.le_of_ble_eq_true rfl) ⟨Nat.le_of_ble_eq_true rfl, Nat.le_of_ble_eq_true rfl⟩ dX3_bestTilt_15 hS (fun _ h => h) (fun H locs hP _ hS => ?_)
    exact zw_iretE C (by unfold oBestTilt; rw [if_neg c_1]; try rfl) (by unfold oBestTilt; rw [if_neg c_1]; exact hP) hS dX3_bestTilt_18
set_option maxHeartbeats 4000000 in
theorem mo_ledge (l : Launch) (G : zG) (a : Nat → Nat) (th : Int32) (K : zKt) (σ : zSt) (hI : zInj a 8) (mv pv : Int32) (hO : zOk K σ) : zMrw l yX3_ledge cX3_ledge 3 (some .int) 2 0 0 G [.ref (a 0), .int mv, .int pv] (zMP G a th K σ) (some (.int (oLedge K σ mv pv).2.1)) (zMP G a (oLedge K σ mv pv).1 (oLedge K σ mv pv).2.2.1 (oLedge K σ mv pv).2.2.2) (zA a 8) := by
  refine zMk [(0, .ref (a 0)), (1, .int mv), (2, .int pv)] (by decide) (Nat.le_of_ble_eq_true rfl) rfl ?_
  intro p e s m below meth c ls C hP hl _
  generalize ([.ref (a 0), .int mv, .int pv] : List Value).toArray = av at C ⊢
  have hx := C.1
  have hb := C.2.1
  have hml := C.2.2.1
  have hown := C.2.2.2.1
  have hts := C.2.2.2.2.1
  have hE := C.2.2.2.2.2.2.2
  have hS : va_S (zA a 8) s.heap s.heap [] := va_S.rf
  refine lv_aload_n hx hb dX3_ledge_0 rfl (lv_at hl 0 rfl) ?_
  refine lv_iconst (v := nI 0) hx hb dX3_ledge_1 (by decide) ?_
  refine zpM (th' := (nI 0)) (K' := K) C hI (fun _ h => h) hP hS 0 (by decide) q810 rfl rfl (zpd 0 (by decide)) rfl ⟨rfl, rfl⟩ dX3_ledge_2 (fun H locs hP hS => ?_)
  refine lv_aload_n hx hb dX3_ledge_5 rfl (lv_at hl 0 rfl) ?_
  refine lv_iload_n hx hb dX3_ledge_6 rfl (lv_at hl 1 rfl) ?_
  refine zcV1 (As := [.int mv]) (rest := []) C (mo_isMachine l G a (nI 0) K σ mv) (lw_V q872 q874 qs14 q48 q875) hdX3_isMachine ⟨Nat.le_of_ble_eq_true rfl, Nat.le_of_ble_eq_true rfl⟩ (zrM hE hP) (hP) hl.1 rfl (Nat.le_of_ble_eq_true rfl) ⟨Nat.le_of_ble_eq_true rfl, Nat.le_of_ble_eq_true rfl⟩ dX3_ledge_7 ?_
  refine zb_ifn (zMac K mv) (tgt := 19) C rfl dX3_ledge_10 (by decide) (fun c_1 => ?_) (fun c_1 => ?_)
  · obtain ⟨i, hi, rfl⟩ := zIdx (n := zkM K) (by have := hO.1; have := hO.2.1; omega) c_1
    have hci : (nI i).toNatClampNeg = i := nI_clamp (by have := hO.1; have := hO.2.1; omega)
    have hi9 : i < 8 := by have := hO.1; have := hO.2.1; omega
    refine lv_aload_n hx hb dX3_ledge_19 rfl (lv_at hl 0 rfl) ?_
    refine lv_iload_n hx hb dX3_ledge_20 rfl (lv_at hl 1 rfl) ?_
    refine zcV1 (As := [.int (nI i)]) (rest := []) C (mo_isTable l G a (nI 0) K σ i (by omega)) (lw_V q880 q882 qs16 q48 q883) hdX3_isTable ⟨Nat.le_of_ble_eq_true rfl, Nat.le_of_ble_eq_true rfl⟩ (zrM hE hP) (hP) hl.1 rfl (Nat.le_of_ble_eq_true rfl) ⟨Nat.le_of_ble_eq_true rfl, Nat.le_of_ble_eq_true rfl⟩ dX3_ledge_21 ?_
    refine zb_ifn (σ 0 i = 0) (tgt := 49) C rfl dX3_ledge_24 (by decide) (fun c_2 => ?_) (fun c_2 => ?_)
    · refine lv_aload_n hx hb dX3_ledge_49 rfl (lv_at hl 0 rfl) ?_
      refine lv_iconst (v := nI 2) hx hb dX3_ledge_50 (by decide) ?_
      refine zwV1 (As := [.int (nI 2)]) (rest := []) C (mo_fail l G a (nI 0) K σ hI (nI 2)) (lw_V q855 q857 qs12 q48 q858) hdX3_fail ⟨Nat.le_of_ble_eq_true rfl, Nat.le_of_ble_eq_true rfl⟩ (zrM hE hP) (hP) hl.1 rfl (Nat.le_of_ble_eq_true rfl) ⟨Nat.le_of_ble_eq_true rfl, Nat.le_of_ble_eq_true rfl⟩ dX3_ledge_51 hS (fun _ h => h) (fun H locs hP _ hS => ?_)
      exact zw_iretE C (by unfold oLedge; rw [if_pos c_1, hci, if_pos c_2]; try rfl) (by unfold oLedge; rw [if_pos c_1, hci, if_pos c_2]; exact hP) hS dX3_ledge_54
    · refine lv_iload_n hx hb dX3_ledge_27 rfl (lv_at hl 2 rfl) ?_
      refine lv_iconst (v := nI 0) hx hb dX3_ledge_28 (by decide) ?_
      refine lv_iconst (v := nI 4) hx hb dX3_ledge_29 (by decide) ?_
      refine zcS1 (As := [.int pv, .int (nI 0), .int (nI 4)]) (rest := []) C (mo_isIn l G pv (nI 0) (nI 4)) (lw_S q852 q853 q48 q854) hdX3_isIn.2 ⟨Nat.le_of_ble_eq_true rfl, Nat.le_of_ble_eq_true rfl⟩ (trivial) hl.1 rfl (Nat.le_of_ble_eq_true rfl) ⟨Nat.le_of_ble_eq_true rfl, Nat.le_of_ble_eq_true rfl⟩ dX3_ledge_30 ?_
      refine zb_if ((nI 0) ≤ pv ∧ pv ≤ (nI 4)) (tgt := 49) C rfl dX3_ledge_33 (by decide) (fun c_3 => ?_) (fun c_3 => ?_)
      · refine lv_aload_n hx hb dX3_ledge_49 rfl (lv_at hl 0 rfl) ?_
        refine lv_iconst (v := nI 2) hx hb dX3_ledge_50 (by decide) ?_
        refine zwV1 (As := [.int (nI 2)]) (rest := []) C (mo_fail l G a (nI 0) K σ hI (nI 2)) (lw_V q855 q857 qs12 q48 q858) hdX3_fail ⟨Nat.le_of_ble_eq_true rfl, Nat.le_of_ble_eq_true rfl⟩ (zrM hE hP) (hP) hl.1 rfl (Nat.le_of_ble_eq_true rfl) ⟨Nat.le_of_ble_eq_true rfl, Nat.le_of_ble_eq_true rfl⟩ dX3_ledge_51 hS (fun _ h => h) (fun H locs hP _ hS => ?_)
        exact zw_iretE C (by unfold oLedge; rw [if_pos c_1, hci, if_neg c_2, if_neg c_3]; try rfl) (by unfold oLedge; rw [if_pos c_1, hci, if_neg c_2, if_neg c_3]; exact hP) hS dX3_ledge_54
      · obtain ⟨k, hk, rfl⟩ := zIdx (v := pv) (n := 5) (by omega) c_3
        have hck : (nI k).toNatClampNeg = k := nI_clamp (by omega)
        refine lv_aload_n hx hb dX3_ledge_36 rfl (lv_at hl 0 rfl) ?_
        refine zgM C hP 7 (by decide) q817 rfl rfl dX3_ledge_37 ?_
        refine lv_iconst (v := nI 5) hx hb dX3_ledge_40 (by decide) ?_
        refine lv_iload_n hx hb dX3_ledge_41 rfl (lv_at hl 1 rfl) ?_
        refine zn_mul C dX3_ledge_42 ?_
        refine lv_iload_n hx hb dX3_ledge_43 rfl (lv_at hl 2 rfl) ?_
        refine zn_add C dX3_ledge_44 ?_
        refine zn_ald C hP 4 rfl (by omega) (Nat.le_of_ble_eq_true rfl) dX3_ledge_45 ?_
        refine lv_goto (tgt := 54) hx hb dX3_ledge_46 (by decide) ?_
        exact zw_iretE C (by unfold oLedge; rw [if_pos c_1, hci, if_neg c_2, if_pos c_3, hck]; try rfl) (by unfold oLedge; rw [if_pos c_1, hci, if_neg c_2, if_pos c_3, hck]; exact hP) hS dX3_ledge_54
  · refine lv_aload_n hx hb dX3_ledge_13 rfl (lv_at hl 0 rfl) ?_
    refine lv_iconst (v := nI 1) hx hb dX3_ledge_14 (by decide) ?_
    refine zwV1 (As := [.int (nI 1)]) (rest := []) C (mo_fail l G a (nI 0) K σ hI (nI 1)) (lw_V q855 q857 qs12 q48 q858) hdX3_fail ⟨Nat.le_of_ble_eq_true rfl, Nat.le_of_ble_eq_true rfl⟩ (zrM hE hP) (hP) hl.1 rfl (Nat.le_of_ble_eq_true rfl) ⟨Nat.le_of_ble_eq_true rfl, Nat.le_of_ble_eq_true rfl⟩ dX3_ledge_15 hS (fun _ h => h) (fun H locs hP _ hS => ?_)
    exact zw_iretE C (by unfold oLedge; rw [if_neg c_1]; try rfl) (by unfold oLedge; rw [if_neg c_1]; exact hP) hS dX3_ledge_18
set_option maxHeartbeats 4000000 in
theorem mo_player (l : Launch) (G : zG) (a : Nat → Nat) (th : Int32) (K : zKt) (σ : zSt) (hI : zInj a 8) (pv wv : Int32) (hO : zOk K σ) : zMrw l yX3_player cX3_player 3 (some .int) 2 0 0 G [.ref (a 0), .int pv, .int wv] (zMP G a th K σ) (some (.int (oPlayer K σ pv wv).2.1)) (zMP G a (oPlayer K σ pv wv).1 (oPlayer K σ pv wv).2.2.1 (oPlayer K σ pv wv).2.2.2) (zA a 8) := by
  refine zMk [(0, .ref (a 0)), (1, .int pv), (2, .int wv)] (by decide) (Nat.le_of_ble_eq_true rfl) rfl ?_
  intro p e s m below meth c ls C hP hl _
  generalize ([.ref (a 0), .int pv, .int wv] : List Value).toArray = av at C ⊢
  have hx := C.1
  have hb := C.2.1
  have hml := C.2.2.1
  have hown := C.2.2.2.1
  have hts := C.2.2.2.2.1
  have hE := C.2.2.2.2.2.2.2
  have hS : va_S (zA a 8) s.heap s.heap [] := va_S.rf
  refine lv_aload_n hx hb dX3_player_0 rfl (lv_at hl 0 rfl) ?_
  refine lv_iconst (v := nI 0) hx hb dX3_player_1 (by decide) ?_
  refine zpM (th' := (nI 0)) (K' := K) C hI (fun _ h => h) hP hS 0 (by decide) q810 rfl rfl (zpd 0 (by decide)) rfl ⟨rfl, rfl⟩ dX3_player_2 (fun H locs hP hS => ?_)
  refine lv_aload_n hx hb dX3_player_5 rfl (lv_at hl 0 rfl) ?_
  refine lv_iload_n hx hb dX3_player_6 rfl (lv_at hl 1 rfl) ?_
  refine zcV1 (As := [.int pv]) (rest := []) C (mo_isPlayer l G a (nI 0) K σ pv) (lw_V q950 q952 qs24 q48 q953) hdX3_isPlayer ⟨Nat.le_of_ble_eq_true rfl, Nat.le_of_ble_eq_true rfl⟩ (zrM hE hP) (hP) hl.1 rfl (Nat.le_of_ble_eq_true rfl) ⟨Nat.le_of_ble_eq_true rfl, Nat.le_of_ble_eq_true rfl⟩ dX3_player_7 ?_
  refine zb_if (zPla K pv) (tgt := 31) C rfl dX3_player_10 (by decide) (fun c_1 => ?_) (fun c_1 => ?_)
  · refine lv_aload_n hx hb dX3_player_31 rfl (lv_at hl 0 rfl) ?_
    refine lv_iconst (v := nI 1) hx hb dX3_player_32 (by decide) ?_
    refine zwV1 (As := [.int (nI 1)]) (rest := []) C (mo_fail l G a (nI 0) K σ hI (nI 1)) (lw_V q855 q857 qs12 q48 q858) hdX3_fail ⟨Nat.le_of_ble_eq_true rfl, Nat.le_of_ble_eq_true rfl⟩ (zrM hE hP) (hP) hl.1 rfl (Nat.le_of_ble_eq_true rfl) ⟨Nat.le_of_ble_eq_true rfl, Nat.le_of_ble_eq_true rfl⟩ dX3_player_33 hS (fun _ h => h) (fun H locs hP _ hS => ?_)
    exact zw_iretE C (by unfold oPlayer; rw [if_neg c_1]; try rfl) (by unfold oPlayer; rw [if_neg c_1]; exact hP) hS dX3_player_36
  · obtain ⟨u, hu, rfl⟩ := zIdx (n := zkP K) (by have := hO.1; have := hO.2.1; omega) c_1
    have hcu : (nI u).toNatClampNeg = u := nI_clamp (by have := hO.1; have := hO.2.1; omega)
    have hu9 : u < 10 := by have := hO.1; have := hO.2.1; omega
    refine lv_iload_n hx hb dX3_player_13 rfl (lv_at hl 2 rfl) ?_
    refine lv_iconst (v := nI 0) hx hb dX3_player_14 (by decide) ?_
    refine lv_iconst (v := nI 5) hx hb dX3_player_15 (by decide) ?_
    refine zcS1 (As := [.int wv, .int (nI 0), .int (nI 5)]) (rest := []) C (mo_isIn l G wv (nI 0) (nI 5)) (lw_S q852 q853 q48 q854) hdX3_isIn.2 ⟨Nat.le_of_ble_eq_true rfl, Nat.le_of_ble_eq_true rfl⟩ (trivial) hl.1 rfl (Nat.le_of_ble_eq_true rfl) ⟨Nat.le_of_ble_eq_true rfl, Nat.le_of_ble_eq_true rfl⟩ dX3_player_16 ?_
    refine zb_if ((nI 0) ≤ wv ∧ wv ≤ (nI 5)) (tgt := 31) C rfl dX3_player_19 (by decide) (fun c_2 => ?_) (fun c_2 => ?_)
    · refine lv_aload_n hx hb dX3_player_31 rfl (lv_at hl 0 rfl) ?_
      refine lv_iconst (v := nI 1) hx hb dX3_player_32 (by decide) ?_
      refine zwV1 (As := [.int (nI 1)]) (rest := []) C (mo_fail l G a (nI 0) K σ hI (nI 1)) (lw_V q855 q857 qs12 q48 q858) hdX3_fail ⟨Nat.le_of_ble_eq_true rfl, Nat.le_of_ble_eq_true rfl⟩ (zrM hE hP) (hP) hl.1 rfl (Nat.le_of_ble_eq_true rfl) ⟨Nat.le_of_ble_eq_true rfl, Nat.le_of_ble_eq_true rfl⟩ dX3_player_33 hS (fun _ h => h) (fun H locs hP _ hS => ?_)
      exact zw_iretE C (by unfold oPlayer; rw [if_pos c_1, hcu, if_neg c_2]; try rfl) (by unfold oPlayer; rw [if_pos c_1, hcu, if_neg c_2]; exact hP) hS dX3_player_36
    · obtain ⟨w, hw, rfl⟩ := zIdx (v := wv) (n := 6) (by omega) c_2
      have hcw : (nI w).toNatClampNeg = w := nI_clamp (by omega)
      refine lv_aload_n hx hb dX3_player_22 rfl (lv_at hl 0 rfl) ?_
      refine lv_iload_n hx hb dX3_player_23 rfl (lv_at hl 1 rfl) ?_
      refine lv_iload_n hx hb dX3_player_24 rfl (lv_at hl 2 rfl) ?_
      refine zcV1 (As := [.int (nI u), .int (nI w)]) (rest := []) C (mo_pl l G a (nI 0) K σ u w (σ (10 + w) u) (by omega) (by omega) rfl) (lw_V q903 q905 qs19 q48 q906) hdX3_pl ⟨Nat.le_of_ble_eq_true rfl, Nat.le_of_ble_eq_true rfl⟩ (zrM hE hP) (hP) hl.1 rfl (Nat.le_of_ble_eq_true rfl) ⟨Nat.le_of_ble_eq_true rfl, Nat.le_of_ble_eq_true rfl⟩ dX3_player_25 ?_
      refine lv_goto (tgt := 36) hx hb dX3_player_28 (by decide) ?_
      exact zw_iretE C (by unfold oPlayer; rw [if_pos c_1, hcu, if_pos c_2, hcw]; try rfl) (by unfold oPlayer; rw [if_pos c_1, hcu, if_pos c_2, hcw]; exact hP) hS dX3_player_36
set_option maxHeartbeats 4000000 in
theorem mo_setSkill (l : Launch) (G : zG) (a : Nat → Nat) (th : Int32) (K : zKt) (σ : zSt) (hI : zInj a 8) (v : Int32) (hO : zOk K σ) : zMrw l yX3_setSkill cX3_setSkill 3 (some .int) 1 0 0 G [.ref (a 0), .int v] (zMP G a th K σ) (some (.int (oSetSkill K σ v).2.1)) (zMP G a (oSetSkill K σ v).1 (oSetSkill K σ v).2.2.1 (oSetSkill K σ v).2.2.2) (zA a 8) := by
  refine zMk [(0, .ref (a 0)), (1, .int v)] (by decide) (Nat.le_of_ble_eq_true rfl) rfl ?_
  intro p e s m below meth c ls C hP hl _
  generalize ([.ref (a 0), .int v] : List Value).toArray = av at C ⊢
  have hx := C.1
  have hb := C.2.1
  have hml := C.2.2.1
  have hown := C.2.2.2.1
  have hts := C.2.2.2.2.1
  have hE := C.2.2.2.2.2.2.2
  have hS : va_S (zA a 8) s.heap s.heap [] := va_S.rf
  refine lv_aload_n hx hb dX3_setSkill_0 rfl (lv_at hl 0 rfl) ?_
  refine lv_iconst (v := nI 0) hx hb dX3_setSkill_1 (by decide) ?_
  refine zpM (th' := (nI 0)) (K' := K) C hI (fun _ h => h) hP hS 0 (by decide) q810 rfl rfl (zpd 0 (by decide)) rfl ⟨rfl, rfl⟩ dX3_setSkill_2 (fun H locs hP hS => ?_)
  refine lv_iload_n hx hb dX3_setSkill_5 rfl (lv_at hl 1 rfl) ?_
  refine lv_iconst (v := nI 0) hx hb dX3_setSkill_6 (by decide) ?_
  refine lv_iconst (v := nI 5) hx hb dX3_setSkill_7 (by decide) ?_
  refine zcS1 (As := [.int v, .int (nI 0), .int (nI 5)]) (rest := []) C (mo_isIn l G v (nI 0) (nI 5)) (lw_S q852 q853 q48 q854) hdX3_isIn.2 ⟨Nat.le_of_ble_eq_true rfl, Nat.le_of_ble_eq_true rfl⟩ (trivial) hl.1 rfl (Nat.le_of_ble_eq_true rfl) ⟨Nat.le_of_ble_eq_true rfl, Nat.le_of_ble_eq_true rfl⟩ dX3_setSkill_8 ?_
  refine zb_ifn ((nI 0) ≤ v ∧ v ≤ (nI 5)) (tgt := 20) C rfl dX3_setSkill_11 (by decide) (fun c_1 => ?_) (fun c_1 => ?_)
  · refine lv_aload_n hx hb dX3_setSkill_20 rfl (lv_at hl 0 rfl) ?_
    refine zgM C hP 3 (by decide) q813 rfl rfl dX3_setSkill_21 ?_
    refine lv_istore_n (lv' := [(2, .int (zkS K)), (0, .ref (a 0)), (1, .int v)]) hx hb dX3_setSkill_24 rfl hl (by decide) rfl (fun ls hl => ?_)
    refine lv_aload_n hx hb dX3_setSkill_25 rfl (lv_at hl 1 rfl) ?_
    refine lv_iload_n hx hb dX3_setSkill_26 rfl (lv_at hl 2 rfl) ?_
    refine zpM (th' := (nI 0)) (K' := (zKs K v)) C hI (fun _ h => h) hP hS 3 (by decide) q813 rfl rfl (zpd 3 (by decide)) rfl ⟨rfl, rfl⟩ dX3_setSkill_27 (fun H locs hP hS => ?_)
    refine lv_iload_n hx hb dX3_setSkill_30 rfl (lv_at hl 0 rfl) ?_
    exact zw_iretE C (by unfold oSetSkill; rw [if_pos c_1]; try rfl) (by unfold oSetSkill; rw [if_pos c_1]; exact hP) hS dX3_setSkill_31
  · refine lv_aload_n hx hb dX3_setSkill_14 rfl (lv_at hl 0 rfl) ?_
    refine lv_iconst (v := nI 1) hx hb dX3_setSkill_15 (by decide) ?_
    refine zwV1 (As := [.int (nI 1)]) (rest := []) C (mo_fail l G a (nI 0) K σ hI (nI 1)) (lw_V q855 q857 qs12 q48 q858) hdX3_fail ⟨Nat.le_of_ble_eq_true rfl, Nat.le_of_ble_eq_true rfl⟩ (zrM hE hP) (hP) hl.1 rfl (Nat.le_of_ble_eq_true rfl) ⟨Nat.le_of_ble_eq_true rfl, Nat.le_of_ble_eq_true rfl⟩ dX3_setSkill_16 hS (fun _ h => h) (fun H locs hP _ hS => ?_)
    exact zw_iretE C (by unfold oSetSkill; rw [if_neg c_1]; try rfl) (by unfold oSetSkill; rw [if_neg c_1]; exact hP) hS dX3_setSkill_19
set_option maxHeartbeats 4000000 in
theorem mo_count (l : Launch) (G : zG) (a : Nat → Nat) (th : Int32) (K : zKt) (σ : zSt) (hI : zInj a 8) (v : Int32) (hO : zOk K σ) : zMrw l yX3_count cX3_count 2 (some .int) 3 0 0 G [.ref (a 0), .int v] (zMP G a th K σ) (some (.int (oCount K σ v).2.1)) (zMP G a (oCount K σ v).1 (oCount K σ v).2.2.1 (oCount K σ v).2.2.2) (zA a 8) := by
  refine zMk [(0, .ref (a 0)), (1, .int v)] (by decide) (Nat.le_of_ble_eq_true rfl) rfl ?_
  intro p e s m below meth c ls C hP hl _
  generalize ([.ref (a 0), .int v] : List Value).toArray = av at C ⊢
  have hx := C.1
  have hb := C.2.1
  have hml := C.2.2.1
  have hown := C.2.2.2.1
  have hts := C.2.2.2.2.1
  have hE := C.2.2.2.2.2.2.2
  have hS : va_S (zA a 8) s.heap s.heap [] := va_S.rf
  refine lv_aload_n hx hb dX3_count_0 rfl (lv_at hl 0 rfl) ?_
  refine lv_iconst (v := nI 0) hx hb dX3_count_1 (by decide) ?_
  refine zpM (th' := (nI 0)) (K' := K) C hI (fun _ h => h) hP hS 0 (by decide) q810 rfl rfl (zpd 0 (by decide)) rfl ⟨rfl, rfl⟩ dX3_count_2 (fun H locs hP hS => ?_)
  refine lv_iload_n hx hb dX3_count_5 rfl (lv_at hl 1 rfl) ?_
  refine lv_iconst (v := nI 0) hx hb dX3_count_6 (by decide) ?_
  refine lv_bipush (v := nI 9) hx hb dX3_count_7 (by decide) ?_
  refine zcS1 (As := [.int v, .int (nI 0), .int (nI 9)]) (rest := []) C (mo_isIn l G v (nI 0) (nI 9)) (lw_S q852 q853 q48 q854) hdX3_isIn.2 ⟨Nat.le_of_ble_eq_true rfl, Nat.le_of_ble_eq_true rfl⟩ (trivial) hl.1 rfl (Nat.le_of_ble_eq_true rfl) ⟨Nat.le_of_ble_eq_true rfl, Nat.le_of_ble_eq_true rfl⟩ dX3_count_9 ?_
  refine zb_if ((nI 0) ≤ v ∧ v ≤ (nI 9)) (tgt := 23) C rfl dX3_count_12 (by decide) (fun c_1 => ?_) (fun c_1 => ?_)
  · refine lv_aload_n hx hb dX3_count_23 rfl (lv_at hl 0 rfl) ?_
    refine lv_iconst (v := nI 1) hx hb dX3_count_24 (by decide) ?_
    refine zwV1 (As := [.int (nI 1)]) (rest := []) C (mo_fail l G a (nI 0) K σ hI (nI 1)) (lw_V q855 q857 qs12 q48 q858) hdX3_fail ⟨Nat.le_of_ble_eq_true rfl, Nat.le_of_ble_eq_true rfl⟩ (zrM hE hP) (hP) hl.1 rfl (Nat.le_of_ble_eq_true rfl) ⟨Nat.le_of_ble_eq_true rfl, Nat.le_of_ble_eq_true rfl⟩ dX3_count_25 hS (fun _ h => h) (fun H locs hP _ hS => ?_)
    exact zw_iretE C (by unfold oCount; rw [if_neg c_1]; try rfl) (by unfold oCount; rw [if_neg c_1]; exact hP) hS dX3_count_28
  · obtain ⟨w, hw, rfl⟩ := zIdx (v := v) (n := 10) (by omega) c_1
    have hcw : (nI w).toNatClampNeg = w := nI_clamp (by omega)
    refine lv_aload_n hx hb dX3_count_15 rfl (lv_at hl 0 rfl) ?_
    refine lv_iload_n hx hb dX3_count_16 rfl (lv_at hl 1 rfl) ?_
    refine zcV1 (As := [.int (nI w)]) (rest := []) C (mo_counted l G a (nI 0) K σ w hw hO.1 hO.2.1) (lw_V q1030 q1032 qs37 q48 q1033) hdX3_counted ⟨Nat.le_of_ble_eq_true rfl, Nat.le_of_ble_eq_true rfl⟩ (zrM hE hP) (hP) hl.1 rfl (Nat.le_of_ble_eq_true rfl) ⟨Nat.le_of_ble_eq_true rfl, Nat.le_of_ble_eq_true rfl⟩ dX3_count_17 ?_
    refine lv_goto (tgt := 28) hx hb dX3_count_20 (by decide) ?_
    exact zw_iretE C (by unfold oCount; rw [if_pos c_1, hcw]; try rfl) (by unfold oCount; rw [if_pos c_1, hcw]; exact hP) hS dX3_count_28
set_option maxHeartbeats 4000000 in
theorem mo_go (l : Launch) (G : zG) (a : Nat → Nat) (th : Int32) (K : zKt) (σ : zSt) (hI : zInj a 8) (pv mv : Int32) (hO : zOk K σ) : zMrw l yX3_go cX3_go 4 (some .int) 2 0 0 G [.ref (a 0), .int pv, .int mv] (zMP G a th K σ) (some (.int (oGo K σ pv mv).2.1)) (zMP G a (oGo K σ pv mv).1 (oGo K σ pv mv).2.2.1 (oGo K σ pv mv).2.2.2) (zA a 8) := by
  refine zMk [(0, .ref (a 0)), (1, .int pv), (2, .int mv)] (by decide) (Nat.le_of_ble_eq_true rfl) rfl ?_
  intro p e s m below meth c ls C hP hl _
  generalize ([.ref (a 0), .int pv, .int mv] : List Value).toArray = av at C ⊢
  have hx := C.1
  have hb := C.2.1
  have hml := C.2.2.1
  have hown := C.2.2.2.1
  have hts := C.2.2.2.2.1
  have hE := C.2.2.2.2.2.2.2
  have hS : va_S (zA a 8) s.heap s.heap [] := va_S.rf
  refine lv_aload_n hx hb dX3_go_0 rfl (lv_at hl 0 rfl) ?_
  refine lv_iconst (v := nI 0) hx hb dX3_go_1 (by decide) ?_
  refine zpM (th' := (nI 0)) (K' := K) C hI (fun _ h => h) hP hS 0 (by decide) q810 rfl rfl (zpd 0 (by decide)) rfl ⟨rfl, rfl⟩ dX3_go_2 (fun H locs hP hS => ?_)
  refine lv_aload_n hx hb dX3_go_5 rfl (lv_at hl 0 rfl) ?_
  refine lv_iload_n hx hb dX3_go_6 rfl (lv_at hl 1 rfl) ?_
  refine zcV1 (As := [.int pv]) (rest := []) C (mo_isPlayer l G a (nI 0) K σ pv) (lw_V q950 q952 qs24 q48 q953) hdX3_isPlayer ⟨Nat.le_of_ble_eq_true rfl, Nat.le_of_ble_eq_true rfl⟩ (zrM hE hP) (hP) hl.1 rfl (Nat.le_of_ble_eq_true rfl) ⟨Nat.le_of_ble_eq_true rfl, Nat.le_of_ble_eq_true rfl⟩ dX3_go_7 ?_
  refine zb_if (zPla K pv) (tgt := 26) C rfl dX3_go_10 (by decide) (fun c_1 => ?_) (fun c_1 => ?_)
  · refine lv_aload_n hx hb dX3_go_26 rfl (lv_at hl 0 rfl) ?_
    refine lv_iconst (v := nI 1) hx hb dX3_go_27 (by decide) ?_
    refine zwV1 (As := [.int (nI 1)]) (rest := []) C (mo_fail l G a (nI 0) K σ hI (nI 1)) (lw_V q855 q857 qs12 q48 q858) hdX3_fail ⟨Nat.le_of_ble_eq_true rfl, Nat.le_of_ble_eq_true rfl⟩ (zrM hE hP) (hP) hl.1 rfl (Nat.le_of_ble_eq_true rfl) ⟨Nat.le_of_ble_eq_true rfl, Nat.le_of_ble_eq_true rfl⟩ dX3_go_28 hS (fun _ h => h) (fun H locs hP _ hS => ?_)
    exact zw_iretE C (by unfold oGo; rw [if_neg c_1]; try rfl) (by unfold oGo; rw [if_neg c_1]; exact hP) hS dX3_go_31
  · obtain ⟨u, hu, rfl⟩ := zIdx (n := zkP K) (by have := hO.1; have := hO.2.1; omega) c_1
    have hcu : (nI u).toNatClampNeg = u := nI_clamp (by have := hO.1; have := hO.2.1; omega)
    have hu9 : u < 10 := by have := hO.1; have := hO.2.1; omega
    refine lv_iload_n hx hb dX3_go_13 rfl (lv_at hl 2 rfl) ?_
    refine lv_iconst (v := (-1)) hx hb dX3_go_14 (by decide) ?_
    refine lv_icmp_eq (tgt := 32) hx hb dX3_go_15 (by decide) (fun c_2 => ?_) (fun c_2 => ?_)
    · refine lv_aload_n hx hb dX3_go_32 rfl (lv_at hl 0 rfl) ?_
      refine lv_iload_n hx hb dX3_go_33 rfl (lv_at hl 1 rfl) ?_
      refine lv_iconst (v := nI 2) hx hb dX3_go_34 (by decide) ?_
      refine zcV1 (As := [.int (nI u), .int (nI 2)]) (rest := []) C (mo_pl l G a (nI 0) K σ u 2 (σ 12 u) (by omega) (by omega) rfl) (lw_V q903 q905 qs19 q48 q906) hdX3_pl ⟨Nat.le_of_ble_eq_true rfl, Nat.le_of_ble_eq_true rfl⟩ (zrM hE hP) (hP) hl.1 rfl (Nat.le_of_ble_eq_true rfl) ⟨Nat.le_of_ble_eq_true rfl, Nat.le_of_ble_eq_true rfl⟩ dX3_go_35 ?_
      refine lv_istore_n (lv' := [(3, .int (σ 12 u)), (0, .ref (a 0)), (1, .int (nI u)), (2, .int mv)]) hx hb dX3_go_38 rfl hl (by decide) rfl (fun ls hl => ?_)
      refine lv_aload_n hx hb dX3_go_39 rfl (lv_at hl 1 rfl) ?_
      refine lv_iload_n hx hb dX3_go_40 rfl (lv_at hl 2 rfl) ?_
      refine lv_iload_n hx hb dX3_go_41 rfl (lv_at hl 3 rfl) ?_
      refine zwV0 (As := [.int (nI u), .int mv]) (rest := []) C (mo_to l G a (nI 0) K σ hI u mv (by omega)) (lw_V q954 q956 qs25 q48 q957) hdX3_to ⟨Nat.le_of_ble_eq_true rfl, Nat.le_of_ble_eq_true rfl⟩ (zrM hE hP) (hP) hl.1 rfl (Nat.le_of_ble_eq_true rfl) ⟨Nat.le_of_ble_eq_true rfl, Nat.le_of_ble_eq_true rfl⟩ dX3_go_42 hS (fun _ h => h) (fun H locs hP _ hS => ?_)
      refine lv_iload_n hx hb dX3_go_45 rfl (lv_at hl 0 rfl) ?_
      exact zw_iretE C (by unfold oGo; rw [if_pos c_1, hcu, if_pos c_2]; try rfl) (by unfold oGo; rw [if_pos c_1, hcu, if_pos c_2]; exact hP) hS dX3_go_46
    · refine lv_aload_n hx hb dX3_go_18 rfl (lv_at hl 0 rfl) ?_
      refine lv_iload_n hx hb dX3_go_19 rfl (lv_at hl 2 rfl) ?_
      refine zcV1 (As := [.int mv]) (rest := []) C (mo_isMachine l G a (nI 0) K σ mv) (lw_V q872 q874 qs14 q48 q875) hdX3_isMachine ⟨Nat.le_of_ble_eq_true rfl, Nat.le_of_ble_eq_true rfl⟩ (zrM hE hP) (hP) hl.1 rfl (Nat.le_of_ble_eq_true rfl) ⟨Nat.le_of_ble_eq_true rfl, Nat.le_of_ble_eq_true rfl⟩ dX3_go_20 ?_
      refine zb_ifn (zMac K mv) (tgt := 32) C rfl dX3_go_23 (by decide) (fun c_3 => ?_) (fun c_3 => ?_)
      · refine lv_aload_n hx hb dX3_go_32 rfl (lv_at hl 0 rfl) ?_
        refine lv_iload_n hx hb dX3_go_33 rfl (lv_at hl 1 rfl) ?_
        refine lv_iconst (v := nI 2) hx hb dX3_go_34 (by decide) ?_
        refine zcV1 (As := [.int (nI u), .int (nI 2)]) (rest := []) C (mo_pl l G a (nI 0) K σ u 2 (σ 12 u) (by omega) (by omega) rfl) (lw_V q903 q905 qs19 q48 q906) hdX3_pl ⟨Nat.le_of_ble_eq_true rfl, Nat.le_of_ble_eq_true rfl⟩ (zrM hE hP) (hP) hl.1 rfl (Nat.le_of_ble_eq_true rfl) ⟨Nat.le_of_ble_eq_true rfl, Nat.le_of_ble_eq_true rfl⟩ dX3_go_35 ?_
        refine lv_istore_n (lv' := [(3, .int (σ 12 u)), (0, .ref (a 0)), (1, .int (nI u)), (2, .int mv)]) hx hb dX3_go_38 rfl hl (by decide) rfl (fun ls hl => ?_)
        refine lv_aload_n hx hb dX3_go_39 rfl (lv_at hl 1 rfl) ?_
        refine lv_iload_n hx hb dX3_go_40 rfl (lv_at hl 2 rfl) ?_
        refine lv_iload_n hx hb dX3_go_41 rfl (lv_at hl 3 rfl) ?_
        refine zwV0 (As := [.int (nI u), .int mv]) (rest := []) C (mo_to l G a (nI 0) K σ hI u mv (by omega)) (lw_V q954 q956 qs25 q48 q957) hdX3_to ⟨Nat.le_of_ble_eq_true rfl, Nat.le_of_ble_eq_true rfl⟩ (zrM hE hP) (hP) hl.1 rfl (Nat.le_of_ble_eq_true rfl) ⟨Nat.le_of_ble_eq_true rfl, Nat.le_of_ble_eq_true rfl⟩ dX3_go_42 hS (fun _ h => h) (fun H locs hP _ hS => ?_)
        refine lv_iload_n hx hb dX3_go_45 rfl (lv_at hl 0 rfl) ?_
        exact zw_iretE C (by unfold oGo; rw [if_pos c_1, hcu, if_neg c_2, if_pos c_3]; try rfl) (by unfold oGo; rw [if_pos c_1, hcu, if_neg c_2, if_pos c_3]; exact hP) hS dX3_go_46
      · refine lv_aload_n hx hb dX3_go_26 rfl (lv_at hl 0 rfl) ?_
        refine lv_iconst (v := nI 1) hx hb dX3_go_27 (by decide) ?_
        refine zwV1 (As := [.int (nI 1)]) (rest := []) C (mo_fail l G a (nI 0) K σ hI (nI 1)) (lw_V q855 q857 qs12 q48 q858) hdX3_fail ⟨Nat.le_of_ble_eq_true rfl, Nat.le_of_ble_eq_true rfl⟩ (zrM hE hP) (hP) hl.1 rfl (Nat.le_of_ble_eq_true rfl) ⟨Nat.le_of_ble_eq_true rfl, Nat.le_of_ble_eq_true rfl⟩ dX3_go_28 hS (fun _ h => h) (fun H locs hP _ hS => ?_)
        exact zw_iretE C (by unfold oGo; rw [if_pos c_1, hcu, if_neg c_2, if_neg c_3]; try rfl) (by unfold oGo; rw [if_pos c_1, hcu, if_neg c_2, if_neg c_3]; exact hP) hS dX3_go_31

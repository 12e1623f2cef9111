/-! the model: repair, call, pass, play (printed by gen/m26.py) -/
set_option maxRecDepth 100000
set_option maxHeartbeats 4000000 in
theorem mo_repair (l : Launch) (G : zG) (a : Nat → Nat) (th : Int32) (K : zKt) (σ : zSt) (hI : zInj a 8) (v : Int32) (hO : zOk K σ) : zMrw l yX3_repair cX3_repair 2 (some .int) 1 0 0 G [.ref (a 0), .int v] (zMP G a th K σ) (some (.int (oRepair K σ v).2.1)) (zMP G a (oRepair K σ v).1 (oRepair K σ v).2.2.1 (oRepair K σ v).2.2.2) (zA a 8) := by
  refine zMk [(0, .ref (a 0)), (1, .int v)] (by decide) (Nat.le_of_ble_eq_true rfl) rfl ?_
  intro p e s m below meth c ls C hP hl _
  generalize ([.ref (a 0), .int v] : List Value).toArray = av at C ⊢
  have hx := C.1
  have hb := C.2.1
  have hml := C.2.2.1
  have hown := C.2.2.2.1
  have hts := C.2.2.2.2.1
  have hE := C.2.2.2.2.2.2.2
  have hS : va_S (zA a 8) s.heap s.heap [] := va_S.rf
  obtain ⟨q, hqM, hq, hrow⟩ := hO.2.2.2.2
  have hM8 := hO.1
  have hcq : (nI q).toNatClampNeg = q := nI_clamp (by omega)
  refine lv_aload_n hx hb dX3_repair_0 rfl (lv_at hl 0 rfl) ?_
  refine lv_iconst (v := nI 0) hx hb dX3_repair_1 (by decide) ?_
  refine zpM (th' := (nI 0)) (K' := K) C hI (fun _ h => h) hP hS 0 (by decide) q810 rfl rfl (zpd 0 (by decide)) rfl ⟨rfl, rfl⟩ dX3_repair_2 (fun H locs hP hS => ?_)
  refine lv_iload_n hx hb dX3_repair_5 rfl (lv_at hl 1 rfl) ?_
  refine lv_iconst (v := nI 0) hx hb dX3_repair_6 (by decide) ?_
  refine lv_aload_n hx hb dX3_repair_7 rfl (lv_at hl 0 rfl) ?_
  refine zgM C hP 10 (by decide) q820 rfl rfl dX3_repair_8 ?_
  refine lv_iconst (v := nI 1) hx hb dX3_repair_11 (by decide) ?_
  refine zn_ald C hP 7 rfl (by decide) (Nat.le_of_ble_eq_true rfl) dX3_repair_12 ?_
  rw [hq]
  refine lv_iconst (v := nI 1) hx hb dX3_repair_13 (by decide) ?_
  refine lv_isub hx hb dX3_repair_14 ?_
  refine zcS1 (As := [.int v, .int (nI 0), .int ((nI q) - (nI 1))]) (rest := []) C (mo_isIn l G v (nI 0) ((nI q) - (nI 1))) (lw_S q852 q853 q48 q854) hdX3_isIn.2 ⟨Nat.le_of_ble_eq_true rfl, Nat.le_of_ble_eq_true rfl⟩ (trivial) hl.1 rfl (Nat.le_of_ble_eq_true rfl) ⟨Nat.le_of_ble_eq_true rfl, Nat.le_of_ble_eq_true rfl⟩ dX3_repair_15 ?_
  refine zb_if ((nI 0) ≤ v ∧ v ≤ ((nI q) - (nI 1))) (tgt := 30) C rfl dX3_repair_18 (by decide) (fun c_1 => ?_) (fun c_1 => ?_)
  · refine lv_aload_n hx hb dX3_repair_30 rfl (lv_at hl 0 rfl) ?_
    refine lv_iconst (v := nI 1) hx hb dX3_repair_31 (by decide) ?_
    refine zwV1 (As := [.int (nI 1)]) (rest := []) C (mo_fail l G a (nI 0) K σ hI (nI 1)) (lw_V q855 q857 qs12 q48 q858) hdX3_fail ⟨Nat.le_of_ble_eq_true rfl, Nat.le_of_ble_eq_true rfl⟩ (zrM hE hP) (hP) hl.1 rfl (Nat.le_of_ble_eq_true rfl) ⟨Nat.le_of_ble_eq_true rfl, Nat.le_of_ble_eq_true rfl⟩ dX3_repair_32 hS (fun _ h => h) (fun H locs hP _ hS => ?_)
    exact zw_iretE C (by unfold oRepair; rw [hq, hcq, if_neg c_1]; try rfl) (by unfold oRepair; rw [hq, hcq, if_neg c_1]; exact hP) hS dX3_repair_35
  · obtain ⟨k, hk, rfl⟩ := zIdx (v := v) (n := q) (by omega) c_1
    have hck : (nI k).toNatClampNeg = k := nI_clamp (by omega)
    refine lv_aload_n hx hb dX3_repair_21 rfl (lv_at hl 0 rfl) ?_
    refine zgM C hP 9 (by decide) q819 rfl rfl dX3_repair_22 ?_
    refine lv_iload_n hx hb dX3_repair_25 rfl (lv_at hl 1 rfl) ?_
    refine zn_ald C hP 6 rfl (by omega) (Nat.le_of_ble_eq_true rfl) dX3_repair_26 ?_
    refine lv_goto (tgt := 35) hx hb dX3_repair_27 (by decide) ?_
    exact zw_iretE C (by unfold oRepair; rw [hq, hcq, if_pos c_1, hck]; try rfl) (by unfold oRepair; rw [hq, hcq, if_pos c_1, hck]; exact hP) hS dX3_repair_35
set_option maxHeartbeats 4000000 in
theorem mo_call (l : Launch) (G : zG) (a : Nat → Nat) (th : Int32) (K : zKt) (σ : zSt) (hI : zInj a 8) (mv : Int32) (hO : zOk K σ) (hfr : ∀ q, σ 22 1 = nI q → zMac K mv → zInB σ mv q = false → q < 8) : zMrw l yX3_call cX3_call 2 (some .int) 2 0 0 G [.ref (a 0), .int mv] (zMP G a th K σ) (some (.int (oCall K σ mv).2.1)) (zMP G a (oCall K σ mv).1 (oCall K σ mv).2.2.1 (oCall K σ mv).2.2.2) (zA a 8) := by
  refine zMk [(0, .ref (a 0)), (1, .int mv)] (by decide) (Nat.le_of_ble_eq_true rfl) rfl ?_
  intro p e s m below meth c ls C hP hl _
  generalize ([.ref (a 0), .int mv] : List Value).toArray = av at C ⊢
  have hx := C.1
  have hb := C.2.1
  have hml := C.2.2.1
  have hown := C.2.2.2.1
  have hts := C.2.2.2.2.1
  have hE := C.2.2.2.2.2.2.2
  have hS : va_S (zA a 8) s.heap s.heap [] := va_S.rf
  obtain ⟨q, hqM, hq, hrow⟩ := hO.2.2.2.2
  have hM8 := hO.1
  have hcq : (nI q).toNatClampNeg = q := nI_clamp (by omega)
  refine lv_aload_n hx hb dX3_call_0 rfl (lv_at hl 0 rfl) ?_
  refine lv_iconst (v := nI 0) hx hb dX3_call_1 (by decide) ?_
  refine zpM (th' := (nI 0)) (K' := K) C hI (fun _ h => h) hP hS 0 (by decide) q810 rfl rfl (zpd 0 (by decide)) rfl ⟨rfl, rfl⟩ dX3_call_2 (fun H locs hP hS => ?_)
  refine lv_aload_n hx hb dX3_call_5 rfl (lv_at hl 0 rfl) ?_
  refine lv_iload_n hx hb dX3_call_6 rfl (lv_at hl 1 rfl) ?_
  refine zcV1 (As := [.int mv]) (rest := []) C (mo_isMachine l G a (nI 0) K σ mv) (lw_V q872 q874 qs14 q48 q875) hdX3_isMachine ⟨Nat.le_of_ble_eq_true rfl, Nat.le_of_ble_eq_true rfl⟩ (zrM hE hP) (hP) hl.1 rfl (Nat.le_of_ble_eq_true rfl) ⟨Nat.le_of_ble_eq_true rfl, Nat.le_of_ble_eq_true rfl⟩ dX3_call_7 ?_
  refine zb_ifn (zMac K mv) (tgt := 19) C rfl dX3_call_10 (by decide) (fun c_1 => ?_) (fun c_1 => ?_)
  · refine lv_aload_n hx hb dX3_call_19 rfl (lv_at hl 0 rfl) ?_
    refine lv_iload_n hx hb dX3_call_20 rfl (lv_at hl 1 rfl) ?_
    refine zcV1 (As := [.int mv]) (rest := []) C (mo_isInRow l G a (nI 0) K σ mv q (by omega) hq) (lw_V q994 q996 qs31 q48 q997) hdX3_isInRow ⟨Nat.le_of_ble_eq_true rfl, Nat.le_of_ble_eq_true rfl⟩ (zrM hE hP) (hP) hl.1 rfl (Nat.le_of_ble_eq_true rfl) ⟨Nat.le_of_ble_eq_true rfl, Nat.le_of_ble_eq_true rfl⟩ dX3_call_21 ?_
    refine zb_if (zInB σ mv q = true) (tgt := 33) C rfl dX3_call_24 (by decide) (fun c_2 => ?_) (fun c_2 => ?_)
    · have hq7 : q < 8 := hfr q hq c_1 (by simpa using c_2)
      refine lv_aload_n hx hb dX3_call_33 rfl (lv_at hl 0 rfl) ?_
      refine lv_iload_n hx hb dX3_call_34 rfl (lv_at hl 1 rfl) ?_
      refine zwV0 (As := [.int mv]) (rest := []) C (mo_putInRow l G a (nI 0) K σ hI mv q hq7 hq) (lw_V q998 q1000 qs32 q48 q1001) hdX3_putInRow ⟨Nat.le_of_ble_eq_true rfl, Nat.le_of_ble_eq_true rfl⟩ (zrM hE hP) (hP) hl.1 rfl (Nat.le_of_ble_eq_true rfl) ⟨Nat.le_of_ble_eq_true rfl, Nat.le_of_ble_eq_true rfl⟩ dX3_call_35 hS (fun _ h => h) (fun H locs hP _ hS => ?_)
      refine lv_aload_n hx hb dX3_call_38 rfl (lv_at hl 0 rfl) ?_
      refine zgM C hP 10 (by decide) q820 rfl rfl dX3_call_39 ?_
      refine lv_iconst (v := nI 1) hx hb dX3_call_42 (by decide) ?_
      refine zn_ald C hP 7 rfl (by decide) (Nat.le_of_ble_eq_true rfl) dX3_call_43 ?_
      rw [show zCal σ q mv 22 1 = nI (q + 1) from zup_s]
      exact zw_iretE C (by unfold oCall; rw [if_pos c_1, hq, hcq, if_neg c_2]; try rfl) (by unfold oCall; rw [if_pos c_1, hq, hcq, if_neg c_2]; exact hP) hS dX3_call_44
    · refine lv_aload_n hx hb dX3_call_27 rfl (lv_at hl 0 rfl) ?_
      refine lv_iconst (v := nI 2) hx hb dX3_call_28 (by decide) ?_
      refine zwV1 (As := [.int (nI 2)]) (rest := []) C (mo_fail l G a (nI 0) K σ hI (nI 2)) (lw_V q855 q857 qs12 q48 q858) hdX3_fail ⟨Nat.le_of_ble_eq_true rfl, Nat.le_of_ble_eq_true rfl⟩ (zrM hE hP) (hP) hl.1 rfl (Nat.le_of_ble_eq_true rfl) ⟨Nat.le_of_ble_eq_true rfl, Nat.le_of_ble_eq_true rfl⟩ dX3_call_29 hS (fun _ h => h) (fun H locs hP _ hS => ?_)
      exact zw_iretE C (by unfold oCall; rw [if_pos c_1, hq, hcq, if_pos c_2]; try rfl) (by unfold oCall; rw [if_pos c_1, hq, hcq, if_pos c_2]; exact hP) hS dX3_call_32
  · refine lv_aload_n hx hb dX3_call_13 rfl (lv_at hl 0 rfl) ?_
    refine lv_iconst (v := nI 1) hx hb dX3_call_14 (by decide) ?_
    refine zwV1 (As := [.int (nI 1)]) (rest := []) C (mo_fail l G a (nI 0) K σ hI (nI 1)) (lw_V q855 q857 qs12 q48 q858) hdX3_fail ⟨Nat.le_of_ble_eq_true rfl, Nat.le_of_ble_eq_true rfl⟩ (zrM hE hP) (hP) hl.1 rfl (Nat.le_of_ble_eq_true rfl) ⟨Nat.le_of_ble_eq_true rfl, Nat.le_of_ble_eq_true rfl⟩ dX3_call_15 hS (fun _ h => h) (fun H locs hP _ hS => ?_)
    exact zw_iretE C (by unfold oCall; rw [if_neg c_1]; try rfl) (by unfold oCall; rw [if_neg c_1]; exact hP) hS dX3_call_18
set_option maxHeartbeats 4000000 in
theorem mo_pass (l : Launch) (G : zG) (a : Nat → Nat) (th : Int32) (K : zKt) (σ : zSt) (hI : zInj a 8) (v : Int32) (r : Nat) (hO : zOk K σ) (hr : σ 22 0 = nI r) (hr31 : r + 200 < 2 ^ 31) : zMrw l yX3_pass cX3_pass 4 (some .int) 6 0 0 G [.ref (a 0), .int v] (zMP G a th K σ) (some (.int (oPass K σ v).2.1)) (zMP G a (oPass K σ v).1 (oPass K σ v).2.2.1 (oPass K σ v).2.2.2) (zA a 8) := by
  refine zMk [(0, .ref (a 0)), (1, .int v)] (by decide) (Nat.le_of_ble_eq_true rfl) rfl ?_
  intro p e s m below meth c ls C hP hl _
  generalize ([.ref (a 0), .int v] : List Value).toArray = av at C ⊢
  have hx := C.1
  have hb := C.2.1
  have hml := C.2.2.1
  have hown := C.2.2.2.1
  have hts := C.2.2.2.2.1
  have hE := C.2.2.2.2.2.2.2
  have hS : va_S (zA a 8) s.heap s.heap [] := va_S.rf
  refine lv_aload_n hx hb dX3_pass_0 rfl (lv_at hl 0 rfl) ?_
  refine lv_iconst (v := nI 0) hx hb dX3_pass_1 (by decide) ?_
  refine zpM (th' := (nI 0)) (K' := K) C hI (fun _ h => h) hP hS 0 (by decide) q810 rfl rfl (zpd 0 (by decide)) rfl ⟨rfl, rfl⟩ dX3_pass_2 (fun H locs hP hS => ?_)
  refine lv_iload_n hx hb dX3_pass_5 rfl (lv_at hl 1 rfl) ?_
  refine lv_iconst (v := nI 1) hx hb dX3_pass_6 (by decide) ?_
  refine lv_sipush (v := nI 200) hx hb dX3_pass_7 (by decide) ?_
  refine zcS1 (As := [.int v, .int (nI 1), .int (nI 200)]) (rest := []) C (mo_isIn l G v (nI 1) (nI 200)) (lw_S q852 q853 q48 q854) hdX3_isIn.2 ⟨Nat.le_of_ble_eq_true rfl, Nat.le_of_ble_eq_true rfl⟩ (trivial) hl.1 rfl (Nat.le_of_ble_eq_true rfl) ⟨Nat.le_of_ble_eq_true rfl, Nat.le_of_ble_eq_true rfl⟩ dX3_pass_10 ?_
  refine zb_ifn ((nI 1) ≤ v ∧ v ≤ (nI 200)) (tgt := 22) C rfl dX3_pass_13 (by decide) (fun c_1 => ?_) (fun c_1 => ?_)
  · obtain ⟨t, ht, rfl⟩ := zIdx (v := v) (n := 201) (by omega) ⟨Int32.le_trans (by decide) c_1.1, c_1.2⟩
    have hct : (nI t).toNatClampNeg = t := nI_clamp (by omega)
    refine lv_iconst (v := nI 0) hx hb dX3_pass_22 (by decide) ?_
    refine lv_istore_n (lv' := [(2, .int (nI 0)), (0, .ref (a 0)), (1, .int (nI t))]) hx hb dX3_pass_23 rfl hl (by decide) rfl (fun ls hl => ?_)
    refine lv_iconst (v := nI 0) hx hb dX3_pass_24 (by decide) ?_
    refine lv_istore_n (lv' := [(3, .int (nI 0)), (2, .int (nI 0)), (0, .ref (a 0)), (1, .int (nI t))]) hx hb dX3_pass_25 rfl hl (by decide) rfl (fun ls hl => ?_)
    have loop : ∀ (n : Nat) (k : Nat), (k ≤ t) → (t + 1 ≤ k + n) → ∀ (H : Heap) (locs : List Loc), zMP G a (nI 0) K (zRounds K σ k).1 H → va_S (zA a 8) s.heap H locs → ∀ (ls : Array Slot), lv_has ls 4 [(3, .int (nI k)), (2, .int ((zRounds K σ k).2)), (0, .ref (a 0)), (1, .int (nI t))] → W p l e (zRm 6 0 0) s m av below meth c H locs 0 0 (MQ below (zRW (some (.int (oPass K σ (nI t)).2.1)) (zMP G a (oPass K σ (nI t)).1 (oPass K σ (nI t)).2.2.1 (oPass K σ (nI t)).2.2.2) (zA a 8)) av s 0 0 (zA a 8)) (F0 m 26 ls []) := by
      intro n
      induction n with
      | zero =>
        intro k h8 h9
        exact absurd (And.intro h8 h9) (by omega)
      | succ n ih =>
        intro k h8 h9 H locs hP hS ls hl
        refine lv_iload_n hx hb dX3_pass_26 rfl (lv_at hl 0 rfl) ?_
        refine lv_iload_n hx hb dX3_pass_27 rfl (lv_at hl 3 rfl) ?_
        refine zn_ge (tgt := 44) C (by omega) (by omega) dX3_pass_28 (by decide) (fun c_2 => ?_) (fun c_2 => ?_)
        · have hk : k = t := by omega
          subst hk
          refine lv_iload_n hx hb dX3_pass_44 rfl (lv_at hl 1 rfl) ?_
          exact zw_iretE C (by unfold oPass; rw [if_pos c_1, hct]; try rfl) (by unfold oPass; rw [if_pos c_1, hct]; exact hP) hS dX3_pass_45
        · refine lv_iload_n hx hb dX3_pass_31 rfl (lv_at hl 1 rfl) ?_
          refine lv_aload_n hx hb dX3_pass_32 rfl (lv_at hl 2 rfl) ?_
          refine zwV1 (As := []) (rest := [.int ((zRounds K σ k).2)]) C (mo_roundOn l G a (nI 0) K (zRounds K σ k).1 hI (r + k) (zRounds_ok hO k) (zRounds_r hr k) (by omega)) (lw_V q1010 q1012 qs33 q48 q1013) hdX3_roundOn ⟨Nat.le_of_ble_eq_true rfl, Nat.le_of_ble_eq_true rfl⟩ (zrM hE hP) (hP) hl.1 rfl (Nat.le_of_ble_eq_true rfl) ⟨Nat.le_of_ble_eq_true rfl, Nat.le_of_ble_eq_true rfl⟩ dX3_pass_33 hS (fun _ h => h) (fun H locs hP _ hS => ?_)
          refine lv_iadd hx hb dX3_pass_36 ?_
          refine lv_istore_n (lv' := [(2, .int (((zRounds K σ k).2) + ((zRound K (zRounds K σ k).1).2))), (3, .int (nI k)), (0, .ref (a 0)), (1, .int (nI t))]) hx hb dX3_pass_37 rfl hl (by decide) rfl (fun ls hl => ?_)
          refine lv_iinc (v := nI (k + 1)) (lv' := [(3, .int (nI (k + 1))), (2, .int (((zRounds K σ k).2) + ((zRound K (zRounds K σ k).1).2))), (0, .ref (a 0)), (1, .int (nI t))]) hx hb dX3_pass_38 hl (k := 1) rfl (nI_1 _) (by decide) rfl (fun ls hl => ?_)
          refine lv_goto (tgt := 26) hx hb dX3_pass_41 (by decide) ?_
          exact ih (k + 1) (by omega) (by omega) H locs hP hS ls (lv_sub hl [0, 1, 2, 3] rfl)
    exact loop (t + 1) 0 (by omega) (by omega) H locs hP hS ls (lv_sub hl [0, 1, 2, 3] rfl)
  · refine lv_aload_n hx hb dX3_pass_16 rfl (lv_at hl 0 rfl) ?_
    refine lv_iconst (v := nI 1) hx hb dX3_pass_17 (by decide) ?_
    refine zwV1 (As := [.int (nI 1)]) (rest := []) C (mo_fail l G a (nI 0) K σ hI (nI 1)) (lw_V q855 q857 qs12 q48 q858) hdX3_fail ⟨Nat.le_of_ble_eq_true rfl, Nat.le_of_ble_eq_true rfl⟩ (zrM hE hP) (hP) hl.1 rfl (Nat.le_of_ble_eq_true rfl) ⟨Nat.le_of_ble_eq_true rfl, Nat.le_of_ble_eq_true rfl⟩ dX3_pass_18 hS (fun _ h => h) (fun H locs hP _ hS => ?_)
    exact zw_iretE C (by unfold oPass; rw [if_neg c_1]; try rfl) (by unfold oPass; rw [if_neg c_1]; exact hP) hS dX3_pass_21
set_option maxHeartbeats 4000000 in
theorem mo_play (l : Launch) (G : zG) (a : Nat → Nat) (th : Int32) (K : zKt) (σ : zSt) (hI : zInj a 8) (pv mv cv tv : Int32) (hO : zOk K σ) : zMrw l yX3_play cX3_play 5 (some .int) 4 0 0 G [.ref (a 0), .int pv, .int mv, .int cv, .int tv] (zMP G a th K σ) (some (.int (oPlay K σ pv mv cv tv).2.1)) (zMP G a (oPlay K σ pv mv cv tv).1 (oPlay K σ pv mv cv tv).2.2.1 (oPlay K σ pv mv cv tv).2.2.2) (zA a 8) := by
  refine zMk [(0, .ref (a 0)), (1, .int pv), (2, .int mv), (3, .int cv), (4, .int tv)] (by decide) (Nat.le_of_ble_eq_true rfl) rfl ?_
  intro p e s m below meth c ls C hP hl _
  generalize ([.ref (a 0), .int pv, .int mv, .int cv, .int tv] : List Value).toArray = av at C ⊢
  have hx := C.1
  have hb := C.2.1
  have hml := C.2.2.1
  have hown := C.2.2.2.1
  have hts := C.2.2.2.2.1
  have hE := C.2.2.2.2.2.2.2
  have hS : va_S (zA a 8) s.heap s.heap [] := va_S.rf
  refine lv_aload_n hx hb dX3_play_0 rfl (lv_at hl 0 rfl) ?_
  refine lv_iconst (v := nI 0) hx hb dX3_play_1 (by decide) ?_
  refine zpM (th' := (nI 0)) (K' := K) C hI (fun _ h => h) hP hS 0 (by decide) q810 rfl rfl (zpd 0 (by decide)) rfl ⟨rfl, rfl⟩ dX3_play_2 (fun H locs hP hS => ?_)
  refine lv_aload_n hx hb dX3_play_5 rfl (lv_at hl 0 rfl) ?_
  refine lv_iload_n hx hb dX3_play_6 rfl (lv_at hl 1 rfl) ?_
  refine zcV1 (As := [.int pv]) (rest := []) C (mo_isPlayer l G a (nI 0) K σ pv) (lw_V q950 q952 qs24 q48 q953) hdX3_isPlayer ⟨Nat.le_of_ble_eq_true rfl, Nat.le_of_ble_eq_true rfl⟩ (zrM hE hP) (hP) hl.1 rfl (Nat.le_of_ble_eq_true rfl) ⟨Nat.le_of_ble_eq_true rfl, Nat.le_of_ble_eq_true rfl⟩ dX3_play_7 ?_
  refine zb_if (zPla K pv) (tgt := 21) C rfl dX3_play_10 (by decide) (fun c_1 => ?_) (fun c_1 => ?_)
  · refine lv_aload_n hx hb dX3_play_21 rfl (lv_at hl 0 rfl) ?_
    refine lv_iconst (v := nI 1) hx hb dX3_play_22 (by decide) ?_
    refine zwV1 (As := [.int (nI 1)]) (rest := []) C (mo_fail l G a (nI 0) K σ hI (nI 1)) (lw_V q855 q857 qs12 q48 q858) hdX3_fail ⟨Nat.le_of_ble_eq_true rfl, Nat.le_of_ble_eq_true rfl⟩ (zrM hE hP) (hP) hl.1 rfl (Nat.le_of_ble_eq_true rfl) ⟨Nat.le_of_ble_eq_true rfl, Nat.le_of_ble_eq_true rfl⟩ dX3_play_23 hS (fun _ h => h) (fun H locs hP _ hS => ?_)
    exact zw_iretE C (by unfold oPlay; rw [if_neg c_1]; try rfl) (by unfold oPlay; rw [if_neg c_1]; exact hP) hS dX3_play_26
  · obtain ⟨u, hu, rfl⟩ := zIdx (n := zkP K) (by have := hO.1; have := hO.2.1; omega) c_1
    have hcu : (nI u).toNatClampNeg = u := nI_clamp (by have := hO.1; have := hO.2.1; omega)
    have hu9 : u < 10 := by have := hO.1; have := hO.2.1; omega
    refine lv_aload_n hx hb dX3_play_13 rfl (lv_at hl 0 rfl) ?_
    refine lv_iload_n hx hb dX3_play_14 rfl (lv_at hl 2 rfl) ?_
    refine zcV1 (As := [.int mv]) (rest := []) C (mo_isMachine l G a (nI 0) K σ mv) (lw_V q872 q874 qs14 q48 q875) hdX3_isMachine ⟨Nat.le_of_ble_eq_true rfl, Nat.le_of_ble_eq_true rfl⟩ (zrM hE hP) (hP) hl.1 rfl (Nat.le_of_ble_eq_true rfl) ⟨Nat.le_of_ble_eq_true rfl, Nat.le_of_ble_eq_true rfl⟩ dX3_play_15 ?_
    refine zb_ifn (zMac K mv) (tgt := 27) C rfl dX3_play_18 (by decide) (fun c_2 => ?_) (fun c_2 => ?_)
    · obtain ⟨i, hi, rfl⟩ := zIdx (n := zkM K) (by have := hO.1; have := hO.2.1; omega) c_2
      have hci : (nI i).toNatClampNeg = i := nI_clamp (by have := hO.1; have := hO.2.1; omega)
      have hi9 : i < 8 := by have := hO.1; have := hO.2.1; omega
      refine lv_aload_n hx hb dX3_play_27 rfl (lv_at hl 0 rfl) ?_
      refine lv_iload_n hx hb dX3_play_28 rfl (lv_at hl 2 rfl) ?_
      refine zcV1 (As := [.int (nI i)]) (rest := []) C (mo_isTable l G a (nI 0) K σ i (by omega)) (lw_V q880 q882 qs16 q48 q883) hdX3_isTable ⟨Nat.le_of_ble_eq_true rfl, Nat.le_of_ble_eq_true rfl⟩ (zrM hE hP) (hP) hl.1 rfl (Nat.le_of_ble_eq_true rfl) ⟨Nat.le_of_ble_eq_true rfl, Nat.le_of_ble_eq_true rfl⟩ dX3_play_29 ?_
      refine zb_if (σ 0 i = 0) (tgt := 60) C rfl dX3_play_32 (by decide) (fun c_3 => ?_) (fun c_3 => ?_)
      · refine lv_aload_n hx hb dX3_play_60 rfl (lv_at hl 0 rfl) ?_
        refine lv_iload_n hx hb dX3_play_61 rfl (lv_at hl 2 rfl) ?_
        refine zcV1 (As := [.int (nI i)]) (rest := []) C (mo_works l G a (nI 0) K σ i (by omega)) (lw_V q966 q968 qs27 q48 q969) hdX3_works ⟨Nat.le_of_ble_eq_true rfl, Nat.le_of_ble_eq_true rfl⟩ (zrM hE hP) (hP) hl.1 rfl (Nat.le_of_ble_eq_true rfl) ⟨Nat.le_of_ble_eq_true rfl, Nat.le_of_ble_eq_true rfl⟩ dX3_play_62 ?_
        refine zb_if (σ 6 i = 0) (tgt := 89) C rfl dX3_play_65 (by decide) (fun c_4 => ?_) (fun c_4 => ?_)
        · refine lv_aload_n hx hb dX3_play_89 rfl (lv_at hl 0 rfl) ?_
          refine lv_iconst (v := nI 3) hx hb dX3_play_90 (by decide) ?_
          refine zwV1 (As := [.int (nI 3)]) (rest := []) C (mo_fail l G a (nI 0) K σ hI (nI 3)) (lw_V q855 q857 qs12 q48 q858) hdX3_fail ⟨Nat.le_of_ble_eq_true rfl, Nat.le_of_ble_eq_true rfl⟩ (zrM hE hP) (hP) hl.1 rfl (Nat.le_of_ble_eq_true rfl) ⟨Nat.le_of_ble_eq_true rfl, Nat.le_of_ble_eq_true rfl⟩ dX3_play_91 hS (fun _ h => h) (fun H locs hP _ hS => ?_)
          exact zw_iretE C (by unfold oPlay; rw [if_pos c_1, if_pos c_2, hci, if_neg c_3]; unfold oPlayOn; rw [hci, if_neg c_4]; try rfl) (by unfold oPlay; rw [if_pos c_1, if_pos c_2, hci, if_neg c_3]; unfold oPlayOn; rw [hci, if_neg c_4]; exact hP) hS dX3_play_94
        · refine lv_aload_n hx hb dX3_play_68 rfl (lv_at hl 0 rfl) ?_
          refine lv_iload_n hx hb dX3_play_69 rfl (lv_at hl 1 rfl) ?_
          refine lv_iconst (v := nI 0) hx hb dX3_play_70 (by decide) ?_
          refine zcV1 (As := [.int (nI u), .int (nI 0)]) (rest := []) C (mo_pl l G a (nI 0) K σ u 0 (σ 10 u) (by omega) (by omega) rfl) (lw_V q903 q905 qs19 q48 q906) hdX3_pl ⟨Nat.le_of_ble_eq_true rfl, Nat.le_of_ble_eq_true rfl⟩ (zrM hE hP) (hP) hl.1 rfl (Nat.le_of_ble_eq_true rfl) ⟨Nat.le_of_ble_eq_true rfl, Nat.le_of_ble_eq_true rfl⟩ dX3_play_71 ?_
          refine lv_if_le (tgt := 89) hx hb dX3_play_74 (by decide) (fun c_5 => ?_) (fun c_5 => ?_)
          · refine lv_aload_n hx hb dX3_play_89 rfl (lv_at hl 0 rfl) ?_
            refine lv_iconst (v := nI 3) hx hb dX3_play_90 (by decide) ?_
            refine zwV1 (As := [.int (nI 3)]) (rest := []) C (mo_fail l G a (nI 0) K σ hI (nI 3)) (lw_V q855 q857 qs12 q48 q858) hdX3_fail ⟨Nat.le_of_ble_eq_true rfl, Nat.le_of_ble_eq_true rfl⟩ (zrM hE hP) (hP) hl.1 rfl (Nat.le_of_ble_eq_true rfl) ⟨Nat.le_of_ble_eq_true rfl, Nat.le_of_ble_eq_true rfl⟩ dX3_play_91 hS (fun _ h => h) (fun H locs hP _ hS => ?_)
            exact zw_iretE C (by unfold oPlay; rw [if_pos c_1, if_pos c_2, hci, if_neg c_3]; unfold oPlayOn; rw [hci, if_pos c_4, hcu, if_pos c_5]; try rfl) (by unfold oPlay; rw [if_pos c_1, if_pos c_2, hci, if_neg c_3]; unfold oPlayOn; rw [hci, if_pos c_4, hcu, if_pos c_5]; exact hP) hS dX3_play_94
          · refine lv_aload_n hx hb dX3_play_77 rfl (lv_at hl 0 rfl) ?_
            refine lv_iload_n hx hb dX3_play_78 rfl (lv_at hl 1 rfl) ?_
            refine lv_iload_n hx hb dX3_play_79 rfl (lv_at hl 2 rfl) ?_
            refine lv_iload_n hx hb dX3_play_80 rfl (lv_at hl 3 rfl) ?_
            refine lv_iload hx hb dX3_play_81 (lv_at hl 4 rfl) ?_
            refine zwV1 (As := [.int (nI u), .int (nI i), .int cv, .int tv]) (rest := []) C (mo_playAt l G a (nI 0) K σ hI u i cv tv (cv).toNatClampNeg (by omega) (by omega) (hO.2.2.1 i (by omega)) (fun h => absurd h.1 c_3)) (lw_V q970 q972 qs28 q48 q973) hdX3_playAt ⟨Nat.le_of_ble_eq_true rfl, Nat.le_of_ble_eq_true rfl⟩ (zrM hE hP) (hP) hl.1 rfl (Nat.le_of_ble_eq_true rfl) ⟨Nat.le_of_ble_eq_true rfl, Nat.le_of_ble_eq_true rfl⟩ dX3_play_83 hS (fun _ h => h) (fun H locs hP _ hS => ?_)
            refine lv_goto (tgt := 94) hx hb dX3_play_86 (by decide) ?_
            exact zw_iretE C (by unfold oPlay; rw [if_pos c_1, if_pos c_2, hci, if_neg c_3]; unfold oPlayOn; rw [hci, if_pos c_4, hcu, if_neg c_5]; try rfl) (by unfold oPlay; rw [if_pos c_1, if_pos c_2, hci, if_neg c_3]; unfold oPlayOn; rw [hci, if_pos c_4, hcu, if_neg c_5]; exact hP) hS dX3_play_94
      · refine lv_aload_n hx hb dX3_play_35 rfl (lv_at hl 0 rfl) ?_
        refine lv_iload_n hx hb dX3_play_36 rfl (lv_at hl 2 rfl) ?_
        refine lv_iload_n hx hb dX3_play_37 rfl (lv_at hl 3 rfl) ?_
        refine zcV1 (As := [.int (nI i), .int cv]) (rest := []) C (mo_isColumn l G a (nI 0) K σ i cv (by omega)) (lw_V q876 q878 qs15 q48 q879) hdX3_isColumn ⟨Nat.le_of_ble_eq_true rfl, Nat.le_of_ble_eq_true rfl⟩ (zrM hE hP) (hP) hl.1 rfl (Nat.le_of_ble_eq_true rfl) ⟨Nat.le_of_ble_eq_true rfl, Nat.le_of_ble_eq_true rfl⟩ dX3_play_38 ?_
        refine zb_if (σ 0 i = 0 ∧ nI 0 ≤ cv ∧ cv ≤ σ 1 i - nI 1) (tgt := 54) C rfl dX3_play_41 (by decide) (fun c_6 => ?_) (fun c_6 => ?_)
        · refine lv_aload_n hx hb dX3_play_54 rfl (lv_at hl 0 rfl) ?_
          refine lv_iconst (v := nI 2) hx hb dX3_play_55 (by decide) ?_
          refine zwV1 (As := [.int (nI 2)]) (rest := []) C (mo_fail l G a (nI 0) K σ hI (nI 2)) (lw_V q855 q857 qs12 q48 q858) hdX3_fail ⟨Nat.le_of_ble_eq_true rfl, Nat.le_of_ble_eq_true rfl⟩ (zrM hE hP) (hP) hl.1 rfl (Nat.le_of_ble_eq_true rfl) ⟨Nat.le_of_ble_eq_true rfl, Nat.le_of_ble_eq_true rfl⟩ dX3_play_56 hS (fun _ h => h) (fun H locs hP _ hS => ?_)
          exact zw_iretE C (by unfold oPlay; rw [if_pos c_1, if_pos c_2, hci, if_pos c_3, if_neg (fun q => c_6 ⟨c_3, q⟩)]; try rfl) (by unfold oPlay; rw [if_pos c_1, if_pos c_2, hci, if_pos c_3, if_neg (fun q => c_6 ⟨c_3, q⟩)]; exact hP) hS dX3_play_59
        · have hT : zTab σ i := by
            rcases hO.2.2.1 i (by omega) with h | h
            · exact h
            · exact absurd (h.1.symm.trans c_6.1) (by decide)
          have hw9 := hT.2.2.1
          obtain ⟨k, hk, rfl⟩ := zIdx (v := cv) (n := zWd σ i) (by omega) (by have := c_6.2; rw [hT.2.2.2.2.2.1] at this; exact this)
          have hck : (nI k).toNatClampNeg = k := nI_clamp (by omega)
          refine lv_iload hx hb dX3_play_44 (lv_at hl 4 rfl) ?_
          refine lv_iconst (v := (-1)) hx hb dX3_play_46 (by decide) ?_
          refine lv_iconst (v := nI 1) hx hb dX3_play_47 (by decide) ?_
          refine zcS1 (As := [.int tv, .int (-1), .int (nI 1)]) (rest := []) C (mo_isIn l G tv (-1) (nI 1)) (lw_S q852 q853 q48 q854) hdX3_isIn.2 ⟨Nat.le_of_ble_eq_true rfl, Nat.le_of_ble_eq_true rfl⟩ (trivial) hl.1 rfl (Nat.le_of_ble_eq_true rfl) ⟨Nat.le_of_ble_eq_true rfl, Nat.le_of_ble_eq_true rfl⟩ dX3_play_48 ?_
          refine zb_ifn ((-1) ≤ tv ∧ tv ≤ (nI 1)) (tgt := 60) C rfl dX3_play_51 (by decide) (fun c_7 => ?_) (fun c_7 => ?_)
          · refine lv_aload_n hx hb dX3_play_60 rfl (lv_at hl 0 rfl) ?_
            refine lv_iload_n hx hb dX3_play_61 rfl (lv_at hl 2 rfl) ?_
            refine zcV1 (As := [.int (nI i)]) (rest := []) C (mo_works l G a (nI 0) K σ i (by omega)) (lw_V q966 q968 qs27 q48 q969) hdX3_works ⟨Nat.le_of_ble_eq_true rfl, Nat.le_of_ble_eq_true rfl⟩ (zrM hE hP) (hP) hl.1 rfl (Nat.le_of_ble_eq_true rfl) ⟨Nat.le_of_ble_eq_true rfl, Nat.le_of_ble_eq_true rfl⟩ dX3_play_62 ?_
            refine zb_if (σ 6 i = 0) (tgt := 89) C rfl dX3_play_65 (by decide) (fun c_8 => ?_) (fun c_8 => ?_)
            · refine lv_aload_n hx hb dX3_play_89 rfl (lv_at hl 0 rfl) ?_
              refine lv_iconst (v := nI 3) hx hb dX3_play_90 (by decide) ?_
              refine zwV1 (As := [.int (nI 3)]) (rest := []) C (mo_fail l G a (nI 0) K σ hI (nI 3)) (lw_V q855 q857 qs12 q48 q858) hdX3_fail ⟨Nat.le_of_ble_eq_true rfl, Nat.le_of_ble_eq_true rfl⟩ (zrM hE hP) (hP) hl.1 rfl (Nat.le_of_ble_eq_true rfl) ⟨Nat.le_of_ble_eq_true rfl, Nat.le_of_ble_eq_true rfl⟩ dX3_play_91 hS (fun _ h => h) (fun H locs hP _ hS => ?_)
              exact zw_iretE C (by unfold oPlay; rw [if_pos c_1, if_pos c_2, hci, if_pos c_3, if_pos c_6.2, if_pos c_7]; unfold oPlayOn; rw [hci, if_neg c_8]; try rfl) (by unfold oPlay; rw [if_pos c_1, if_pos c_2, hci, if_pos c_3, if_pos c_6.2, if_pos c_7]; unfold oPlayOn; rw [hci, if_neg c_8]; exact hP) hS dX3_play_94
            · refine lv_aload_n hx hb dX3_play_68 rfl (lv_at hl 0 rfl) ?_
              refine lv_iload_n hx hb dX3_play_69 rfl (lv_at hl 1 rfl) ?_
              refine lv_iconst (v := nI 0) hx hb dX3_play_70 (by decide) ?_
              refine zcV1 (As := [.int (nI u), .int (nI 0)]) (rest := []) C (mo_pl l G a (nI 0) K σ u 0 (σ 10 u) (by omega) (by omega) rfl) (lw_V q903 q905 qs19 q48 q906) hdX3_pl ⟨Nat.le_of_ble_eq_true rfl, Nat.le_of_ble_eq_true rfl⟩ (zrM hE hP) (hP) hl.1 rfl (Nat.le_of_ble_eq_true rfl) ⟨Nat.le_of_ble_eq_true rfl, Nat.le_of_ble_eq_true rfl⟩ dX3_play_71 ?_
              refine lv_if_le (tgt := 89) hx hb dX3_play_74 (by decide) (fun c_9 => ?_) (fun c_9 => ?_)
              · refine lv_aload_n hx hb dX3_play_89 rfl (lv_at hl 0 rfl) ?_
                refine lv_iconst (v := nI 3) hx hb dX3_play_90 (by decide) ?_
                refine zwV1 (As := [.int (nI 3)]) (rest := []) C (mo_fail l G a (nI 0) K σ hI (nI 3)) (lw_V q855 q857 qs12 q48 q858) hdX3_fail ⟨Nat.le_of_ble_eq_true rfl, Nat.le_of_ble_eq_true rfl⟩ (zrM hE hP) (hP) hl.1 rfl (Nat.le_of_ble_eq_true rfl) ⟨Nat.le_of_ble_eq_true rfl, Nat.le_of_ble_eq_true rfl⟩ dX3_play_91 hS (fun _ h => h) (fun H locs hP _ hS => ?_)
                exact zw_iretE C (by unfold oPlay; rw [if_pos c_1, if_pos c_2, hci, if_pos c_3, if_pos c_6.2, if_pos c_7]; unfold oPlayOn; rw [hci, if_pos c_8, hcu, if_pos c_9]; try rfl) (by unfold oPlay; rw [if_pos c_1, if_pos c_2, hci, if_pos c_3, if_pos c_6.2, if_pos c_7]; unfold oPlayOn; rw [hci, if_pos c_8, hcu, if_pos c_9]; exact hP) hS dX3_play_94
              · refine lv_aload_n hx hb dX3_play_77 rfl (lv_at hl 0 rfl) ?_
                refine lv_iload_n hx hb dX3_play_78 rfl (lv_at hl 1 rfl) ?_
                refine lv_iload_n hx hb dX3_play_79 rfl (lv_at hl 2 rfl) ?_
                refine lv_iload_n hx hb dX3_play_80 rfl (lv_at hl 3 rfl) ?_
                refine lv_iload hx hb dX3_play_81 (lv_at hl 4 rfl) ?_
                refine zwV1 (As := [.int (nI u), .int (nI i), .int (nI k), .int tv]) (rest := []) C (mo_playAt l G a (nI 0) K σ hI u i (nI k) tv (nI k).toNatClampNeg (by omega) (by omega) (hO.2.2.1 i (by omega)) (fun _ => ⟨by rw [hck], by rw [hck]; exact hk⟩)) (lw_V q970 q972 qs28 q48 q973) hdX3_playAt ⟨Nat.le_of_ble_eq_true rfl, Nat.le_of_ble_eq_true rfl⟩ (zrM hE hP) (hP) hl.1 rfl (Nat.le_of_ble_eq_true rfl) ⟨Nat.le_of_ble_eq_true rfl, Nat.le_of_ble_eq_true rfl⟩ dX3_play_83 hS (fun _ h => h) (fun H locs hP _ hS => ?_)
                refine lv_goto (tgt := 94) hx hb dX3_play_86 (by decide) ?_
                exact zw_iretE C (by unfold oPlay; rw [if_pos c_1, if_pos c_2, hci, if_pos c_3, if_pos c_6.2, if_pos c_7]; unfold oPlayOn; rw [hci, if_pos c_8, hcu, if_neg c_9]; try rfl) (by unfold oPlay; rw [if_pos c_1, if_pos c_2, hci, if_pos c_3, if_pos c_6.2, if_pos c_7]; unfold oPlayOn; rw [hci, if_pos c_8, hcu, if_neg c_9]; exact hP) hS dX3_play_94
          · refine lv_aload_n hx hb dX3_play_54 rfl (lv_at hl 0 rfl) ?_
            refine lv_iconst (v := nI 2) hx hb dX3_play_55 (by decide) ?_
            refine zwV1 (As := [.int (nI 2)]) (rest := []) C (mo_fail l G a (nI 0) K σ hI (nI 2)) (lw_V q855 q857 qs12 q48 q858) hdX3_fail ⟨Nat.le_of_ble_eq_true rfl, Nat.le_of_ble_eq_true rfl⟩ (zrM hE hP) (hP) hl.1 rfl (Nat.le_of_ble_eq_true rfl) ⟨Nat.le_of_ble_eq_true rfl, Nat.le_of_ble_eq_true rfl⟩ dX3_play_56 hS (fun _ h => h) (fun H locs hP _ hS => ?_)
            exact zw_iretE C (by unfold oPlay; rw [if_pos c_1, if_pos c_2, hci, if_pos c_3, if_pos c_6.2, if_neg c_7]; try rfl) (by unfold oPlay; rw [if_pos c_1, if_pos c_2, hci, if_pos c_3, if_pos c_6.2, if_neg c_7]; exact hP) hS dX3_play_59
    · refine lv_aload_n hx hb dX3_play_21 rfl (lv_at hl 0 rfl) ?_
      refine lv_iconst (v := nI 1) hx hb dX3_play_22 (by decide) ?_
      refine zwV1 (As := [.int (nI 1)]) (rest := []) C (mo_fail l G a (nI 0) K σ hI (nI 1)) (lw_V q855 q857 qs12 q48 q858) hdX3_fail ⟨Nat.le_of_ble_eq_true rfl, Nat.le_of_ble_eq_true rfl⟩ (zrM hE hP) (hP) hl.1 rfl (Nat.le_of_ble_eq_true rfl) ⟨Nat.le_of_ble_eq_true rfl, Nat.le_of_ble_eq_true rfl⟩ dX3_play_23 hS (fun _ h => h) (fun H locs hP _ hS => ?_)
      exact zw_iretE C (by unfold oPlay; rw [if_pos c_1, if_neg c_2]; try rfl) (by unfold oPlay; rw [if_pos c_1, if_neg c_2]; exact hP) hS dX3_play_26

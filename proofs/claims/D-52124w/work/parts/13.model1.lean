/-! the model: its small methods (printed by gen/m13.py) -/
set_option maxRecDepth 100000
set_option maxHeartbeats 4000000 in
theorem mo_isIn (l : Launch) (G : zG) (v lo hi : Int32) : zMro l yX3_isIn cX3_isIn 3 (some .boolean) 0 G [.int v, .int lo, .int hi] (fun _ => True) (some (.int (if lo ≤ v ∧ v ≤ hi then 1 else 0))) := by
  refine zMk [(0, .int v), (1, .int lo), (2, .int hi)] (by decide) (Nat.le_of_ble_eq_true rfl) rfl ?_
  intro p e s m below meth c ls C hP hl _
  generalize ([.int v, .int lo, .int hi] : List Value).toArray = av at C ⊢
  have hx := C.1
  have hb := C.2.1
  have hml := C.2.2.1
  have hown := C.2.2.2.1
  have hts := C.2.2.2.2.1
  have hE := C.2.2.2.2.2.2.2
  refine lv_iload_n hx hb dX3_isIn_0 rfl (lv_at hl 0 rfl) ?_
  refine lv_iload_n hx hb dX3_isIn_1 rfl (lv_at hl 1 rfl) ?_
  refine lv_icmp_lt (tgt := 14) hx hb dX3_isIn_2 (by decide) (fun c_1 => ?_) (fun c_1 => ?_)
  · refine lv_iconst (v := nI 0) hx hb dX3_isIn_14 (by decide) ?_
    exact ze_zretE C ((if_neg (fun q => absurd q.1 (Int32.not_le.mpr c_1))).symm) (zb_nar _) dX3_isIn_15
  · refine lv_iload_n hx hb dX3_isIn_5 rfl (lv_at hl 0 rfl) ?_
    refine lv_iload_n hx hb dX3_isIn_6 rfl (lv_at hl 2 rfl) ?_
    refine lv_icmp_gt (tgt := 14) hx hb dX3_isIn_7 (by decide) (fun c_2 => ?_) (fun c_2 => ?_)
    · refine lv_iconst (v := nI 0) hx hb dX3_isIn_14 (by decide) ?_
      exact ze_zretE C ((if_neg (fun q => absurd q.2 (Int32.not_le.mpr c_2))).symm) (zb_nar _) dX3_isIn_15
    · refine lv_iconst (v := nI 1) hx hb dX3_isIn_10 (by decide) ?_
      refine lv_goto (tgt := 15) hx hb dX3_isIn_11 (by decide) ?_
      exact ze_zretE C ((if_pos ⟨Int32.not_lt.mp c_1, Int32.not_lt.mp c_2⟩).symm) (zb_nar _) dX3_isIn_15
set_option maxHeartbeats 4000000 in
theorem mo_ma (l : Launch) (G : zG) (a : Nat → Nat) (th : Int32) (K : zKt) (σ : zSt) (i w : Nat) (v : Int32) (hi : i < 8) (hw : w < 9) (hv : σ w i = v) : zMro l yX3_ma cX3_ma 3 (some .int) 0 G [.ref (a 0), .int (nI i), .int (nI w)] (zMP G a th K σ) (some (.int v)) := by
  refine zMk [(0, .ref (a 0)), (1, .int (nI i)), (2, .int (nI w))] (by decide) (Nat.le_of_ble_eq_true rfl) rfl ?_
  intro p e s m below meth c ls C hP hl _
  generalize ([.ref (a 0), .int (nI i), .int (nI w)] : List Value).toArray = av at C ⊢
  have hx := C.1
  have hb := C.2.1
  have hml := C.2.2.1
  have hown := C.2.2.2.1
  have hts := C.2.2.2.2.1
  have hE := C.2.2.2.2.2.2.2
  refine lv_aload_n hx hb dX3_ma_0 rfl (lv_at hl 0 rfl) ?_
  refine zgM C hP 6 (by decide) q816 rfl rfl dX3_ma_1 ?_
  refine lv_bipush (v := nI 9) hx hb dX3_ma_4 (by decide) ?_
  refine lv_iload_n hx hb dX3_ma_6 rfl (lv_at hl 1 rfl) ?_
  refine zn_mul C dX3_ma_7 ?_
  refine lv_iload_n hx hb dX3_ma_8 rfl (lv_at hl 2 rfl) ?_
  refine zn_add C dX3_ma_9 ?_
  refine zn_ald C hP 3 rfl (by omega) (Nat.le_of_ble_eq_true rfl) dX3_ma_10 ?_
  exact ze_iretE C (by rw [← hv]; show σ ((9 * i + w) % 9) ((9 * i + w) / 9) = _; rw [show (9 * i + w) % 9 = w by omega, show (9 * i + w) / 9 = i by omega]) dX3_ma_11
set_option maxHeartbeats 4000000 in
theorem mo_pl (l : Launch) (G : zG) (a : Nat → Nat) (th : Int32) (K : zKt) (σ : zSt) (i w : Nat) (v : Int32) (hi : i < 10) (hw : w < 6) (hv : σ (10 + w) i = v) : zMro l yX3_pl cX3_pl 3 (some .int) 0 G [.ref (a 0), .int (nI i), .int (nI w)] (zMP G a th K σ) (some (.int v)) := by
  refine zMk [(0, .ref (a 0)), (1, .int (nI i)), (2, .int (nI w))] (by decide) (Nat.le_of_ble_eq_true rfl) rfl ?_
  intro p e s m below meth c ls C hP hl _
  generalize ([.ref (a 0), .int (nI i), .int (nI w)] : List Value).toArray = av at C ⊢
  have hx := C.1
  have hb := C.2.1
  have hml := C.2.2.1
  have hown := C.2.2.2.1
  have hts := C.2.2.2.2.1
  have hE := C.2.2.2.2.2.2.2
  refine lv_aload_n hx hb dX3_pl_0 rfl (lv_at hl 0 rfl) ?_
  refine zgM C hP 8 (by decide) q818 rfl rfl dX3_pl_1 ?_
  refine lv_bipush (v := nI 6) hx hb dX3_pl_4 (by decide) ?_
  refine lv_iload_n hx hb dX3_pl_6 rfl (lv_at hl 1 rfl) ?_
  refine zn_mul C dX3_pl_7 ?_
  refine lv_iload_n hx hb dX3_pl_8 rfl (lv_at hl 2 rfl) ?_
  refine zn_add C dX3_pl_9 ?_
  refine zn_ald C hP 5 rfl (by omega) (Nat.le_of_ble_eq_true rfl) dX3_pl_10 ?_
  exact ze_iretE C (by rw [← hv]; show σ (10 + (6 * i + w) % 6) ((6 * i + w) / 6) = _; rw [show (6 * i + w) % 6 = w by omega, show (6 * i + w) / 6 = i by omega]) dX3_pl_11
set_option maxHeartbeats 4000000 in
theorem mo_setMa (l : Launch) (G : zG) (a : Nat → Nat) (th : Int32) (K : zKt) (σ : zSt) (hI : zInj a 8) (i w : Nat) (v : Int32) (hi : i < 8) (hw : w < 9) : zMrw l yX3_setMa cX3_setMa 4 (none) 0 0 0 G [.ref (a 0), .int (nI i), .int (nI w), .int v] (zMP G a th K σ) (none) (zMP G a th K (zup σ (w) i v)) (zA a 8) := by
  refine zMk [(0, .ref (a 0)), (1, .int (nI i)), (2, .int (nI w)), (3, .int v)] (by decide) (Nat.le_of_ble_eq_true rfl) rfl ?_
  intro p e s m below meth c ls C hP hl _
  generalize ([.ref (a 0), .int (nI i), .int (nI w), .int v] : List Value).toArray = av at C ⊢
  have hx := C.1
  have hb := C.2.1
  have hml := C.2.2.1
  have hown := C.2.2.2.1
  have hts := C.2.2.2.2.1
  have hE := C.2.2.2.2.2.2.2
  have hS : va_S (zA a 8) s.heap s.heap [] := va_S.rf
  refine lv_aload_n hx hb dX3_setMa_0 rfl (lv_at hl 0 rfl) ?_
  refine zgM C hP 6 (by decide) q816 rfl rfl dX3_setMa_1 ?_
  refine lv_bipush (v := nI 9) hx hb dX3_setMa_4 (by decide) ?_
  refine lv_iload_n hx hb dX3_setMa_6 rfl (lv_at hl 1 rfl) ?_
  refine zn_mul C dX3_setMa_7 ?_
  refine lv_iload_n hx hb dX3_setMa_8 rfl (lv_at hl 2 rfl) ?_
  refine zn_add C dX3_setMa_9 ?_
  refine lv_iload_n hx hb dX3_setMa_10 rfl (lv_at hl 3 rfl) ?_
  refine zn_ast C hP (zM_D hI (fun _ h => h)) hS 3 rfl (by omega) (Nat.le_of_ble_eq_true rfl) dX3_setMa_11 (fun H locs hP hS => ?_)
  rw [zM_tb hw] at hP
  exact zw_vret C hP hS dX3_setMa_12
set_option maxHeartbeats 4000000 in
theorem mo_setPl (l : Launch) (G : zG) (a : Nat → Nat) (th : Int32) (K : zKt) (σ : zSt) (hI : zInj a 8) (i w : Nat) (v : Int32) (hi : i < 10) (hw : w < 6) : zMrw l yX3_setPl cX3_setPl 4 (none) 0 0 0 G [.ref (a 0), .int (nI i), .int (nI w), .int v] (zMP G a th K σ) (none) (zMP G a th K (zup σ (10 + w) i v)) (zA a 8) := by
  refine zMk [(0, .ref (a 0)), (1, .int (nI i)), (2, .int (nI w)), (3, .int v)] (by decide) (Nat.le_of_ble_eq_true rfl) rfl ?_
  intro p e s m below meth c ls C hP hl _
  generalize ([.ref (a 0), .int (nI i), .int (nI w), .int v] : List Value).toArray = av at C ⊢
  have hx := C.1
  have hb := C.2.1
  have hml := C.2.2.1
  have hown := C.2.2.2.1
  have hts := C.2.2.2.2.1
  have hE := C.2.2.2.2.2.2.2
  have hS : va_S (zA a 8) s.heap s.heap [] := va_S.rf
  refine lv_aload_n hx hb dX3_setPl_0 rfl (lv_at hl 0 rfl) ?_
  refine zgM C hP 8 (by decide) q818 rfl rfl dX3_setPl_1 ?_
  refine lv_bipush (v := nI 6) hx hb dX3_setPl_4 (by decide) ?_
  refine lv_iload_n hx hb dX3_setPl_6 rfl (lv_at hl 1 rfl) ?_
  refine zn_mul C dX3_setPl_7 ?_
  refine lv_iload_n hx hb dX3_setPl_8 rfl (lv_at hl 2 rfl) ?_
  refine zn_add C dX3_setPl_9 ?_
  refine lv_iload_n hx hb dX3_setPl_10 rfl (lv_at hl 3 rfl) ?_
  refine zn_ast C hP (zM_D hI (fun _ h => h)) hS 5 rfl (by omega) (Nat.le_of_ble_eq_true rfl) dX3_setPl_11 (fun H locs hP hS => ?_)
  rw [zM_pe hw] at hP
  exact zw_vret C hP hS dX3_setPl_12
set_option maxHeartbeats 4000000 in
theorem mo_pin (l : Launch) (G : zG) (i r k : Nat) : zMro l yX3_pin cX3_pin 3 (some .int) 0 G [.int (nI i), .int (nI r), .int (nI k)] (fun _ => True) (some (.int (nI (9 * (12 * i + r) + k)))) := by
  refine zMk [(0, .int (nI i)), (1, .int (nI r)), (2, .int (nI k))] (by decide) (Nat.le_of_ble_eq_true rfl) rfl ?_
  intro p e s m below meth c ls C hP hl _
  generalize ([.int (nI i), .int (nI r), .int (nI k)] : List Value).toArray = av at C ⊢
  have hx := C.1
  have hb := C.2.1
  have hml := C.2.2.1
  have hown := C.2.2.2.1
  have hts := C.2.2.2.2.1
  have hE := C.2.2.2.2.2.2.2
  refine lv_bipush (v := nI 9) hx hb dX3_pin_0 (by decide) ?_
  refine lv_bipush (v := nI 12) hx hb dX3_pin_2 (by decide) ?_
  refine lv_iload_n hx hb dX3_pin_4 rfl (lv_at hl 0 rfl) ?_
  refine zn_mul C dX3_pin_5 ?_
  refine lv_iload_n hx hb dX3_pin_6 rfl (lv_at hl 1 rfl) ?_
  refine zn_add C dX3_pin_7 ?_
  refine zn_mul C dX3_pin_8 ?_
  refine lv_iload_n hx hb dX3_pin_9 rfl (lv_at hl 2 rfl) ?_
  refine zn_add C dX3_pin_10 ?_
  exact ze_iretE C (rfl) dX3_pin_11
set_option maxHeartbeats 4000000 in
theorem mo_isTable (l : Launch) (G : zG) (a : Nat → Nat) (th : Int32) (K : zKt) (σ : zSt) (i : Nat) (hi : i < 8) : zMro l yX3_isTable cX3_isTable 2 (some .boolean) 1 G [.ref (a 0), .int (nI i)] (zMP G a th K σ) (some (.int (if σ 0 i = 0 then 1 else 0))) := by
  refine zMk [(0, .ref (a 0)), (1, .int (nI i))] (by decide) (Nat.le_of_ble_eq_true rfl) rfl ?_
  intro p e s m below meth c ls C hP hl _
  generalize ([.ref (a 0), .int (nI i)] : List Value).toArray = av at C ⊢
  have hx := C.1
  have hb := C.2.1
  have hml := C.2.2.1
  have hown := C.2.2.2.1
  have hts := C.2.2.2.2.1
  have hE := C.2.2.2.2.2.2.2
  refine lv_aload_n hx hb dX3_isTable_0 rfl (lv_at hl 0 rfl) ?_
  refine lv_iload_n hx hb dX3_isTable_1 rfl (lv_at hl 1 rfl) ?_
  refine lv_iconst (v := nI 0) hx hb dX3_isTable_2 (by decide) ?_
  refine zcV1 (As := [.int (nI i), .int (nI 0)]) (rest := []) C (mo_ma l G a th K σ i 0 _ (by omega) (by omega) rfl) (lw_V q884 q886 qs17 q48 q887) hdX3_ma ⟨Nat.le_of_ble_eq_true rfl, Nat.le_of_ble_eq_true rfl⟩ (zrM hE hP) (hP) hl.1 rfl (Nat.le_of_ble_eq_true rfl) ⟨Nat.le_of_ble_eq_true rfl, Nat.le_of_ble_eq_true rfl⟩ dX3_isTable_3 ?_
  refine lv_if_ne (tgt := 13) hx hb dX3_isTable_6 (by decide) (fun c_1 => ?_) (fun c_1 => ?_)
  · refine lv_iconst (v := nI 0) hx hb dX3_isTable_13 (by decide) ?_
    exact ze_zretE C ((if_neg c_1).symm) (zb_nar _) dX3_isTable_14
  · refine lv_iconst (v := nI 1) hx hb dX3_isTable_9 (by decide) ?_
    refine lv_goto (tgt := 14) hx hb dX3_isTable_10 (by decide) ?_
    exact ze_zretE C ((if_pos c_1).symm) (zb_nar _) dX3_isTable_14
set_option maxHeartbeats 4000000 in
theorem mo_works (l : Launch) (G : zG) (a : Nat → Nat) (th : Int32) (K : zKt) (σ : zSt) (i : Nat) (hi : i < 8) : zMro l yX3_works cX3_works 2 (some .boolean) 1 G [.ref (a 0), .int (nI i)] (zMP G a th K σ) (some (.int (if σ 6 i = 0 then 1 else 0))) := by
  refine zMk [(0, .ref (a 0)), (1, .int (nI i))] (by decide) (Nat.le_of_ble_eq_true rfl) rfl ?_
  intro p e s m below meth c ls C hP hl _
  generalize ([.ref (a 0), .int (nI i)] : List Value).toArray = av at C ⊢
  have hx := C.1
  have hb := C.2.1
  have hml := C.2.2.1
  have hown := C.2.2.2.1
  have hts := C.2.2.2.2.1
  have hE := C.2.2.2.2.2.2.2
  refine lv_aload_n hx hb dX3_works_0 rfl (lv_at hl 0 rfl) ?_
  refine lv_iload_n hx hb dX3_works_1 rfl (lv_at hl 1 rfl) ?_
  refine lv_bipush (v := nI 6) hx hb dX3_works_2 (by decide) ?_
  refine zcV1 (As := [.int (nI i), .int (nI 6)]) (rest := []) C (mo_ma l G a th K σ i 6 _ (by omega) (by omega) rfl) (lw_V q884 q886 qs17 q48 q887) hdX3_ma ⟨Nat.le_of_ble_eq_true rfl, Nat.le_of_ble_eq_true rfl⟩ (zrM hE hP) (hP) hl.1 rfl (Nat.le_of_ble_eq_true rfl) ⟨Nat.le_of_ble_eq_true rfl, Nat.le_of_ble_eq_true rfl⟩ dX3_works_4 ?_
  refine lv_if_ne (tgt := 14) hx hb dX3_works_7 (by decide) (fun c_1 => ?_) (fun c_1 => ?_)
  · refine lv_iconst (v := nI 0) hx hb dX3_works_14 (by decide) ?_
    exact ze_zretE C ((if_neg c_1).symm) (zb_nar _) dX3_works_15
  · refine lv_iconst (v := nI 1) hx hb dX3_works_10 (by decide) ?_
    refine lv_goto (tgt := 15) hx hb dX3_works_11 (by decide) ?_
    exact ze_zretE C ((if_pos c_1).symm) (zb_nar _) dX3_works_15
set_option maxHeartbeats 4000000 in
theorem mo_isMachine (l : Launch) (G : zG) (a : Nat → Nat) (th : Int32) (K : zKt) (σ : zSt) (v : Int32) : zMro l yX3_isMachine cX3_isMachine 2 (some .boolean) 1 G [.ref (a 0), .int v] (zMP G a th K σ) (some (.int (if nI 0 ≤ v ∧ v ≤ nI (zkM K) - nI 1 then 1 else 0))) := by
  refine zMk [(0, .ref (a 0)), (1, .int v)] (by decide) (Nat.le_of_ble_eq_true rfl) rfl ?_
  intro p e s m below meth c ls C hP hl _
  generalize ([.ref (a 0), .int v] : List Value).toArray = av at C ⊢
  have hx := C.1
  have hb := C.2.1
  have hml := C.2.2.1
  have hown := C.2.2.2.1
  have hts := C.2.2.2.2.1
  have hE := C.2.2.2.2.2.2.2
  refine lv_iload_n hx hb dX3_isMachine_0 rfl (lv_at hl 1 rfl) ?_
  refine lv_iconst (v := nI 0) hx hb dX3_isMachine_1 (by decide) ?_
  refine lv_aload_n hx hb dX3_isMachine_2 rfl (lv_at hl 0 rfl) ?_
  refine zgM C hP 1 (by decide) q811 rfl rfl dX3_isMachine_3 ?_
  refine lv_iconst (v := nI 1) hx hb dX3_isMachine_6 (by decide) ?_
  refine lv_isub hx hb dX3_isMachine_7 ?_
  refine zcS1 (As := [.int v, .int (nI 0), .int ((nI (zkM K)) - (nI 1))]) (rest := []) C (mo_isIn l G v (nI 0) (nI (zkM K) - nI 1)) (lw_S q852 q853 q48 q854) hdX3_isIn.2 ⟨Nat.le_of_ble_eq_true rfl, Nat.le_of_ble_eq_true rfl⟩ (trivial) hl.1 rfl (Nat.le_of_ble_eq_true rfl) ⟨Nat.le_of_ble_eq_true rfl, Nat.le_of_ble_eq_true rfl⟩ dX3_isMachine_8 ?_
  exact ze_zretE C (rfl) (zb_nar _) dX3_isMachine_11
set_option maxHeartbeats 4000000 in
theorem mo_isPlayer (l : Launch) (G : zG) (a : Nat → Nat) (th : Int32) (K : zKt) (σ : zSt) (v : Int32) : zMro l yX3_isPlayer cX3_isPlayer 2 (some .boolean) 1 G [.ref (a 0), .int v] (zMP G a th K σ) (some (.int (if nI 0 ≤ v ∧ v ≤ nI (zkP K) - nI 1 then 1 else 0))) := by
  refine zMk [(0, .ref (a 0)), (1, .int v)] (by decide) (Nat.le_of_ble_eq_true rfl) rfl ?_
  intro p e s m below meth c ls C hP hl _
  generalize ([.ref (a 0), .int v] : List Value).toArray = av at C ⊢
  have hx := C.1
  have hb := C.2.1
  have hml := C.2.2.1
  have hown := C.2.2.2.1
  have hts := C.2.2.2.2.1
  have hE := C.2.2.2.2.2.2.2
  refine lv_iload_n hx hb dX3_isPlayer_0 rfl (lv_at hl 1 rfl) ?_
  refine lv_iconst (v := nI 0) hx hb dX3_isPlayer_1 (by decide) ?_
  refine lv_aload_n hx hb dX3_isPlayer_2 rfl (lv_at hl 0 rfl) ?_
  refine zgM C hP 2 (by decide) q812 rfl rfl dX3_isPlayer_3 ?_
  refine lv_iconst (v := nI 1) hx hb dX3_isPlayer_6 (by decide) ?_
  refine lv_isub hx hb dX3_isPlayer_7 ?_
  refine zcS1 (As := [.int v, .int (nI 0), .int ((nI (zkP K)) - (nI 1))]) (rest := []) C (mo_isIn l G v (nI 0) (nI (zkP K) - nI 1)) (lw_S q852 q853 q48 q854) hdX3_isIn.2 ⟨Nat.le_of_ble_eq_true rfl, Nat.le_of_ble_eq_true rfl⟩ (trivial) hl.1 rfl (Nat.le_of_ble_eq_true rfl) ⟨Nat.le_of_ble_eq_true rfl, Nat.le_of_ble_eq_true rfl⟩ dX3_isPlayer_8 ?_
  exact ze_zretE C (rfl) (zb_nar _) dX3_isPlayer_11

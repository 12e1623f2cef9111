/-! the model: columns, ledges, where a token ends, the best tilt (printed by gen/m14.py) -/
set_option maxRecDepth 100000
set_option maxHeartbeats 4000000 in
theorem mo_isColumn (l : Launch) (G : zG) (a : Nat → Nat) (th : Int32) (K : zKt) (σ : zSt) (i : Nat) (v : Int32) (hi : i < 8) : zMro l yX3_isColumn cX3_isColumn 3 (some .boolean) 2 G [.ref (a 0), .int (nI i), .int v] (zMP G a th K σ) (some (.int (if σ 0 i = 0 ∧ nI 0 ≤ v ∧ v ≤ σ 1 i - nI 1 then 1 else 0))) := by
  refine zMk [(0, .ref (a 0)), (1, .int (nI i)), (2, .int v)] (by decide) (Nat.le_of_ble_eq_true rfl) rfl ?_
  intro p e s m below meth c ls C hP hl _
  generalize ([.ref (a 0), .int (nI i), .int v] : List Value).toArray = av at C ⊢
  have hx := C.1
  have hb := C.2.1
  have hml := C.2.2.1
  have hown := C.2.2.2.1
  have hts := C.2.2.2.2.1
  have hE := C.2.2.2.2.2.2.2
  refine lv_aload_n hx hb dX3_isColumn_0 rfl (lv_at hl 0 rfl) ?_
  refine lv_iload_n hx hb dX3_isColumn_1 rfl (lv_at hl 1 rfl) ?_
  refine zcV1 (As := [.int (nI i)]) (rest := []) C (mo_isTable l G a th K σ i (by omega)) (lw_V q880 q882 qs16 q48 q883) hdX3_isTable ⟨Nat.le_of_ble_eq_true rfl, Nat.le_of_ble_eq_true rfl⟩ (zrM hE hP) (hP) hl.1 rfl (Nat.le_of_ble_eq_true rfl) ⟨Nat.le_of_ble_eq_true rfl, Nat.le_of_ble_eq_true rfl⟩ dX3_isColumn_2 ?_
  refine zb_if (σ 0 i = 0) (tgt := 28) C rfl dX3_isColumn_5 (by decide) (fun c_1 => ?_) (fun c_1 => ?_)
  · refine lv_iconst (v := nI 0) hx hb dX3_isColumn_28 (by decide) ?_
    exact ze_zretE C ((if_neg (fun q => c_1 q.1)).symm) (zb_nar _) dX3_isColumn_29
  · refine lv_iload_n hx hb dX3_isColumn_8 rfl (lv_at hl 2 rfl) ?_
    refine lv_iconst (v := nI 0) hx hb dX3_isColumn_9 (by decide) ?_
    refine lv_aload_n hx hb dX3_isColumn_10 rfl (lv_at hl 0 rfl) ?_
    refine lv_iload_n hx hb dX3_isColumn_11 rfl (lv_at hl 1 rfl) ?_
    refine lv_iconst (v := nI 1) hx hb dX3_isColumn_12 (by decide) ?_
    refine zcV1 (As := [.int (nI i), .int (nI 1)]) (rest := [.int (nI 0), .int v]) C (mo_ma l G a th K σ i 1 (σ 1 i) (by omega) (by omega) rfl) (lw_V q884 q886 qs17 q48 q887) hdX3_ma ⟨Nat.le_of_ble_eq_true rfl, Nat.le_of_ble_eq_true rfl⟩ (zrM hE hP) (hP) hl.1 rfl (Nat.le_of_ble_eq_true rfl) ⟨Nat.le_of_ble_eq_true rfl, Nat.le_of_ble_eq_true rfl⟩ dX3_isColumn_13 ?_
    refine lv_iconst (v := nI 1) hx hb dX3_isColumn_16 (by decide) ?_
    refine lv_isub hx hb dX3_isColumn_17 ?_
    refine zcS1 (As := [.int v, .int (nI 0), .int ((σ 1 i) - (nI 1))]) (rest := []) C (mo_isIn l G v (nI 0) ((σ 1 i) - (nI 1))) (lw_S q852 q853 q48 q854) hdX3_isIn.2 ⟨Nat.le_of_ble_eq_true rfl, Nat.le_of_ble_eq_true rfl⟩ (trivial) hl.1 rfl (Nat.le_of_ble_eq_true rfl) ⟨Nat.le_of_ble_eq_true rfl, Nat.le_of_ble_eq_true rfl⟩ dX3_isColumn_18 ?_
    refine zb_if ((nI 0) ≤ v ∧ v ≤ ((σ 1 i) - (nI 1))) (tgt := 28) C rfl dX3_isColumn_21 (by decide) (fun c_2 => ?_) (fun c_2 => ?_)
    · refine lv_iconst (v := nI 0) hx hb dX3_isColumn_28 (by decide) ?_
      exact ze_zretE C ((if_neg (fun q => c_2 q.2)).symm) (zb_nar _) dX3_isColumn_29
    · refine lv_iconst (v := nI 1) hx hb dX3_isColumn_24 (by decide) ?_
      refine lv_goto (tgt := 29) hx hb dX3_isColumn_25 (by decide) ?_
      exact ze_zretE C ((if_pos ⟨c_1, c_2⟩).symm) (zb_nar _) dX3_isColumn_29
set_option maxHeartbeats 4000000 in
theorem mo_onLedge (l : Launch) (G : zG) (a : Nat → Nat) (th : Int32) (K : zKt) (σ : zSt) (i : Nat) (hi : i < 8) : zMro l yX3_onLedge cX3_onLedge 4 (some .int) 0 G [.ref (a 0), .int (nI i)] (zMP G a th K σ) (some (.int (zOnL σ i))) := by
  refine zMk [(0, .ref (a 0)), (1, .int (nI i))] (by decide) (Nat.le_of_ble_eq_true rfl) rfl ?_
  intro p e s m below meth c ls C hP hl _
  generalize ([.ref (a 0), .int (nI i)] : List Value).toArray = av at C ⊢
  have hx := C.1
  have hb := C.2.1
  have hml := C.2.2.1
  have hown := C.2.2.2.1
  have hts := C.2.2.2.2.1
  have hE := C.2.2.2.2.2.2.2
  refine lv_iconst (v := nI 0) hx hb dX3_onLedge_0 (by decide) ?_
  refine lv_istore_n (lv' := [(2, .int (nI 0)), (0, .ref (a 0)), (1, .int (nI i))]) hx hb dX3_onLedge_1 rfl hl (by decide) rfl (fun ls hl => ?_)
  refine lv_iconst (v := nI 0) hx hb dX3_onLedge_2 (by decide) ?_
  refine lv_istore_n (lv' := [(3, .int (nI 0)), (2, .int (nI 0)), (0, .ref (a 0)), (1, .int (nI i))]) hx hb dX3_onLedge_3 rfl hl (by decide) rfl (fun ls hl => ?_)
  have loop : ∀ (n : Nat) (k : Nat), (k ≤ 5) → (6 ≤ k + n) → ∀ (ls : Array Slot), lv_has ls 4 [(3, .int (nI k)), (2, .int (zSum (fun k => σ 20 (5 * i + k)) k)), (0, .ref (a 0)), (1, .int (nI i))] → W p l e (zRm 0 0 0) s m av below meth c s.heap [] 0 0 (MQ below (zRO (some (.int (zOnL σ i)))) av s 0 0 (fun _ => False)) (F0 m 4 ls []) := by
    intro n
    induction n with
    | zero =>
      intro k h1 h2
      exact absurd (And.intro h1 h2) (by omega)
    | succ n ih =>
      intro k h1 h2 ls hl
      refine lv_iload_n hx hb dX3_onLedge_4 rfl (lv_at hl 0 rfl) ?_
      refine lv_iconst (v := nI 5) hx hb dX3_onLedge_5 (by decide) ?_
      refine zn_ge (tgt := 28) C (by omega) (by omega) dX3_onLedge_6 (by decide) (fun c_1 => ?_) (fun c_1 => ?_)
      · have hk : k = 5 := by omega
        subst hk
        refine lv_iload_n hx hb dX3_onLedge_28 rfl (lv_at hl 1 rfl) ?_
        exact ze_iretE C (rfl) dX3_onLedge_29
      · refine lv_iload_n hx hb dX3_onLedge_9 rfl (lv_at hl 1 rfl) ?_
        refine lv_aload_n hx hb dX3_onLedge_10 rfl (lv_at hl 2 rfl) ?_
        refine zgM C hP 7 (by decide) q817 rfl rfl dX3_onLedge_11 ?_
        refine lv_iconst (v := nI 5) hx hb dX3_onLedge_14 (by decide) ?_
        refine lv_iload_n hx hb dX3_onLedge_15 rfl (lv_at hl 3 rfl) ?_
        refine zn_mul C dX3_onLedge_16 ?_
        refine lv_iload_n hx hb dX3_onLedge_17 rfl (lv_at hl 0 rfl) ?_
        refine zn_add C dX3_onLedge_18 ?_
        refine zn_ald C hP 4 rfl (by omega) (Nat.le_of_ble_eq_true rfl) dX3_onLedge_19 ?_
        refine lv_iadd hx hb dX3_onLedge_20 ?_
        refine lv_istore_n (lv' := [(2, .int ((zSum (fun k => σ 20 (5 * i + k)) k) + (σ 20 (5 * i + k)))), (3, .int (nI k)), (0, .ref (a 0)), (1, .int (nI i))]) hx hb dX3_onLedge_21 rfl hl (by decide) rfl (fun ls hl => ?_)
        refine lv_iinc (v := nI (k + 1)) (lv' := [(3, .int (nI (k + 1))), (2, .int ((zSum (fun k => σ 20 (5 * i + k)) k) + (σ 20 (5 * i + k)))), (0, .ref (a 0)), (1, .int (nI i))]) hx hb dX3_onLedge_22 hl (k := 1) rfl (nI_1 _) (by decide) rfl (fun ls hl => ?_)
        refine lv_goto (tgt := 4) hx hb dX3_onLedge_25 (by decide) ?_
        exact ih (k + 1) (by omega) (by omega) ls (lv_sub hl [0, 1, 2, 3] rfl)
  exact loop 6 0 (by omega) (by omega) ls (lv_sub hl [0, 1, 2, 3] rfl)
set_option maxHeartbeats 4000000 in
theorem mo_end (l : Launch) (G : zG) (a : Nat → Nat) (th : Int32) (K : zKt) (σ : zSt) (i col : Nat) (tilt : Int32) (hi : i < 8) (hT : zTab σ i) (hc : col < zWd σ i) : zMro l yX3_end cX3_end 8 (some .int) 1 G [.ref (a 0), .int (nI i), .int (nI col), .int tilt] (zMP G a th K σ) (some (.int (nI (zEnd K σ i col tilt)))) := by
  refine zMk [(0, .ref (a 0)), (1, .int (nI i)), (2, .int (nI col)), (3, .int tilt)] (by decide) (Nat.le_of_ble_eq_true rfl) rfl ?_
  intro p e s m below meth c ls C hP hl _
  generalize ([.ref (a 0), .int (nI i), .int (nI col), .int tilt] : List Value).toArray = av at C ⊢
  have hx := C.1
  have hb := C.2.1
  have hml := C.2.2.1
  have hown := C.2.2.2.1
  have hts := C.2.2.2.2.1
  have hE := C.2.2.2.2.2.2.2
  obtain ⟨hk0, hw1, hw2, hd1, hd2, ew, ed⟩ := hT
  generalize hW : zWd σ i = wd at hw1 hw2 ew hc
  generalize hD : zDp σ i = dp at hd1 hd2 ed
  have eR : zEnd K σ i col tilt = zEndR K i wd tilt col dp := by unfold zEnd; rw [hW, hD]
  rw [eR]
  refine lv_iload_n hx hb dX3_end_0 rfl (lv_at hl 2 rfl) ?_
  refine lv_istore (lv' := [(4, .int (nI col)), (0, .ref (a 0)), (1, .int (nI i)), (2, .int (nI col)), (3, .int tilt)]) hx hb dX3_end_1 hl (by decide) rfl (fun ls hl => ?_)
  refine lv_iconst (v := nI 0) hx hb dX3_end_3 (by decide) ?_
  refine lv_istore (lv' := [(5, .int (nI 0)), (4, .int (nI col)), (0, .ref (a 0)), (1, .int (nI i)), (2, .int (nI col)), (3, .int tilt)]) hx hb dX3_end_4 hl (by decide) rfl (fun ls hl => ?_)
  have loop : ∀ (n : Nat) (r k : Nat), (r ≤ dp) → (dp + 1 ≤ r + n) → (k = zEndR K i wd tilt col r) → ∀ (ls : Array Slot), lv_has ls 8 [(5, .int (nI r)), (4, .int (nI k)), (0, .ref (a 0)), (1, .int (nI i)), (2, .int (nI col)), (3, .int tilt)] → W p l e (zRm 1 0 0) s m av below meth c s.heap [] 0 0 (MQ below (zRO (some (.int (nI (zEndR K i wd tilt col dp))))) av s 0 0 (fun _ => False)) (F0 m 6 ls []) := by
    intro n
    induction n with
    | zero =>
      intro r k h1 h2 h3
      exact absurd (And.intro h1 h2) (by omega)
    | succ n ih =>
      intro r k h1 h2 h3 ls hl
      have hkw : k < wd := by rw [h3]; exact zEndR_in hc (by omega) r
      refine lv_iload hx hb dX3_end_6 (lv_at hl 0 rfl) ?_
      refine lv_aload_n hx hb dX3_end_8 rfl (lv_at hl 2 rfl) ?_
      refine lv_iload_n hx hb dX3_end_9 rfl (lv_at hl 3 rfl) ?_
      refine lv_iconst (v := nI 2) hx hb dX3_end_10 (by decide) ?_
      refine zcV1 (As := [.int (nI i), .int (nI 2)]) (rest := [.int (nI r)]) C (mo_ma l G a th K σ i 2 (nI dp) (by omega) (by omega) ed) (lw_V q884 q886 qs17 q48 q887) hdX3_ma ⟨Nat.le_of_ble_eq_true rfl, Nat.le_of_ble_eq_true rfl⟩ (zrM hE hP) (hP) hl.1 rfl (Nat.le_of_ble_eq_true rfl) ⟨Nat.le_of_ble_eq_true rfl, Nat.le_of_ble_eq_true rfl⟩ dX3_end_11 ?_
      refine zn_ge (tgt := 87) C (by omega) (by omega) dX3_end_14 (by decide) (fun c_1 => ?_) (fun c_1 => ?_)
      · have hr : r = dp := by omega
        subst hr
        refine lv_iload hx hb dX3_end_87 (lv_at hl 1 rfl) ?_
        exact ze_iretE C (by rw [h3]) dX3_end_89
      · refine lv_aload_n hx hb dX3_end_17 rfl (lv_at hl 2 rfl) ?_
        refine zgM C hP 5 (by decide) q815 rfl rfl dX3_end_18 ?_
        refine lv_iload_n hx hb dX3_end_21 rfl (lv_at hl 3 rfl) ?_
        refine lv_iload hx hb dX3_end_22 (lv_at hl 0 rfl) ?_
        refine lv_iload hx hb dX3_end_24 (lv_at hl 1 rfl) ?_
        refine zcS1 (As := [.int (nI i), .int (nI r), .int (nI k)]) (rest := [.ref (a 2)]) C (mo_pin l G i r k) (lw_S q888 q889 q48 q890) hdX3_pin.2 ⟨Nat.le_of_ble_eq_true rfl, Nat.le_of_ble_eq_true rfl⟩ (trivial) hl.1 rfl (Nat.le_of_ble_eq_true rfl) ⟨Nat.le_of_ble_eq_true rfl, Nat.le_of_ble_eq_true rfl⟩ dX3_end_26 ?_
        refine zn_ald C hP 2 rfl (by omega) (Nat.le_of_ble_eq_true rfl) dX3_end_29 ?_
        rw [show (9 * (12 * i + r) + k) / 108 = i by omega, show (9 * (12 * i + r) + k) % 108 / 9 = r by omega, show (9 * (12 * i + r) + k) % 9 = k by omega]
        refine lv_istore (lv' := [(6, .int (zkN K i r k)), (5, .int (nI r)), (4, .int (nI k)), (0, .ref (a 0)), (1, .int (nI i)), (2, .int (nI col)), (3, .int tilt)]) hx hb dX3_end_30 hl (by decide) rfl (fun ls hl => ?_)
        have join : ∀ (x : Int32), x = (if zkN K i r k = 0 then (if (r + k) % 2 = 0 then tilt else nI 0) else zkN K i r k) → W p l e (zRm 1 0 0) s m av below meth c s.heap [] 0 0 (MQ below (zRO (some (.int (nI (zEndR K i wd tilt col dp))))) av s 0 0 (fun _ => False)) (F0 m 57 ls [.int x]) := by
          intro x ex
          refine lv_istore (lv' := [(7, .int x), (6, .int (zkN K i r k)), (5, .int (nI r)), (4, .int (nI k)), (0, .ref (a 0)), (1, .int (nI i)), (2, .int (nI col)), (3, .int tilt)]) hx hb dX3_end_57 hl (by decide) rfl (fun ls hl => ?_)
          refine lv_iconst (v := nI 0) hx hb dX3_end_59 (by decide) ?_
          refine lv_aload_n hx hb dX3_end_60 rfl (lv_at hl 4 rfl) ?_
          refine lv_iload_n hx hb dX3_end_61 rfl (lv_at hl 5 rfl) ?_
          refine lv_iconst (v := nI 1) hx hb dX3_end_62 (by decide) ?_
          refine zcV1 (As := [.int (nI i), .int (nI 1)]) (rest := [.int (nI 0)]) C (mo_ma l G a th K σ i 1 (nI wd) (by omega) (by omega) ew) (lw_V q884 q886 qs17 q48 q887) hdX3_ma ⟨Nat.le_of_ble_eq_true rfl, Nat.le_of_ble_eq_true rfl⟩ (zrM hE hP) (hP) hl.1 rfl (Nat.le_of_ble_eq_true rfl) ⟨Nat.le_of_ble_eq_true rfl, Nat.le_of_ble_eq_true rfl⟩ dX3_end_63 ?_
          refine lv_iconst (v := nI 1) hx hb dX3_end_66 (by decide) ?_
          refine lv_isub hx hb dX3_end_67 ?_
          refine lv_iload hx hb dX3_end_68 (lv_at hl 3 rfl) ?_
          refine lv_iload hx hb dX3_end_70 (lv_at hl 0 rfl) ?_
          refine lv_iadd hx hb dX3_end_72 ?_
          refine va_mmin hx hb (hml.trans hl.1.symm) hown (hts _ q919) (hts _ q454) (hts _ q57) (hts _ q455) (Nat.le_of_ble_eq_true rfl) (Nat.le_of_ble_eq_true rfl) (Nat.le_of_ble_eq_true rfl) (Nat.le_of_ble_eq_true rfl) dX3_end_73 ?_
          refine va_mmax hx hb (hml.trans hl.1.symm) hown (hts _ q920) (hts _ q423) (hts _ q57) (hts _ q424) (Nat.le_of_ble_eq_true rfl) (Nat.le_of_ble_eq_true rfl) (Nat.le_of_ble_eq_true rfl) (Nat.le_of_ble_eq_true rfl) dX3_end_76 ?_
          obtain ⟨g1, g2⟩ := zStp_in (K := K) (i := i) (w := wd) (tilt := tilt) (r := r) (c := k) (by omega) (by omega)
          rw [← ex] at g2
          rw [show (if (nI 0) < (if ((nI k) + x) < ((nI wd) - (nI 1)) then ((nI k) + x) else ((nI wd) - (nI 1))) then (if ((nI k) + x) < ((nI wd) - (nI 1)) then ((nI k) + x) else ((nI wd) - (nI 1))) else (nI 0)) = nI (zStp K i wd tilt r k) from g2]
          refine lv_istore (lv' := [(4, .int (nI (zStp K i wd tilt r k))), (7, .int x), (6, .int (zkN K i r k)), (5, .int (nI r)), (0, .ref (a 0)), (1, .int (nI i)), (2, .int (nI col)), (3, .int tilt)]) hx hb dX3_end_79 hl (by decide) rfl (fun ls hl => ?_)
          refine lv_iinc (v := nI (r + 1)) (lv' := [(5, .int (nI (r + 1))), (4, .int (nI (zStp K i wd tilt r k))), (7, .int x), (6, .int (zkN K i r k)), (0, .ref (a 0)), (1, .int (nI i)), (2, .int (nI col)), (3, .int tilt)]) hx hb dX3_end_81 hl (k := 3) rfl (nI_1 _) (by decide) rfl (fun ls hl => ?_)
          refine lv_goto (tgt := 6) hx hb dX3_end_84 (by decide) ?_
          exact ih (r + 1) _ (by omega) (by omega) (by rw [h3]; rfl) ls (lv_sub hl [0, 1, 4, 5, 6, 7] rfl)
        refine lv_iload hx hb dX3_end_32 (lv_at hl 0 rfl) ?_
        refine lv_if_eq (tgt := 42) hx hb dX3_end_34 (by decide) (fun c_2 => ?_) (fun c_2 => ?_)
        · refine lv_iload hx hb dX3_end_42 (lv_at hl 1 rfl) ?_
          refine lv_iload hx hb dX3_end_44 (lv_at hl 2 rfl) ?_
          refine zn_add C dX3_end_46 ?_
          refine lv_iconst (v := nI 2) hx hb dX3_end_47 (by decide) ?_
          refine zn_rem C (by omega) (by omega) (by omega) dX3_end_48 ?_
          refine zn_ifn0 (tgt := 56) C (by omega) dX3_end_49 (by decide) (fun c_3 => ?_) (fun c_3 => ?_)
          · refine lv_iconst (v := nI 0) hx hb dX3_end_56 (by decide) ?_
            exact join _ (by rw [if_pos c_2, if_neg c_3])
          · refine lv_iload_n hx hb dX3_end_52 rfl (lv_at hl 6 rfl) ?_
            refine lv_goto (tgt := 57) hx hb dX3_end_53 (by decide) ?_
            exact join _ (by rw [if_pos c_2, if_pos c_3])
        · refine lv_iload hx hb dX3_end_37 (lv_at hl 0 rfl) ?_
          refine lv_goto (tgt := 57) hx hb dX3_end_39 (by decide) ?_
          exact join _ (by rw [if_neg c_2])
  exact loop (dp + 1) 0 col (by omega) (by omega) rfl ls (lv_sub hl [0, 1, 2, 3, 4, 5] rfl)
set_option maxHeartbeats 4000000 in
theorem mo_cupOf (l : Launch) (G : zG) (a : Nat → Nat) (th : Int32) (K : zKt) (σ : zSt) (i col : Nat) (tilt : Int32) (hi : i < 8) (hT : zTab σ i) (hc : col < zWd σ i) : zMro l yX3_cupOf cX3_cupOf 4 (some .int) 2 G [.ref (a 0), .int (nI i), .int (nI col), .int tilt] (zMP G a th K σ) (some (.int (zCup K σ i col tilt))) := by
  refine zMk [(0, .ref (a 0)), (1, .int (nI i)), (2, .int (nI col)), (3, .int tilt)] (by decide) (Nat.le_of_ble_eq_true rfl) rfl ?_
  intro p e s m below meth c ls C hP hl _
  generalize ([.ref (a 0), .int (nI i), .int (nI col), .int tilt] : List Value).toArray = av at C ⊢
  have hx := C.1
  have hb := C.2.1
  have hml := C.2.2.1
  have hown := C.2.2.2.1
  have hts := C.2.2.2.2.1
  have hE := C.2.2.2.2.2.2.2
  have hin : zEnd K σ i col tilt < zWd σ i := zEndR_in hc (by have := hT.2.2.1; omega) _
  have hw9 : zWd σ i ≤ 9 := hT.2.2.1
  refine lv_aload_n hx hb dX3_cupOf_0 rfl (lv_at hl 0 rfl) ?_
  refine zgM C hP 4 (by decide) q814 rfl rfl dX3_cupOf_1 ?_
  refine lv_bipush (v := nI 9) hx hb dX3_cupOf_4 (by decide) ?_
  refine lv_iload_n hx hb dX3_cupOf_6 rfl (lv_at hl 1 rfl) ?_
  refine zn_mul C dX3_cupOf_7 ?_
  refine lv_aload_n hx hb dX3_cupOf_8 rfl (lv_at hl 0 rfl) ?_
  refine lv_iload_n hx hb dX3_cupOf_9 rfl (lv_at hl 1 rfl) ?_
  refine lv_iload_n hx hb dX3_cupOf_10 rfl (lv_at hl 2 rfl) ?_
  refine lv_iload_n hx hb dX3_cupOf_11 rfl (lv_at hl 3 rfl) ?_
  refine zcV1 (As := [.int (nI i), .int (nI col), .int tilt]) (rest := [.int (nI (9 * i)), .ref (a 1)]) C (mo_end l G a th K σ i col tilt hi hT hc) (lw_V q915 q917 qs21 q48 q918) hdX3_end ⟨Nat.le_of_ble_eq_true rfl, Nat.le_of_ble_eq_true rfl⟩ (zrM hE hP) (hP) hl.1 rfl (Nat.le_of_ble_eq_true rfl) ⟨Nat.le_of_ble_eq_true rfl, Nat.le_of_ble_eq_true rfl⟩ dX3_cupOf_12 ?_
  refine zn_add C dX3_cupOf_15 ?_
  refine zn_ald C hP 1 rfl (by omega) (Nat.le_of_ble_eq_true rfl) dX3_cupOf_16 ?_
  exact ze_iretE C (by show zkC K ((9 * i + zEnd K σ i col tilt) / 9) ((9 * i + zEnd K σ i col tilt) % 9) = _; rw [show (9 * i + zEnd K σ i col tilt) / 9 = i by omega, show (9 * i + zEnd K σ i col tilt) % 9 = zEnd K σ i col tilt by omega]; rfl) dX3_cupOf_17
set_option maxHeartbeats 4000000 in
theorem mo_best (l : Launch) (G : zG) (a : Nat → Nat) (th : Int32) (K : zKt) (σ : zSt) (i col : Nat) (hi : i < 8) (hT : zTab σ i) (hc : col < zWd σ i) : zMro l yX3_best cX3_best 5 (some .int) 3 G [.ref (a 0), .int (nI i), .int (nI col)] (zMP G a th K σ) (some (.int (zBest K σ i col))) := by
  refine zMk [(0, .ref (a 0)), (1, .int (nI i)), (2, .int (nI col))] (by decide) (Nat.le_of_ble_eq_true rfl) rfl ?_
  intro p e s m below meth c ls C hP hl _
  generalize ([.ref (a 0), .int (nI i), .int (nI col)] : List Value).toArray = av at C ⊢
  have hx := C.1
  have hb := C.2.1
  have hml := C.2.2.1
  have hown := C.2.2.2.1
  have hts := C.2.2.2.2.1
  have hE := C.2.2.2.2.2.2.2
  refine lv_iconst (v := (-1)) hx hb dX3_best_0 (by decide) ?_
  refine lv_istore_n (lv' := [(3, .int (-1)), (0, .ref (a 0)), (1, .int (nI i)), (2, .int (nI col))]) hx hb dX3_best_1 rfl hl (by decide) rfl (fun ls hl => ?_)
  refine lv_iconst (v := nI 0) hx hb dX3_best_2 (by decide) ?_
  refine lv_istore (lv' := [(4, .int (nI 0)), (3, .int (-1)), (0, .ref (a 0)), (1, .int (nI i)), (2, .int (nI col))]) hx hb dX3_best_3 hl (by decide) rfl (fun ls hl => ?_)
  refine lv_iload hx hb dX3_best_5 (lv_at hl 0 rfl) ?_
  refine lv_iconst (v := nI 2) hx hb dX3_best_7 (by decide) ?_
  refine zn_ge (tgt := 38) C (by decide) (by decide) dX3_best_8 (by decide) (fun c_1 => ?_) (fun c_1 => ?_)
  · exact absurd c_1 (by decide)
  · refine lv_aload_n hx hb dX3_best_11 rfl (lv_at hl 2 rfl) ?_
    refine lv_iload_n hx hb dX3_best_12 rfl (lv_at hl 3 rfl) ?_
    refine lv_iload_n hx hb dX3_best_13 rfl (lv_at hl 4 rfl) ?_
    refine lv_iload hx hb dX3_best_14 (lv_at hl 0 rfl) ?_
    refine zcV1 (As := [.int (nI i), .int (nI col), .int (nI 0)]) (rest := []) C (mo_cupOf l G a th K σ i col (nI 0) hi hT hc) (lw_V q929 q931 qs23 q48 q932) hdX3_cupOf ⟨Nat.le_of_ble_eq_true rfl, Nat.le_of_ble_eq_true rfl⟩ (zrM hE hP) (hP) hl.1 rfl (Nat.le_of_ble_eq_true rfl) ⟨Nat.le_of_ble_eq_true rfl, Nat.le_of_ble_eq_true rfl⟩ dX3_best_16 ?_
    refine lv_aload_n hx hb dX3_best_19 rfl (lv_at hl 2 rfl) ?_
    refine lv_iload_n hx hb dX3_best_20 rfl (lv_at hl 3 rfl) ?_
    refine lv_iload_n hx hb dX3_best_21 rfl (lv_at hl 4 rfl) ?_
    refine lv_iload_n hx hb dX3_best_22 rfl (lv_at hl 1 rfl) ?_
    refine zcV1 (As := [.int (nI i), .int (nI col), .int (-1)]) (rest := [.int (zCup K σ i col (nI 0))]) C (mo_cupOf l G a th K σ i col (-1) hi hT hc) (lw_V q929 q931 qs23 q48 q932) hdX3_cupOf ⟨Nat.le_of_ble_eq_true rfl, Nat.le_of_ble_eq_true rfl⟩ (zrM hE hP) (hP) hl.1 rfl (Nat.le_of_ble_eq_true rfl) ⟨Nat.le_of_ble_eq_true rfl, Nat.le_of_ble_eq_true rfl⟩ dX3_best_23 ?_
    refine lv_icmp_le (tgt := 32) hx hb dX3_best_26 (by decide) (fun c_2 => ?_) (fun c_2 => ?_)
    · refine lv_iinc (v := nI (0 + 1)) (lv' := [(4, .int (nI (0 + 1))), (3, .int (-1)), (0, .ref (a 0)), (1, .int (nI i)), (2, .int (nI col))]) hx hb dX3_best_32 hl (k := 0) rfl (nI_1 _) (by decide) rfl (fun ls hl => ?_)
      refine lv_goto (tgt := 5) hx hb dX3_best_35 (by decide) ?_
      refine lv_iload hx hb dX3_best_5 (lv_at hl 0 rfl) ?_
      refine lv_iconst (v := nI 2) hx hb dX3_best_7 (by decide) ?_
      refine zn_ge (tgt := 38) C (by decide) (by decide) dX3_best_8 (by decide) (fun c_3 => ?_) (fun c_3 => ?_)
      · exact absurd c_3 (by decide)
      · refine lv_aload_n hx hb dX3_best_11 rfl (lv_at hl 2 rfl) ?_
        refine lv_iload_n hx hb dX3_best_12 rfl (lv_at hl 3 rfl) ?_
        refine lv_iload_n hx hb dX3_best_13 rfl (lv_at hl 4 rfl) ?_
        refine lv_iload hx hb dX3_best_14 (lv_at hl 0 rfl) ?_
        refine zcV1 (As := [.int (nI i), .int (nI col), .int (nI (0 + 1))]) (rest := []) C (mo_cupOf l G a th K σ i col (nI (0 + 1)) hi hT hc) (lw_V q929 q931 qs23 q48 q932) hdX3_cupOf ⟨Nat.le_of_ble_eq_true rfl, Nat.le_of_ble_eq_true rfl⟩ (zrM hE hP) (hP) hl.1 rfl (Nat.le_of_ble_eq_true rfl) ⟨Nat.le_of_ble_eq_true rfl, Nat.le_of_ble_eq_true rfl⟩ dX3_best_16 ?_
        refine lv_aload_n hx hb dX3_best_19 rfl (lv_at hl 2 rfl) ?_
        refine lv_iload_n hx hb dX3_best_20 rfl (lv_at hl 3 rfl) ?_
        refine lv_iload_n hx hb dX3_best_21 rfl (lv_at hl 4 rfl) ?_
        refine lv_iload_n hx hb dX3_best_22 rfl (lv_at hl 1 rfl) ?_
        refine zcV1 (As := [.int (nI i), .int (nI col), .int (-1)]) (rest := [.int (zCup K σ i col (nI (0 + 1)))]) C (mo_cupOf l G a th K σ i col (-1) hi hT hc) (lw_V q929 q931 qs23 q48 q932) hdX3_cupOf ⟨Nat.le_of_ble_eq_true rfl, Nat.le_of_ble_eq_true rfl⟩ (zrM hE hP) (hP) hl.1 rfl (Nat.le_of_ble_eq_true rfl) ⟨Nat.le_of_ble_eq_true rfl, Nat.le_of_ble_eq_true rfl⟩ dX3_best_23 ?_
        refine lv_icmp_le (tgt := 32) hx hb dX3_best_26 (by decide) (fun c_4 => ?_) (fun c_4 => ?_)
        · refine lv_iinc (v := nI (0 + 1 + 1)) (lv' := [(4, .int (nI (0 + 1 + 1))), (3, .int (-1)), (0, .ref (a 0)), (1, .int (nI i)), (2, .int (nI col))]) hx hb dX3_best_32 hl (k := 0) rfl (nI_1 _) (by decide) rfl (fun ls hl => ?_)
          refine lv_goto (tgt := 5) hx hb dX3_best_35 (by decide) ?_
          refine lv_iload hx hb dX3_best_5 (lv_at hl 0 rfl) ?_
          refine lv_iconst (v := nI 2) hx hb dX3_best_7 (by decide) ?_
          refine zn_ge (tgt := 38) C (by decide) (by decide) dX3_best_8 (by decide) (fun c_5 => ?_) (fun c_5 => ?_)
          · refine lv_iload_n hx hb dX3_best_38 rfl (lv_at hl 1 rfl) ?_
            exact ze_iretE C (by unfold zBest zB1; rw [if_pos c_2, if_pos c_4]) dX3_best_39
          · exact absurd c_5 (by decide)
        · refine lv_iload hx hb dX3_best_29 (lv_at hl 0 rfl) ?_
          refine lv_istore_n (lv' := [(3, .int (nI (0 + 1))), (4, .int (nI (0 + 1))), (0, .ref (a 0)), (1, .int (nI i)), (2, .int (nI col))]) hx hb dX3_best_31 rfl hl (by decide) rfl (fun ls hl => ?_)
          refine lv_iinc (v := nI (0 + 1 + 1)) (lv' := [(4, .int (nI (0 + 1 + 1))), (3, .int (nI (0 + 1))), (0, .ref (a 0)), (1, .int (nI i)), (2, .int (nI col))]) hx hb dX3_best_32 hl (k := 1) rfl (nI_1 _) (by decide) rfl (fun ls hl => ?_)
          refine lv_goto (tgt := 5) hx hb dX3_best_35 (by decide) ?_
          refine lv_iload hx hb dX3_best_5 (lv_at hl 0 rfl) ?_
          refine lv_iconst (v := nI 2) hx hb dX3_best_7 (by decide) ?_
          refine zn_ge (tgt := 38) C (by decide) (by decide) dX3_best_8 (by decide) (fun c_6 => ?_) (fun c_6 => ?_)
          · refine lv_iload_n hx hb dX3_best_38 rfl (lv_at hl 1 rfl) ?_
            exact ze_iretE C (by unfold zBest zB1; rw [if_pos c_2, if_neg c_4]) dX3_best_39
          · exact absurd c_6 (by decide)
    · refine lv_iload hx hb dX3_best_29 (lv_at hl 0 rfl) ?_
      refine lv_istore_n (lv' := [(3, .int (nI 0)), (4, .int (nI 0)), (0, .ref (a 0)), (1, .int (nI i)), (2, .int (nI col))]) hx hb dX3_best_31 rfl hl (by decide) rfl (fun ls hl => ?_)
      refine lv_iinc (v := nI (0 + 1)) (lv' := [(4, .int (nI (0 + 1))), (3, .int (nI 0)), (0, .ref (a 0)), (1, .int (nI i)), (2, .int (nI col))]) hx hb dX3_best_32 hl (k := 1) rfl (nI_1 _) (by decide) rfl (fun ls hl => ?_)
      refine lv_goto (tgt := 5) hx hb dX3_best_35 (by decide) ?_
      refine lv_iload hx hb dX3_best_5 (lv_at hl 0 rfl) ?_
      refine lv_iconst (v := nI 2) hx hb dX3_best_7 (by decide) ?_
      refine zn_ge (tgt := 38) C (by decide) (by decide) dX3_best_8 (by decide) (fun c_7 => ?_) (fun c_7 => ?_)
      · exact absurd c_7 (by decide)
      · refine lv_aload_n hx hb dX3_best_11 rfl (lv_at hl 2 rfl) ?_
        refine lv_iload_n hx hb dX3_best_12 rfl (lv_at hl 3 rfl) ?_
        refine lv_iload_n hx hb dX3_best_13 rfl (lv_at hl 4 rfl) ?_
        refine lv_iload hx hb dX3_best_14 (lv_at hl 0 rfl) ?_
        refine zcV1 (As := [.int (nI i), .int (nI col), .int (nI (0 + 1))]) (rest := []) C (mo_cupOf l G a th K σ i col (nI (0 + 1)) hi hT hc) (lw_V q929 q931 qs23 q48 q932) hdX3_cupOf ⟨Nat.le_of_ble_eq_true rfl, Nat.le_of_ble_eq_true rfl⟩ (zrM hE hP) (hP) hl.1 rfl (Nat.le_of_ble_eq_true rfl) ⟨Nat.le_of_ble_eq_true rfl, Nat.le_of_ble_eq_true rfl⟩ dX3_best_16 ?_
        refine lv_aload_n hx hb dX3_best_19 rfl (lv_at hl 2 rfl) ?_
        refine lv_iload_n hx hb dX3_best_20 rfl (lv_at hl 3 rfl) ?_
        refine lv_iload_n hx hb dX3_best_21 rfl (lv_at hl 4 rfl) ?_
        refine lv_iload_n hx hb dX3_best_22 rfl (lv_at hl 1 rfl) ?_
        refine zcV1 (As := [.int (nI i), .int (nI col), .int (nI 0)]) (rest := [.int (zCup K σ i col (nI (0 + 1)))]) C (mo_cupOf l G a th K σ i col (nI 0) hi hT hc) (lw_V q929 q931 qs23 q48 q932) hdX3_cupOf ⟨Nat.le_of_ble_eq_true rfl, Nat.le_of_ble_eq_true rfl⟩ (zrM hE hP) (hP) hl.1 rfl (Nat.le_of_ble_eq_true rfl) ⟨Nat.le_of_ble_eq_true rfl, Nat.le_of_ble_eq_true rfl⟩ dX3_best_23 ?_
        refine lv_icmp_le (tgt := 32) hx hb dX3_best_26 (by decide) (fun c_8 => ?_) (fun c_8 => ?_)
        · refine lv_iinc (v := nI (0 + 1 + 1)) (lv' := [(4, .int (nI (0 + 1 + 1))), (3, .int (nI 0)), (0, .ref (a 0)), (1, .int (nI i)), (2, .int (nI col))]) hx hb dX3_best_32 hl (k := 0) rfl (nI_1 _) (by decide) rfl (fun ls hl => ?_)
          refine lv_goto (tgt := 5) hx hb dX3_best_35 (by decide) ?_
          refine lv_iload hx hb dX3_best_5 (lv_at hl 0 rfl) ?_
          refine lv_iconst (v := nI 2) hx hb dX3_best_7 (by decide) ?_
          refine zn_ge (tgt := 38) C (by decide) (by decide) dX3_best_8 (by decide) (fun c_9 => ?_) (fun c_9 => ?_)
          · refine lv_iload_n hx hb dX3_best_38 rfl (lv_at hl 1 rfl) ?_
            exact ze_iretE C (by unfold zBest zB1; rw [if_neg c_2, if_pos c_8]) dX3_best_39
          · exact absurd c_9 (by decide)
        · refine lv_iload hx hb dX3_best_29 (lv_at hl 0 rfl) ?_
          refine lv_istore_n (lv' := [(3, .int (nI (0 + 1))), (4, .int (nI (0 + 1))), (0, .ref (a 0)), (1, .int (nI i)), (2, .int (nI col))]) hx hb dX3_best_31 rfl hl (by decide) rfl (fun ls hl => ?_)
          refine lv_iinc (v := nI (0 + 1 + 1)) (lv' := [(4, .int (nI (0 + 1 + 1))), (3, .int (nI (0 + 1))), (0, .ref (a 0)), (1, .int (nI i)), (2, .int (nI col))]) hx hb dX3_best_32 hl (k := 1) rfl (nI_1 _) (by decide) rfl (fun ls hl => ?_)
          refine lv_goto (tgt := 5) hx hb dX3_best_35 (by decide) ?_
          refine lv_iload hx hb dX3_best_5 (lv_at hl 0 rfl) ?_
          refine lv_iconst (v := nI 2) hx hb dX3_best_7 (by decide) ?_
          refine zn_ge (tgt := 38) C (by decide) (by decide) dX3_best_8 (by decide) (fun c_10 => ?_) (fun c_10 => ?_)
          · refine lv_iload_n hx hb dX3_best_38 rfl (lv_at hl 1 rfl) ?_
            exact ze_iretE C (by unfold zBest zB1; rw [if_neg c_2, if_neg c_8]) dX3_best_39
          · exact absurd c_10 (by decide)

/-! the model: sums, the lure, the row of repairs (printed by gen/m16.py) -/
set_option maxRecDepth 100000
set_option maxHeartbeats 4000000 in
theorem mo_jammed (l : Launch) (G : zG) (a : Nat → Nat) (th : Int32) (K : zKt) (σ : zSt) (hM : zkM K ≤ 8) : zMro l yX3_jammed cX3_jammed 3 (some .int) 1 G [.ref (a 0)] (zMP G a th K σ) (some (.int (zSum (σ 6) (zkM K)))) := by
  refine zMk [(0, .ref (a 0))] (by decide) (Nat.le_of_ble_eq_true rfl) rfl ?_
  intro p e s m below meth c ls C hP hl _
  generalize ([.ref (a 0)] : List Value).toArray = av at C ⊢
  have hx := C.1
  have hb := C.2.1
  have hml := C.2.2.1
  have hown := C.2.2.2.1
  have hts := C.2.2.2.2.1
  have hE := C.2.2.2.2.2.2.2
  refine lv_iconst (v := nI 0) hx hb dX3_jammed_0 (by decide) ?_
  refine lv_istore_n (lv' := [(1, .int (nI 0)), (0, .ref (a 0))]) hx hb dX3_jammed_1 rfl hl (by decide) rfl (fun ls hl => ?_)
  refine lv_iconst (v := nI 0) hx hb dX3_jammed_2 (by decide) ?_
  refine lv_istore_n (lv' := [(2, .int (nI 0)), (1, .int (nI 0)), (0, .ref (a 0))]) hx hb dX3_jammed_3 rfl hl (by decide) rfl (fun ls hl => ?_)
  have loop : ∀ (n : Nat) (k : Nat), (k ≤ zkM K) → (zkM K + 1 ≤ k + n) → ∀ (ls : Array Slot), lv_has ls 3 [(2, .int (nI k)), (1, .int (zSum (σ 6) k)), (0, .ref (a 0))] → W p l e (zRm 1 0 0) s m av below meth c s.heap [] 0 0 (MQ below (zRO (some (.int (zSum (σ 6) (zkM K))))) av s 0 0 (fun _ => False)) (F0 m 4 ls []) := by
    intro n
    induction n with
    | zero =>
      intro k h1 h2
      exact absurd (And.intro h1 h2) (by omega)
    | succ n ih =>
      intro k h1 h2 ls hl
      refine lv_iload_n hx hb dX3_jammed_4 rfl (lv_at hl 0 rfl) ?_
      refine lv_aload_n hx hb dX3_jammed_5 rfl (lv_at hl 2 rfl) ?_
      refine zgM C hP 1 (by decide) q811 rfl rfl dX3_jammed_6 ?_
      refine zn_ge (tgt := 28) C (by omega) (by omega) dX3_jammed_9 (by decide) (fun c_1 => ?_) (fun c_1 => ?_)
      · have hk : k = zkM K := by omega
        subst hk
        refine lv_iload_n hx hb dX3_jammed_28 rfl (lv_at hl 1 rfl) ?_
        exact ze_iretE C (rfl) dX3_jammed_29
      · refine lv_iload_n hx hb dX3_jammed_12 rfl (lv_at hl 1 rfl) ?_
        refine lv_aload_n hx hb dX3_jammed_13 rfl (lv_at hl 2 rfl) ?_
        refine lv_iload_n hx hb dX3_jammed_14 rfl (lv_at hl 0 rfl) ?_
        refine lv_bipush (v := nI 6) hx hb dX3_jammed_15 (by decide) ?_
        refine zcV1 (As := [.int (nI k), .int (nI 6)]) (rest := [.int (zSum (σ 6) k)]) C (mo_ma l G a th K σ k 6 (σ 6 k) (by omega) (by omega) rfl) (lw_V q884 q886 qs17 q48 q887) hdX3_ma ⟨Nat.le_of_ble_eq_true rfl, Nat.le_of_ble_eq_true rfl⟩ (zrM hE hP) (hP) hl.1 rfl (Nat.le_of_ble_eq_true rfl) ⟨Nat.le_of_ble_eq_true rfl, Nat.le_of_ble_eq_true rfl⟩ dX3_jammed_17 ?_
        refine lv_iadd hx hb dX3_jammed_20 ?_
        refine lv_istore_n (lv' := [(1, .int ((zSum (σ 6) k) + (σ 6 k))), (2, .int (nI k)), (0, .ref (a 0))]) hx hb dX3_jammed_21 rfl hl (by decide) rfl (fun ls hl => ?_)
        refine lv_iinc (v := nI (k + 1)) (lv' := [(2, .int (nI (k + 1))), (1, .int ((zSum (σ 6) k) + (σ 6 k))), (0, .ref (a 0))]) hx hb dX3_jammed_22 hl (k := 1) rfl (nI_1 _) (by decide) rfl (fun ls hl => ?_)
        refine lv_goto (tgt := 4) hx hb dX3_jammed_25 (by decide) ?_
        exact ih (k + 1) (by omega) (by omega) ls (lv_sub hl [0, 1, 2] rfl)
  exact loop (zkM K + 1) 0 (by omega) (by omega) ls (lv_sub hl [0, 1, 2] rfl)
set_option maxHeartbeats 4000000 in
theorem mo_boxes (l : Launch) (G : zG) (a : Nat → Nat) (th : Int32) (K : zKt) (σ : zSt) (hM : zkM K ≤ 8) : zMro l yX3_boxes cX3_boxes 3 (some .int) 1 G [.ref (a 0)] (zMP G a th K σ) (some (.int (zSum (σ 4) (zkM K)))) := by
  refine zMk [(0, .ref (a 0))] (by decide) (Nat.le_of_ble_eq_true rfl) rfl ?_
  intro p e s m below meth c ls C hP hl _
  generalize ([.ref (a 0)] : List Value).toArray = av at C ⊢
  have hx := C.1
  have hb := C.2.1
  have hml := C.2.2.1
  have hown := C.2.2.2.1
  have hts := C.2.2.2.2.1
  have hE := C.2.2.2.2.2.2.2
  refine lv_iconst (v := nI 0) hx hb dX3_boxes_0 (by decide) ?_
  refine lv_istore_n (lv' := [(1, .int (nI 0)), (0, .ref (a 0))]) hx hb dX3_boxes_1 rfl hl (by decide) rfl (fun ls hl => ?_)
  refine lv_iconst (v := nI 0) hx hb dX3_boxes_2 (by decide) ?_
  refine lv_istore_n (lv' := [(2, .int (nI 0)), (1, .int (nI 0)), (0, .ref (a 0))]) hx hb dX3_boxes_3 rfl hl (by decide) rfl (fun ls hl => ?_)
  have loop : ∀ (n : Nat) (k : Nat), (k ≤ zkM K) → (zkM K + 1 ≤ k + n) → ∀ (ls : Array Slot), lv_has ls 3 [(2, .int (nI k)), (1, .int (zSum (σ 4) k)), (0, .ref (a 0))] → W p l e (zRm 1 0 0) s m av below meth c s.heap [] 0 0 (MQ below (zRO (some (.int (zSum (σ 4) (zkM K))))) av s 0 0 (fun _ => False)) (F0 m 4 ls []) := by
    intro n
    induction n with
    | zero =>
      intro k h1 h2
      exact absurd (And.intro h1 h2) (by omega)
    | succ n ih =>
      intro k h1 h2 ls hl
      refine lv_iload_n hx hb dX3_boxes_4 rfl (lv_at hl 0 rfl) ?_
      refine lv_aload_n hx hb dX3_boxes_5 rfl (lv_at hl 2 rfl) ?_
      refine zgM C hP 1 (by decide) q811 rfl rfl dX3_boxes_6 ?_
      refine zn_ge (tgt := 27) C (by omega) (by omega) dX3_boxes_9 (by decide) (fun c_1 => ?_) (fun c_1 => ?_)
      · have hk : k = zkM K := by omega
        subst hk
        refine lv_iload_n hx hb dX3_boxes_27 rfl (lv_at hl 1 rfl) ?_
        exact ze_iretE C (rfl) dX3_boxes_28
      · refine lv_iload_n hx hb dX3_boxes_12 rfl (lv_at hl 1 rfl) ?_
        refine lv_aload_n hx hb dX3_boxes_13 rfl (lv_at hl 2 rfl) ?_
        refine lv_iload_n hx hb dX3_boxes_14 rfl (lv_at hl 0 rfl) ?_
        refine lv_iconst (v := nI 4) hx hb dX3_boxes_15 (by decide) ?_
        refine zcV1 (As := [.int (nI k), .int (nI 4)]) (rest := [.int (zSum (σ 4) k)]) C (mo_ma l G a th K σ k 4 (σ 4 k) (by omega) (by omega) rfl) (lw_V q884 q886 qs17 q48 q887) hdX3_ma ⟨Nat.le_of_ble_eq_true rfl, Nat.le_of_ble_eq_true rfl⟩ (zrM hE hP) (hP) hl.1 rfl (Nat.le_of_ble_eq_true rfl) ⟨Nat.le_of_ble_eq_true rfl, Nat.le_of_ble_eq_true rfl⟩ dX3_boxes_16 ?_
        refine lv_iadd hx hb dX3_boxes_19 ?_
        refine lv_istore_n (lv' := [(1, .int ((zSum (σ 4) k) + (σ 4 k))), (2, .int (nI k)), (0, .ref (a 0))]) hx hb dX3_boxes_20 rfl hl (by decide) rfl (fun ls hl => ?_)
        refine lv_iinc (v := nI (k + 1)) (lv' := [(2, .int (nI (k + 1))), (1, .int ((zSum (σ 4) k) + (σ 4 k))), (0, .ref (a 0))]) hx hb dX3_boxes_21 hl (k := 1) rfl (nI_1 _) (by decide) rfl (fun ls hl => ?_)
        refine lv_goto (tgt := 4) hx hb dX3_boxes_24 (by decide) ?_
        exact ih (k + 1) (by omega) (by omega) ls (lv_sub hl [0, 1, 2] rfl)
  exact loop (zkM K + 1) 0 (by omega) (by omega) ls (lv_sub hl [0, 1, 2] rfl)
set_option maxHeartbeats 4000000 in
theorem mo_lure (l : Launch) (G : zG) (a : Nat → Nat) (th : Int32) (K : zKt) (σ : zSt) (hM : zkM K ≤ 8) : zMro l yX3_lure cX3_lure 3 (some .int) 2 G [.ref (a 0)] (zMP G a th K σ) (some (.int (zoI (zLu σ (zkM K))))) := by
  refine zMk [(0, .ref (a 0))] (by decide) (Nat.le_of_ble_eq_true rfl) rfl ?_
  intro p e s m below meth c ls C hP hl _
  generalize ([.ref (a 0)] : List Value).toArray = av at C ⊢
  have hx := C.1
  have hb := C.2.1
  have hml := C.2.2.1
  have hown := C.2.2.2.1
  have hts := C.2.2.2.2.1
  have hE := C.2.2.2.2.2.2.2
  refine lv_iconst (v := (-1)) hx hb dX3_lure_0 (by decide) ?_
  refine lv_istore_n (lv' := [(1, .int (-1)), (0, .ref (a 0))]) hx hb dX3_lure_1 rfl hl (by decide) rfl (fun ls hl => ?_)
  refine lv_iconst (v := nI 0) hx hb dX3_lure_2 (by decide) ?_
  refine lv_istore_n (lv' := [(2, .int (nI 0)), (1, .int (-1)), (0, .ref (a 0))]) hx hb dX3_lure_3 rfl hl (by decide) rfl (fun ls hl => ?_)
  have loop : ∀ (n : Nat) (k : Nat), (k ≤ zkM K) → (zkM K + 1 ≤ k + n) → ∀ (ls : Array Slot), lv_has ls 3 [(2, .int (nI k)), (1, .int (zoI (zLu σ k))), (0, .ref (a 0))] → W p l e (zRm 2 0 0) s m av below meth c s.heap [] 0 0 (MQ below (zRO (some (.int (zoI (zLu σ (zkM K)))))) av s 0 0 (fun _ => False)) (F0 m 4 ls []) := by
    intro n
    induction n with
    | zero =>
      intro k h1 h2
      exact absurd (And.intro h1 h2) (by omega)
    | succ n ih =>
      intro k h1 h2 ls hl
      refine lv_iload_n hx hb dX3_lure_4 rfl (lv_at hl 0 rfl) ?_
      refine lv_aload_n hx hb dX3_lure_5 rfl (lv_at hl 2 rfl) ?_
      refine zgM C hP 1 (by decide) q811 rfl rfl dX3_lure_6 ?_
      refine zn_ge (tgt := 60) C (by omega) (by omega) dX3_lure_9 (by decide) (fun c_1 => ?_) (fun c_1 => ?_)
      · have hk : k = zkM K := by omega
        subst hk
        refine lv_iload_n hx hb dX3_lure_60 rfl (lv_at hl 1 rfl) ?_
        exact ze_iretE C (rfl) dX3_lure_61
      · refine lv_aload_n hx hb dX3_lure_12 rfl (lv_at hl 2 rfl) ?_
        refine lv_iload_n hx hb dX3_lure_13 rfl (lv_at hl 0 rfl) ?_
        refine zcV1 (As := [.int (nI k)]) (rest := []) C (mo_works l G a th K σ k (by omega)) (lw_V q966 q968 qs27 q48 q969) hdX3_works ⟨Nat.le_of_ble_eq_true rfl, Nat.le_of_ble_eq_true rfl⟩ (zrM hE hP) (hP) hl.1 rfl (Nat.le_of_ble_eq_true rfl) ⟨Nat.le_of_ble_eq_true rfl, Nat.le_of_ble_eq_true rfl⟩ dX3_lure_14 ?_
        cases hbs : zLu σ k with
        | none =>
          have hl : lv_has ls 3 [(2, .int (nI k)), (1, .int (-1)), (0, .ref (a 0))] := by rw [hbs] at hl; exact hl
          refine zb_if (σ 6 k = 0) (tgt := 54) C rfl dX3_lure_17 (by decide) (fun c_2 => ?_) (fun c_2 => ?_)
          · refine lv_iinc (v := nI (k + 1)) (lv' := [(2, .int (nI (k + 1))), (1, .int (-1)), (0, .ref (a 0))]) hx hb dX3_lure_54 hl (k := 0) rfl (nI_1 _) (by decide) rfl (fun ls hl => ?_)
            refine lv_goto (tgt := 4) hx hb dX3_lure_57 (by decide) ?_
            have e9 : zLu σ (k + 1) = none := by unfold zLu; rw [hbs]; simp only; rw [if_neg c_2]
            exact ih (k + 1) (by omega) (by omega) ls (by rw [e9]; exact (lv_sub hl [0, 1, 2] rfl))
          · refine lv_iload_n hx hb dX3_lure_20 rfl (lv_at hl 1 rfl) ?_
            refine lv_iconst (v := (-1)) hx hb dX3_lure_21 (by decide) ?_
            refine lv_icmp_eq (tgt := 52) hx hb dX3_lure_22 (by decide) (fun c_3 => ?_) (fun c_3 => ?_)
            · refine lv_iload_n hx hb dX3_lure_52 rfl (lv_at hl 0 rfl) ?_
              refine lv_istore_n (lv' := [(1, .int (nI k)), (2, .int (nI k)), (0, .ref (a 0))]) hx hb dX3_lure_53 rfl hl (by decide) rfl (fun ls hl => ?_)
              refine lv_iinc (v := nI (k + 1)) (lv' := [(2, .int (nI (k + 1))), (1, .int (nI k)), (0, .ref (a 0))]) hx hb dX3_lure_54 hl (k := 1) rfl (nI_1 _) (by decide) rfl (fun ls hl => ?_)
              refine lv_goto (tgt := 4) hx hb dX3_lure_57 (by decide) ?_
              have e9 : zLu σ (k + 1) = some k := by unfold zLu; rw [hbs]; simp only; rw [if_pos c_2]
              exact ih (k + 1) (by omega) (by omega) ls (by rw [e9]; exact (lv_sub hl [0, 1, 2] rfl))
            · exact absurd rfl c_3
        | some d =>
          have hl : lv_has ls 3 [(2, .int (nI k)), (1, .int (nI d)), (0, .ref (a 0))] := by rw [hbs] at hl; exact hl
          have hd := zLu_lt k d hbs
          refine zb_if (σ 6 k = 0) (tgt := 54) C rfl dX3_lure_17 (by decide) (fun c_4 => ?_) (fun c_4 => ?_)
          · refine lv_iinc (v := nI (k + 1)) (lv' := [(2, .int (nI (k + 1))), (1, .int (nI d)), (0, .ref (a 0))]) hx hb dX3_lure_54 hl (k := 0) rfl (nI_1 _) (by decide) rfl (fun ls hl => ?_)
            refine lv_goto (tgt := 4) hx hb dX3_lure_57 (by decide) ?_
            have e9 : zLu σ (k + 1) = some d := by unfold zLu; rw [hbs]; simp only; rw [if_neg c_4]
            exact ih (k + 1) (by omega) (by omega) ls (by rw [e9]; exact (lv_sub hl [0, 1, 2] rfl))
          · refine lv_iload_n hx hb dX3_lure_20 rfl (lv_at hl 1 rfl) ?_
            refine lv_iconst (v := (-1)) hx hb dX3_lure_21 (by decide) ?_
            refine lv_icmp_eq (tgt := 52) hx hb dX3_lure_22 (by decide) (fun c_5 => ?_) (fun c_5 => ?_)
            · exact absurd c_5 (zneM1 (by omega))
            · refine lv_aload_n hx hb dX3_lure_25 rfl (lv_at hl 2 rfl) ?_
              refine lv_iload_n hx hb dX3_lure_26 rfl (lv_at hl 0 rfl) ?_
              refine lv_iconst (v := nI 4) hx hb dX3_lure_27 (by decide) ?_
              refine zcV1 (As := [.int (nI k), .int (nI 4)]) (rest := []) C (mo_ma l G a th K σ k 4 (σ 4 k) (by omega) (by omega) rfl) (lw_V q884 q886 qs17 q48 q887) hdX3_ma ⟨Nat.le_of_ble_eq_true rfl, Nat.le_of_ble_eq_true rfl⟩ (zrM hE hP) (hP) hl.1 rfl (Nat.le_of_ble_eq_true rfl) ⟨Nat.le_of_ble_eq_true rfl, Nat.le_of_ble_eq_true rfl⟩ dX3_lure_28 ?_
              refine lv_aload_n hx hb dX3_lure_31 rfl (lv_at hl 2 rfl) ?_
              refine lv_iload_n hx hb dX3_lure_32 rfl (lv_at hl 0 rfl) ?_
              refine zcV1 (As := [.int (nI k)]) (rest := [.int (σ 4 k)]) C (mo_onLedge l G a th K σ k (by omega)) (lw_V q907 q909 qs20 q48 q910) hdX3_onLedge ⟨Nat.le_of_ble_eq_true rfl, Nat.le_of_ble_eq_true rfl⟩ (zrM hE hP) (hP) hl.1 rfl (Nat.le_of_ble_eq_true rfl) ⟨Nat.le_of_ble_eq_true rfl, Nat.le_of_ble_eq_true rfl⟩ dX3_lure_33 ?_
              refine lv_iadd hx hb dX3_lure_36 ?_
              refine lv_aload_n hx hb dX3_lure_37 rfl (lv_at hl 2 rfl) ?_
              refine lv_iload_n hx hb dX3_lure_38 rfl (lv_at hl 1 rfl) ?_
              refine lv_iconst (v := nI 4) hx hb dX3_lure_39 (by decide) ?_
              refine zcV1 (As := [.int (nI d), .int (nI 4)]) (rest := [.int ((σ 4 k) + (zOnL σ k))]) C (mo_ma l G a th K σ d 4 (σ 4 d) (by omega) (by omega) rfl) (lw_V q884 q886 qs17 q48 q887) hdX3_ma ⟨Nat.le_of_ble_eq_true rfl, Nat.le_of_ble_eq_true rfl⟩ (zrM hE hP) (hP) hl.1 rfl (Nat.le_of_ble_eq_true rfl) ⟨Nat.le_of_ble_eq_true rfl, Nat.le_of_ble_eq_true rfl⟩ dX3_lure_40 ?_
              refine lv_aload_n hx hb dX3_lure_43 rfl (lv_at hl 2 rfl) ?_
              refine lv_iload_n hx hb dX3_lure_44 rfl (lv_at hl 1 rfl) ?_
              refine zcV1 (As := [.int (nI d)]) (rest := [.int (σ 4 d), .int ((σ 4 k) + (zOnL σ k))]) C (mo_onLedge l G a th K σ d (by omega)) (lw_V q907 q909 qs20 q48 q910) hdX3_onLedge ⟨Nat.le_of_ble_eq_true rfl, Nat.le_of_ble_eq_true rfl⟩ (zrM hE hP) (hP) hl.1 rfl (Nat.le_of_ble_eq_true rfl) ⟨Nat.le_of_ble_eq_true rfl, Nat.le_of_ble_eq_true rfl⟩ dX3_lure_45 ?_
              refine lv_iadd hx hb dX3_lure_48 ?_
              refine lv_icmp_le (tgt := 54) hx hb dX3_lure_49 (by decide) (fun c_6 => ?_) (fun c_6 => ?_)
              · refine lv_iinc (v := nI (k + 1)) (lv' := [(2, .int (nI (k + 1))), (1, .int (nI d)), (0, .ref (a 0))]) hx hb dX3_lure_54 hl (k := 0) rfl (nI_1 _) (by decide) rfl (fun ls hl => ?_)
                refine lv_goto (tgt := 4) hx hb dX3_lure_57 (by decide) ?_
                have e9 : zLu σ (k + 1) = some d := by unfold zLu; rw [hbs]; simp only; rw [if_pos c_4, if_pos c_6]
                exact ih (k + 1) (by omega) (by omega) ls (by rw [e9]; exact (lv_sub hl [0, 1, 2] rfl))
              · refine lv_iload_n hx hb dX3_lure_52 rfl (lv_at hl 0 rfl) ?_
                refine lv_istore_n (lv' := [(1, .int (nI k)), (2, .int (nI k)), (0, .ref (a 0))]) hx hb dX3_lure_53 rfl hl (by decide) rfl (fun ls hl => ?_)
                refine lv_iinc (v := nI (k + 1)) (lv' := [(2, .int (nI (k + 1))), (1, .int (nI k)), (0, .ref (a 0))]) hx hb dX3_lure_54 hl (k := 1) rfl (nI_1 _) (by decide) rfl (fun ls hl => ?_)
                refine lv_goto (tgt := 4) hx hb dX3_lure_57 (by decide) ?_
                have e9 : zLu σ (k + 1) = some k := by unfold zLu; rw [hbs]; simp only; rw [if_pos c_4, if_neg c_6]
                exact ih (k + 1) (by omega) (by omega) ls (by rw [e9]; exact (lv_sub hl [0, 1, 2] rfl))
  exact loop (zkM K + 1) 0 (by omega) (by omega) ls (lv_sub hl [0, 1, 2] rfl)
set_option maxHeartbeats 4000000 in
theorem mo_isInRow (l : Launch) (G : zG) (a : Nat → Nat) (th : Int32) (K : zKt) (σ : zSt) (v : Int32) (q : Nat) (hq8 : q ≤ 8) (hq : σ 22 1 = nI q) : zMro l yX3_isInRow cX3_isInRow 3 (some .boolean) 0 G [.ref (a 0), .int v] (zMP G a th K σ) (some (.int (if zInB σ v q = true then 1 else 0))) := by
  refine zMk [(0, .ref (a 0)), (1, .int v)] (by decide) (Nat.le_of_ble_eq_true rfl) rfl ?_
  intro p e s m below meth c ls C hP hl _
  generalize ([.ref (a 0), .int v] : List Value).toArray = av at C ⊢
  have hx := C.1
  have hb := C.2.1
  have hml := C.2.2.1
  have hown := C.2.2.2.1
  have hts := C.2.2.2.2.1
  have hE := C.2.2.2.2.2.2.2
  refine lv_iconst (v := nI 0) hx hb dX3_isInRow_0 (by decide) ?_
  refine lv_istore_n (lv' := [(2, .int (nI 0)), (0, .ref (a 0)), (1, .int v)]) hx hb dX3_isInRow_1 rfl hl (by decide) rfl (fun ls hl => ?_)
  have loop : ∀ (n : Nat) (k : Nat), (k ≤ q) → (q + 1 ≤ k + n) → (zInB σ v k = false) → ∀ (ls : Array Slot), lv_has ls 3 [(2, .int (nI k)), (0, .ref (a 0)), (1, .int v)] → W p l e (zRm 0 0 0) s m av below meth c s.heap [] 0 0 (MQ below (zRO (some (.int (if zInB σ v q = true then 1 else 0)))) av s 0 0 (fun _ => False)) (F0 m 2 ls []) := by
    intro n
    induction n with
    | zero =>
      intro k h1 h2 h3
      exact absurd (And.intro h1 h2) (by omega)
    | succ n ih =>
      intro k h1 h2 h3 ls hl
      refine lv_iload_n hx hb dX3_isInRow_2 rfl (lv_at hl 0 rfl) ?_
      refine lv_aload_n hx hb dX3_isInRow_3 rfl (lv_at hl 1 rfl) ?_
      refine zgM C hP 10 (by decide) q820 rfl rfl dX3_isInRow_4 ?_
      refine lv_iconst (v := nI 1) hx hb dX3_isInRow_7 (by decide) ?_
      refine zn_ald C hP 7 rfl (by decide) (Nat.le_of_ble_eq_true rfl) dX3_isInRow_8 ?_
      rw [hq]
      refine zn_ge (tgt := 30) C (by omega) (by omega) dX3_isInRow_9 (by decide) (fun c_1 => ?_) (fun c_1 => ?_)
      · have hk : k = q := by omega
        subst hk
        refine lv_iconst (v := nI 0) hx hb dX3_isInRow_30 (by decide) ?_
        exact ze_zretE C (by rw [h3]; rfl) (zb_nar _) dX3_isInRow_31
      · refine lv_aload_n hx hb dX3_isInRow_12 rfl (lv_at hl 1 rfl) ?_
        refine zgM C hP 9 (by decide) q819 rfl rfl dX3_isInRow_13 ?_
        refine lv_iload_n hx hb dX3_isInRow_16 rfl (lv_at hl 0 rfl) ?_
        refine zn_ald C hP 6 rfl (by omega) (Nat.le_of_ble_eq_true rfl) dX3_isInRow_17 ?_
        refine lv_iload_n hx hb dX3_isInRow_18 rfl (lv_at hl 2 rfl) ?_
        refine lv_icmp_ne (tgt := 24) hx hb dX3_isInRow_19 (by decide) (fun c_2 => ?_) (fun c_2 => ?_)
        · refine lv_iinc (v := nI (k + 1)) (lv' := [(2, .int (nI (k + 1))), (0, .ref (a 0)), (1, .int v)]) hx hb dX3_isInRow_24 hl (k := 0) rfl (nI_1 _) (by decide) rfl (fun ls hl => ?_)
          refine lv_goto (tgt := 2) hx hb dX3_isInRow_27 (by decide) ?_
          exact ih (k + 1) (by omega) (by omega) (zInB_f h3 c_2) ls (lv_sub hl [0, 1, 2] rfl)
        · refine lv_iconst (v := nI 1) hx hb dX3_isInRow_22 (by decide) ?_
          exact ze_zretE C (by rw [zInB_t q k (by omega) c_2]; rfl) (zb_nar _) dX3_isInRow_23
  exact loop (q + 1) 0 (by omega) (by omega) rfl ls (lv_sub hl [0, 1, 2] rfl)
set_option maxHeartbeats 4000000 in
theorem mo_putInRow (l : Launch) (G : zG) (a : Nat → Nat) (th : Int32) (K : zKt) (σ : zSt) (hI : zInj a 8) (v : Int32) (q : Nat) (hq8 : q < 8) (hq : σ 22 1 = nI q) : zMrw l yX3_putInRow cX3_putInRow 2 (none) 0 0 0 G [.ref (a 0), .int v] (zMP G a th K σ) (none) (zMP G a th K (zCal σ q v)) (zA a 8) := by
  refine zMk [(0, .ref (a 0)), (1, .int v)] (by decide) (Nat.le_of_ble_eq_true rfl) rfl ?_
  intro p e s m below meth c ls C hP hl _
  generalize ([.ref (a 0), .int v] : List Value).toArray = av at C ⊢
  have hx := C.1
  have hb := C.2.1
  have hml := C.2.2.1
  have hown := C.2.2.2.1
  have hts := C.2.2.2.2.1
  have hE := C.2.2.2.2.2.2.2
  have hS : va_S (zA a 8) s.heap s.heap [] := va_S.rf
  refine lv_aload_n hx hb dX3_putInRow_0 rfl (lv_at hl 0 rfl) ?_
  refine zgM C hP 9 (by decide) q819 rfl rfl dX3_putInRow_1 ?_
  refine lv_aload_n hx hb dX3_putInRow_4 rfl (lv_at hl 0 rfl) ?_
  refine zgM C hP 10 (by decide) q820 rfl rfl dX3_putInRow_5 ?_
  refine lv_iconst (v := nI 1) hx hb dX3_putInRow_8 (by decide) ?_
  refine zn_ald C hP 7 rfl (by decide) (Nat.le_of_ble_eq_true rfl) dX3_putInRow_9 ?_
  rw [hq]
  refine lv_iload_n hx hb dX3_putInRow_10 rfl (lv_at hl 1 rfl) ?_
  refine zn_ast C hP (zM_D hI (fun _ h => h)) hS 6 rfl (by omega) (Nat.le_of_ble_eq_true rfl) dX3_putInRow_11 (fun H locs hP hS => ?_)
  rw [zM_ro] at hP
  have hP : zMP G a th K (zup σ 21 q v) H := hP
  refine lv_aload_n hx hb dX3_putInRow_12 rfl (lv_at hl 0 rfl) ?_
  refine zgM C hP 10 (by decide) q820 rfl rfl dX3_putInRow_13 ?_
  refine lv_iconst (v := nI 1) hx hb dX3_putInRow_16 (by decide) ?_
  refine lv_dup2_11 hx hb dX3_putInRow_17 rfl rfl ?_
  refine zn_ald C hP 7 rfl (by decide) (Nat.le_of_ble_eq_true rfl) dX3_putInRow_18 ?_
  rw [zup_k (show (22 : Nat) ≠ 21 by decide), hq]
  refine lv_iconst (v := nI 1) hx hb dX3_putInRow_19 (by decide) ?_
  refine zn_add C dX3_putInRow_20 ?_
  refine zn_ast C hP (zM_D hI (fun _ h => h)) hS 7 rfl (by decide) (Nat.le_of_ble_eq_true rfl) dX3_putInRow_21 (fun H locs hP hS => ?_)
  rw [zM_nu] at hP
  have hP : zMP G a th K (zup (zup σ 21 q v) 22 1 (nI (q + 1))) H := hP
  exact zw_vret C (hP) hS dX3_putInRow_22
set_option maxHeartbeats 4000000 in
theorem mo_to (l : Launch) (G : zG) (a : Nat → Nat) (th : Int32) (K : zKt) (σ : zSt) (hI : zInj a 8) (u : Nat) (v : Int32) (hu : u < 10) : zMrw l yX3_to cX3_to 3 (none) 1 0 0 G [.ref (a 0), .int (nI u), .int v] (zMP G a th K σ) (none) (zMP G a th K (zTo σ u v)) (zA a 8) := by
  refine zMk [(0, .ref (a 0)), (1, .int (nI u)), (2, .int v)] (by decide) (Nat.le_of_ble_eq_true rfl) rfl ?_
  intro p e s m below meth c ls C hP hl _
  generalize ([.ref (a 0), .int (nI u), .int v] : List Value).toArray = av at C ⊢
  have hx := C.1
  have hb := C.2.1
  have hml := C.2.2.1
  have hown := C.2.2.2.1
  have hts := C.2.2.2.2.1
  have hE := C.2.2.2.2.2.2.2
  have hS : va_S (zA a 8) s.heap s.heap [] := va_S.rf
  refine lv_aload_n hx hb dX3_to_0 rfl (lv_at hl 0 rfl) ?_
  refine lv_iload_n hx hb dX3_to_1 rfl (lv_at hl 1 rfl) ?_
  refine lv_iconst (v := nI 2) hx hb dX3_to_2 (by decide) ?_
  refine lv_iload_n hx hb dX3_to_3 rfl (lv_at hl 2 rfl) ?_
  refine zwV0 (As := [.int (nI u), .int (nI 2), .int v]) (rest := []) C (mo_setPl l G a th K σ hI u 2 v (by omega) (by omega)) (lw_V q958 q960 qs26 q48 q961) hdX3_setPl ⟨Nat.le_of_ble_eq_true rfl, Nat.le_of_ble_eq_true rfl⟩ (zrM hE hP) (hP) hl.1 rfl (Nat.le_of_ble_eq_true rfl) ⟨Nat.le_of_ble_eq_true rfl, Nat.le_of_ble_eq_true rfl⟩ dX3_to_4 hS (fun _ h => h) (fun H locs hP _ hS => ?_)
  have hP : zMP G a th K (zup σ 12 u v) H := hP
  refine lv_aload_n hx hb dX3_to_7 rfl (lv_at hl 0 rfl) ?_
  refine lv_iload_n hx hb dX3_to_8 rfl (lv_at hl 1 rfl) ?_
  refine lv_iconst (v := nI 3) hx hb dX3_to_9 (by decide) ?_
  refine lv_iconst (v := nI 0) hx hb dX3_to_10 (by decide) ?_
  refine zwV0 (As := [.int (nI u), .int (nI 3), .int (nI 0)]) (rest := []) C (mo_setPl l G a th K (zup σ 12 u v) hI u 3 (nI 0) (by omega) (by omega)) (lw_V q958 q960 qs26 q48 q961) hdX3_setPl ⟨Nat.le_of_ble_eq_true rfl, Nat.le_of_ble_eq_true rfl⟩ (zrM hE hP) (hP) hl.1 rfl (Nat.le_of_ble_eq_true rfl) ⟨Nat.le_of_ble_eq_true rfl, Nat.le_of_ble_eq_true rfl⟩ dX3_to_11 hS (fun _ h => h) (fun H locs hP _ hS => ?_)
  have hP : zMP G a th K (zup (zup σ 12 u v) 13 u (nI 0)) H := hP
  exact zw_vret C (hP) hS dX3_to_14

/-! the arcade: tables and pushers (printed by gen/a39.py) -/
set_option maxRecDepth 100000
theorem zS_F {A : Nat → Prop} {H0 H : Heap} {locs : List Loc} (h : va_S A H0 H locs) : zF A H0 H := ⟨h.1, h.2.1⟩
theorem zTb_keep {G : zG} {B : Nat → Nat → Nat} {K : zKt} {σ : zSt} {i : Nat} {A : Nat → Prop} {H H1 : Heap} (h : va_P G.1 zCl (zTb G B K σ i) H) (hF : zF A H H1) (hn : ¬ A (B 1 i) ∧ ¬ A (B 2 i) ∧ ¬ A (B 3 i)) : va_P G.1 zCl (zTb G B K σ i) H1 :=
  zP_keep h hF (fun k q hk => by
    match k, hk with
    | 0, hk => cases hk; exact hn.1
    | 1, hk => cases hk; exact hn.2.1
    | 2, hk => cases hk; exact hn.2.2
    | k + 3, hk => simp at hk)
theorem zH_up1 {G : zG} {h : Nat → Nat} {x : Nat} {σ : zSt} {i : Nat} {v : Int32} : (zH G h x σ).set 1 (h 1, .inl (G.2 0, 8, .inl (upd (σ 4) i v))) = zH G h x (zup σ 4 i v) := zH_up 1 (by decide) rfl
theorem zH_up6 {G : zG} {h : Nat → Nat} {x : Nat} {σ : zSt} {i : Nat} {v : Int32} : (zH G h x σ).set 6 (h 6, .inl (G.2 0, 40, .inl (upd (σ 20) i v))) = zH G h x (zup σ 20 i v) := zH_up 6 (by decide) rfl
set_option maxHeartbeats 4000000 in
theorem ar_requireColumn (l : Launch) (G : zG) (B : Nat → Nat → Nat) (K : zKt) (σ : zSt) (i : Nat) (hT : zTab σ i) (v : Int32) (hv : nI 0 ≤ v ∧ v ≤ nI (zWd σ i) - nI 1) : zMro l yX5_requireColumn cX5_requireColumn 2 (none) 2 G [.ref (B 1 i), .int v] (va_P G.1 zCl (zTb G B K σ i)) (none) := by
  refine zMk [(0, .ref (B 1 i)), (1, .int v)] (by decide) (Nat.le_of_ble_eq_true rfl) rfl ?_
  intro p e s m below meth c ls C hP hl _
  generalize ([.ref (B 1 i), .int v] : List Value).toArray = av at C ⊢
  have hx := C.1
  have hb := C.2.1
  have hml := C.2.2.1
  have hown := C.2.2.2.1
  have hts := C.2.2.2.2.1
  have hE := C.2.2.2.2.2.2.2
  refine lv_iconst (v := nI 0) hx hb dX5_requireColumn_0 (by decide) ?_
  refine lv_aload_n hx hb dX5_requireColumn_1 rfl (lv_at hl 0 rfl) ?_
  refine zgO (T := TX5) (N := 5) (ci := 3) C in_X5 hP 0 rfl rfl 1 (by decide) q375 rfl dX5_requireColumn_2 ?_
  refine lv_iconst (v := nI 1) hx hb dX5_requireColumn_5 (by decide) ?_
  refine lv_isub hx hb dX5_requireColumn_6 ?_
  refine lv_iload_n hx hb dX5_requireColumn_7 rfl (lv_at hl 1 rfl) ?_
  refine zcSN0 (As := [.int (nI 0), .int ((nI (zWd σ i)) - (nI 1)), .int v]) (rest := []) C (ar_requireFrom l G (nI 0) (nI (zWd σ i) - nI 1) v hv) q280 q563 q43 q279 hdX1_requireFrom.2 ⟨Nat.le_of_ble_eq_true rfl, Nat.le_of_ble_eq_true rfl⟩ (trivial) hl.1 rfl (Nat.le_of_ble_eq_true rfl) ⟨Nat.le_of_ble_eq_true rfl, Nat.le_of_ble_eq_true rfl⟩ dX5_requireColumn_8 ?_
  exact ze_vret C dX5_requireColumn_11
set_option maxHeartbeats 4000000 in
theorem ax_requireColumn (l : Launch) (hfl : l.stackTraces = false) (G : zG) (B : Nat → Nat → Nat) (K : zKt) (σ : zSt) (i : Nat) (hT : zTab σ i) (v : Int32) (hv : ¬ (nI 0 ≤ v ∧ v ≤ nI (zWd σ i) - nI 1)) : zMx l yX5_requireColumn cX5_requireColumn 2 (none) 7 G [.ref (B 1 i), .int v] (va_P G.1 zCl (zTb G B K σ i)) "java/lang/IllegalArgumentException" := by
  refine zMkX [(0, .ref (B 1 i)), (1, .int v)] (by decide) (Nat.le_of_ble_eq_true rfl) rfl ?_
  intro p e s m below meth c ls C hT hx9 hP hl
  generalize ([.ref (B 1 i), .int v] : List Value).toArray = av at C ⊢
  have hx := C.1
  have hb := C.2.1
  have hml := C.2.2.1
  have hown := C.2.2.2.1
  have hts := C.2.2.2.2.1
  have hE := C.2.2.2.2.2.2.2
  refine lv_iconst (v := nI 0) hx hb dX5_requireColumn_0 (by decide) ?_
  refine lv_aload_n hx hb dX5_requireColumn_1 rfl (lv_at hl 0 rfl) ?_
  refine zgO (T := TX5) (N := 5) (ci := 3) C in_X5 hP 0 rfl rfl 1 (by decide) q375 rfl dX5_requireColumn_2 ?_
  refine lv_iconst (v := nI 1) hx hb dX5_requireColumn_5 (by decide) ?_
  refine lv_isub hx hb dX5_requireColumn_6 ?_
  refine lv_iload_n hx hb dX5_requireColumn_7 rfl (lv_at hl 1 rfl) ?_
  exact zxSN (As := [.int (nI 0), .int ((nI (zWd σ i)) - (nI 1)), .int v]) (rest := []) C hT hx9 (ax_requireFrom l hfl G (nI 0) (nI (zWd σ i) - nI 1) v hv) q280 q563 q43 q279 hdX1_requireFrom.2 ⟨Nat.le_of_ble_eq_true rfl, Nat.le_of_ble_eq_true rfl⟩ (trivial) hl.1 rfl (Nat.le_of_ble_eq_true rfl) ⟨Nat.le_of_ble_eq_true rfl, Nat.le_of_ble_eq_true rfl⟩ dX5_requireColumn_8
set_option maxHeartbeats 4000000 in
theorem ar_requirePlayT (l : Launch) (G : zG) (B : Nat → Nat → Nat) (K : zKt) (σ : zSt) (i : Nat) (hT : zTab σ i) (v t : Int32) (hv : nI 0 ≤ v ∧ v ≤ nI (zWd σ i) - nI 1) (ht : -1 ≤ t ∧ t ≤ nI 1) : zMro l yX5_requirePlay cX5_requirePlay 3 (none) 3 G [.ref (B 1 i), .int v, .int t] (va_P G.1 zCl (zTb G B K σ i)) (none) := by
  refine zMk [(0, .ref (B 1 i)), (1, .int v), (2, .int t)] (by decide) (Nat.le_of_ble_eq_true rfl) rfl ?_
  intro p e s m below meth c ls C hP hl _
  generalize ([.ref (B 1 i), .int v, .int t] : List Value).toArray = av at C ⊢
  have hx := C.1
  have hb := C.2.1
  have hml := C.2.2.1
  have hown := C.2.2.2.1
  have hts := C.2.2.2.2.1
  have hE := C.2.2.2.2.2.2.2
  refine lv_aload_n hx hb dX5_requirePlay_0 rfl (lv_at hl 0 rfl) ?_
  refine lv_iload_n hx hb dX5_requirePlay_1 rfl (lv_at hl 1 rfl) ?_
  refine zcV0 (As := [.int v]) (rest := []) C (ar_requireColumn l G B K σ i hT v hv) (lw_V q564 q565 q566 q55 q567) hdX5_requireColumn ⟨Nat.le_of_ble_eq_true rfl, Nat.le_of_ble_eq_true rfl⟩ (zrO (ci := 3) (q0 := 0) hE hP rfl rfl) (hP) hl.1 rfl (Nat.le_of_ble_eq_true rfl) ⟨Nat.le_of_ble_eq_true rfl, Nat.le_of_ble_eq_true rfl⟩ dX5_requirePlay_2 ?_
  refine lv_iconst (v := (-1)) hx hb dX5_requirePlay_5 (by decide) ?_
  refine lv_iconst (v := nI 1) hx hb dX5_requirePlay_6 (by decide) ?_
  refine lv_iload_n hx hb dX5_requirePlay_7 rfl (lv_at hl 2 rfl) ?_
  refine zcSN0 (As := [.int (-1), .int (nI 1), .int t]) (rest := []) C (ar_requireFrom l G (-1) (nI 1) t ht) q280 q563 q43 q279 hdX1_requireFrom.2 ⟨Nat.le_of_ble_eq_true rfl, Nat.le_of_ble_eq_true rfl⟩ (trivial) hl.1 rfl (Nat.le_of_ble_eq_true rfl) ⟨Nat.le_of_ble_eq_true rfl, Nat.le_of_ble_eq_true rfl⟩ dX5_requirePlay_8 ?_
  exact ze_vret C dX5_requirePlay_11
set_option maxHeartbeats 4000000 in
theorem ax_requirePlayT (l : Launch) (hfl : l.stackTraces = false) (G : zG) (B : Nat → Nat → Nat) (K : zKt) (σ : zSt) (i : Nat) (hT : zTab σ i) (v t : Int32) (hvt : ¬ ((nI 0 ≤ v ∧ v ≤ nI (zWd σ i) - nI 1) ∧ (-1 ≤ t ∧ t ≤ nI 1))) : zMx l yX5_requirePlay cX5_requirePlay 3 (none) 8 G [.ref (B 1 i), .int v, .int t] (va_P G.1 zCl (zTb G B K σ i)) "java/lang/IllegalArgumentException" := by
  refine zMkX [(0, .ref (B 1 i)), (1, .int v), (2, .int t)] (by decide) (Nat.le_of_ble_eq_true rfl) rfl ?_
  intro p e s m below meth c ls C hT hx9 hP hl
  generalize ([.ref (B 1 i), .int v, .int t] : List Value).toArray = av at C ⊢
  have hx := C.1
  have hb := C.2.1
  have hml := C.2.2.1
  have hown := C.2.2.2.1
  have hts := C.2.2.2.2.1
  have hE := C.2.2.2.2.2.2.2
  refine lv_aload_n hx hb dX5_requirePlay_0 rfl (lv_at hl 0 rfl) ?_
  refine lv_iload_n hx hb dX5_requirePlay_1 rfl (lv_at hl 1 rfl) ?_
  by_cases hv : nI 0 ≤ v ∧ v ≤ nI (zWd σ i) - nI 1
  · refine zcV0 (As := [.int v]) (rest := []) C (ar_requireColumn l G B K σ i hT v hv) (lw_V q564 q565 q566 q55 q567) hdX5_requireColumn ⟨Nat.le_of_ble_eq_true rfl, Nat.le_of_ble_eq_true rfl⟩ (zrO (ci := 3) (q0 := 0) hE hP rfl rfl) (hP) hl.1 rfl (Nat.le_of_ble_eq_true rfl) ⟨Nat.le_of_ble_eq_true rfl, Nat.le_of_ble_eq_true rfl⟩ dX5_requirePlay_2 ?_
    refine lv_iconst (v := (-1)) hx hb dX5_requirePlay_5 (by decide) ?_
    refine lv_iconst (v := nI 1) hx hb dX5_requirePlay_6 (by decide) ?_
    refine lv_iload_n hx hb dX5_requirePlay_7 rfl (lv_at hl 2 rfl) ?_
    exact zxSN (As := [.int (-1), .int (nI 1), .int t]) (rest := []) C hT hx9 (ax_requireFrom l hfl G (-1) (nI 1) t (fun q => hvt ⟨hv, q⟩)) q280 q563 q43 q279 hdX1_requireFrom.2 ⟨Nat.le_of_ble_eq_true rfl, Nat.le_of_ble_eq_true rfl⟩ (trivial) hl.1 rfl (Nat.le_of_ble_eq_true rfl) ⟨Nat.le_of_ble_eq_true rfl, Nat.le_of_ble_eq_true rfl⟩ dX5_requirePlay_8
  · exact zxV (As := [.int v]) (rest := []) C hT hx9 (ax_requireColumn l hfl G B K σ i hT v hv) (lw_V q564 q565 q566 q55 q567) hdX5_requireColumn ⟨Nat.le_of_ble_eq_true rfl, Nat.le_of_ble_eq_true rfl⟩ (zrO (ci := 3) (q0 := 0) hE hP rfl rfl) (hP) hl.1 rfl (Nat.le_of_ble_eq_true rfl) ⟨Nat.le_of_ble_eq_true rfl, Nat.le_of_ble_eq_true rfl⟩ dX5_requirePlay_2
set_option maxHeartbeats 4000000 in
theorem ar_pinAt (l : Launch) (G : zG) (B : Nat → Nat → Nat) (K : zKt) (σ : zSt) (i : Nat) (hT : zTab σ i) (r k : Nat) (hr : r < zDp σ i) (hk : k < zWd σ i) : zMro l yX5_pinAt cX5_pinAt 3 (some .int) 3 G [.ref (B 1 i), .int (nI r), .int (nI k)] (va_P G.1 zCl (zTb G B K σ i)) (some (.int (nI (zWd σ i * r + k)))) := by
  refine zMk [(0, .ref (B 1 i)), (1, .int (nI r)), (2, .int (nI k))] (by decide) (Nat.le_of_ble_eq_true rfl) rfl ?_
  intro p e s m below meth c ls C hP hl _
  generalize ([.ref (B 1 i), .int (nI r), .int (nI k)] : List Value).toArray = av at C ⊢
  have hx := C.1
  have hb := C.2.1
  have hml := C.2.2.1
  have hown := C.2.2.2.1
  have hts := C.2.2.2.2.1
  have hE := C.2.2.2.2.2.2.2
  refine lv_iconst (v := nI 0) hx hb dX5_pinAt_0 (by decide) ?_
  refine lv_aload_n hx hb dX5_pinAt_1 rfl (lv_at hl 0 rfl) ?_
  refine zgO (T := TX5) (N := 5) (ci := 3) C in_X5 hP 0 rfl rfl 2 (by decide) q376 rfl dX5_pinAt_2 ?_
  refine lv_iconst (v := nI 1) hx hb dX5_pinAt_5 (by decide) ?_
  refine lv_isub hx hb dX5_pinAt_6 ?_
  refine lv_iload_n hx hb dX5_pinAt_7 rfl (lv_at hl 1 rfl) ?_
  refine zcSN0 (As := [.int (nI 0), .int ((nI (zDp σ i)) - (nI 1)), .int (nI r)]) (rest := []) C (ar_requireFrom l G (nI 0) (nI (zDp σ i) - nI 1) (nI r) (zIdx' (by have := hT.2.2.2.2.1; omega) hr)) q280 q563 q43 q279 hdX1_requireFrom.2 ⟨Nat.le_of_ble_eq_true rfl, Nat.le_of_ble_eq_true rfl⟩ (trivial) hl.1 rfl (Nat.le_of_ble_eq_true rfl) ⟨Nat.le_of_ble_eq_true rfl, Nat.le_of_ble_eq_true rfl⟩ dX5_pinAt_8 ?_
  refine lv_aload_n hx hb dX5_pinAt_11 rfl (lv_at hl 0 rfl) ?_
  refine lv_iload_n hx hb dX5_pinAt_12 rfl (lv_at hl 2 rfl) ?_
  refine zcV0 (As := [.int (nI k)]) (rest := []) C (ar_requireColumn l G B K σ i hT (nI k) (zIdx' (by have := hT.2.2.1; omega) hk)) (lw_V q564 q565 q566 q55 q567) hdX5_requireColumn ⟨Nat.le_of_ble_eq_true rfl, Nat.le_of_ble_eq_true rfl⟩ (zrO (ci := 3) (q0 := 0) hE hP rfl rfl) (hP) hl.1 rfl (Nat.le_of_ble_eq_true rfl) ⟨Nat.le_of_ble_eq_true rfl, Nat.le_of_ble_eq_true rfl⟩ dX5_pinAt_13 ?_
  refine lv_aload_n hx hb dX5_pinAt_16 rfl (lv_at hl 0 rfl) ?_
  refine zgO (T := TX5) (N := 5) (ci := 3) C in_X5 hP 0 rfl rfl 1 (by decide) q375 rfl dX5_pinAt_17 ?_
  refine lv_iload_n hx hb dX5_pinAt_20 rfl (lv_at hl 1 rfl) ?_
  refine zn_mul C dX5_pinAt_21 ?_
  refine lv_iload_n hx hb dX5_pinAt_22 rfl (lv_at hl 2 rfl) ?_
  refine zn_add C dX5_pinAt_23 ?_
  exact ze_iretE C (rfl) dX5_pinAt_24
set_option maxHeartbeats 4000000 in
theorem ax_pinAt (l : Launch) (hfl : l.stackTraces = false) (G : zG) (B : Nat → Nat → Nat) (K : zKt) (σ : zSt) (i : Nat) (hT : zTab σ i) (rv cv : Int32) (hv : ¬ ((nI 0 ≤ rv ∧ rv ≤ nI (zDp σ i) - nI 1) ∧ (nI 0 ≤ cv ∧ cv ≤ nI (zWd σ i) - nI 1))) : zMx l yX5_pinAt cX5_pinAt 3 (some .int) 8 G [.ref (B 1 i), .int rv, .int cv] (va_P G.1 zCl (zTb G B K σ i)) "java/lang/IllegalArgumentException" := by
  refine zMkX [(0, .ref (B 1 i)), (1, .int rv), (2, .int cv)] (by decide) (Nat.le_of_ble_eq_true rfl) rfl ?_
  intro p e s m below meth c ls C hT hx9 hP hl
  generalize ([.ref (B 1 i), .int rv, .int cv] : List Value).toArray = av at C ⊢
  have hx := C.1
  have hb := C.2.1
  have hml := C.2.2.1
  have hown := C.2.2.2.1
  have hts := C.2.2.2.2.1
  have hE := C.2.2.2.2.2.2.2
  refine lv_iconst (v := nI 0) hx hb dX5_pinAt_0 (by decide) ?_
  refine lv_aload_n hx hb dX5_pinAt_1 rfl (lv_at hl 0 rfl) ?_
  refine zgO (T := TX5) (N := 5) (ci := 3) C in_X5 hP 0 rfl rfl 2 (by decide) q376 rfl dX5_pinAt_2 ?_
  refine lv_iconst (v := nI 1) hx hb dX5_pinAt_5 (by decide) ?_
  refine lv_isub hx hb dX5_pinAt_6 ?_
  refine lv_iload_n hx hb dX5_pinAt_7 rfl (lv_at hl 1 rfl) ?_
  by_cases hr : nI 0 ≤ rv ∧ rv ≤ nI (zDp σ i) - nI 1
  · refine zcSN0 (As := [.int (nI 0), .int ((nI (zDp σ i)) - (nI 1)), .int rv]) (rest := []) C (ar_requireFrom l G (nI 0) (nI (zDp σ i) - nI 1) rv hr) q280 q563 q43 q279 hdX1_requireFrom.2 ⟨Nat.le_of_ble_eq_true rfl, Nat.le_of_ble_eq_true rfl⟩ (trivial) hl.1 rfl (Nat.le_of_ble_eq_true rfl) ⟨Nat.le_of_ble_eq_true rfl, Nat.le_of_ble_eq_true rfl⟩ dX5_pinAt_8 ?_
    refine lv_aload_n hx hb dX5_pinAt_11 rfl (lv_at hl 0 rfl) ?_
    refine lv_iload_n hx hb dX5_pinAt_12 rfl (lv_at hl 2 rfl) ?_
    exact zxV (As := [.int cv]) (rest := []) C hT hx9 (ax_requireColumn l hfl G B K σ i hT cv (fun q => hv ⟨hr, q⟩)) (lw_V q564 q565 q566 q55 q567) hdX5_requireColumn ⟨Nat.le_of_ble_eq_true rfl, Nat.le_of_ble_eq_true rfl⟩ (zrO (ci := 3) (q0 := 0) hE hP rfl rfl) (hP) hl.1 rfl (Nat.le_of_ble_eq_true rfl) ⟨Nat.le_of_ble_eq_true rfl, Nat.le_of_ble_eq_true rfl⟩ dX5_pinAt_13
  · exact zxSN (As := [.int (nI 0), .int ((nI (zDp σ i)) - (nI 1)), .int rv]) (rest := []) C hT hx9 (ax_requireFrom l hfl G (nI 0) (nI (zDp σ i) - nI 1) rv hr) q280 q563 q43 q279 hdX1_requireFrom.2 ⟨Nat.le_of_ble_eq_true rfl, Nat.le_of_ble_eq_true rfl⟩ (trivial) hl.1 rfl (Nat.le_of_ble_eq_true rfl) ⟨Nat.le_of_ble_eq_true rfl, Nat.le_of_ble_eq_true rfl⟩ dX5_pinAt_8
set_option maxHeartbeats 4000000 in
theorem ar_ends (l : Launch) (G : zG) (B : Nat → Nat → Nat) (K : zKt) (σ : zSt) (i : Nat) (hT : zTab σ i) (col : Nat) (tilt : Int32) (hc : col < zWd σ i) : zMro l yX5_ends cX5_ends 6 (some .int) 0 G [.ref (B 1 i), .int (nI col), .int tilt] (va_P G.1 zCl (zTb G B K σ i)) (some (.int (nI (zEnd K σ i col tilt)))) := by
  refine zMk [(0, .ref (B 1 i)), (1, .int (nI col)), (2, .int tilt)] (by decide) (Nat.le_of_ble_eq_true rfl) rfl ?_
  intro p e s m below meth c ls C hP hl _
  generalize ([.ref (B 1 i), .int (nI col), .int tilt] : List Value).toArray = av at C ⊢
  have hx := C.1
  have hb := C.2.1
  have hml := C.2.2.1
  have hown := C.2.2.2.1
  have hts := C.2.2.2.2.1
  have hE := C.2.2.2.2.2.2.2
  obtain ⟨hk0, hw1, hw2, hd1, hd2, ew, ed⟩ := hT
  unfold zEnd
  generalize hW : zWd σ i = wd at *
  generalize hD : zDp σ i = dp at *
  refine lv_iload_n hx hb dX5_ends_0 rfl (lv_at hl 1 rfl) ?_
  refine lv_istore_n (lv' := [(3, .int (nI col)), (0, .ref (B 1 i)), (1, .int (nI col)), (2, .int tilt)]) hx hb dX5_ends_1 rfl hl (by decide) rfl (fun ls hl => ?_)
  refine lv_iconst (v := nI 0) hx hb dX5_ends_2 (by decide) ?_
  refine lv_istore (lv' := [(4, .int (nI 0)), (3, .int (nI col)), (0, .ref (B 1 i)), (1, .int (nI col)), (2, .int tilt)]) hx hb dX5_ends_3 hl (by decide) rfl (fun ls hl => ?_)
  have loop : ∀ (n : Nat) (r k : Nat), (r ≤ dp) → (dp + 1 ≤ r + n) → (k = zEndR K i wd tilt col r) → ∀ (ls : Array Slot), lv_has ls 6 [(4, .int (nI r)), (3, .int (nI k)), (0, .ref (B 1 i)), (1, .int (nI col)), (2, .int tilt)] → W p l e (zRm 0 0 0) s m av below meth c s.heap [] 0 0 (MQ below (zRO (some (.int (nI (zEndR K i (wd) tilt col (dp)))))) av s 0 0 (fun _ => False)) (F0 m 5 ls []) := by
    intro n
    induction n with
    | zero =>
      intro r k h1 h2 h3
      exact absurd (And.intro h1 h2) (by omega)
    | succ n ih =>
      intro r k h1 h2 h3 ls hl
      have hkw : k < wd := by rw [h3]; exact zEndR_in hc (by omega) r
      refine lv_iload hx hb dX5_ends_5 (lv_at hl 0 rfl) ?_
      refine lv_aload_n hx hb dX5_ends_7 rfl (lv_at hl 2 rfl) ?_
      refine zgO (T := TX5) (N := 5) (ci := 3) C in_X5 hP 0 rfl rfl 2 (by decide) q376 rfl dX5_ends_8 ?_
      refine zn_ge (tgt := 71) C (by omega) (by omega) dX5_ends_11 (by decide) (fun c_1 => ?_) (fun c_1 => ?_)
      · have hk9 : dp = r := by omega
        subst hk9
        refine lv_iload_n hx hb dX5_ends_71 rfl (lv_at hl 1 rfl) ?_
        exact ze_iretE C (by rw [h3]) dX5_ends_72
      · have hin : wd * r + k < dp * wd := by
          have h9 : wd * (r + 1) ≤ wd * dp := Nat.mul_le_mul_left _ (by omega)
          rw [Nat.mul_comm dp wd]
          rw [Nat.mul_succ] at h9
          omega
        have hsm : dp * wd < 2 ^ 31 := by
          have h9 : dp * wd ≤ 12 * 9 := Nat.mul_le_mul hd2 hw2
          omega
        refine lv_aload_n hx hb dX5_ends_14 rfl (lv_at hl 2 rfl) ?_
        refine zgO (T := TX5) (N := 5) (ci := 3) C in_X5 hP 0 rfl rfl 3 (by decide) q377 rfl dX5_ends_15 ?_
        refine lv_aload_n hx hb dX5_ends_18 rfl (lv_at hl 2 rfl) ?_
        refine zgO (T := TX5) (N := 5) (ci := 3) C in_X5 hP 0 rfl rfl 1 (by decide) q375 rfl dX5_ends_19 ?_
        refine lv_iload hx hb dX5_ends_22 (lv_at hl 0 rfl) ?_
        refine zn_mul C dX5_ends_24 ?_
        refine lv_iload_n hx hb dX5_ends_25 rfl (lv_at hl 1 rfl) ?_
        refine zn_add C dX5_ends_26 ?_
        refine zn_ald C hP 1 rfl hin hsm dX5_ends_27 ?_
        rw [show (wd * r + k) / wd = r by rw [Nat.mul_add_div (by omega), Nat.div_eq_of_lt hkw]; omega, show (wd * r + k) % wd = k by rw [Nat.mul_add_mod, Nat.mod_eq_of_lt hkw]]
        refine lv_istore (lv' := [(5, .int (zkN K i r k)), (4, .int (nI r)), (3, .int (nI k)), (0, .ref (B 1 i)), (1, .int (nI col)), (2, .int tilt)]) hx hb dX5_ends_28 hl (by decide) rfl (fun ls hl => ?_)
        have join : ∀ (x : Int32), x = (if zkN K i r k = 0 then (if (r + k) % 2 = 0 then tilt else nI 0) else zkN K i r k) → ∀ (ls : Array Slot), lv_has ls 6 [(5, .int x), (4, .int (nI r)), (3, .int (nI k)), (0, .ref (B 1 i)), (1, .int (nI col)), (2, .int tilt)] → W p l e (zRm 0 0 0) s m av below meth c s.heap [] 0 0 (MQ below (zRO (some (.int (nI (zEndR K i (wd) tilt col (dp)))))) av s 0 0 (fun _ => False)) (F0 m 47 ls []) := by
          intro x ex ls hl
          refine lv_iconst (v := nI 0) hx hb dX5_ends_47 (by decide) ?_
          refine lv_aload_n hx hb dX5_ends_48 rfl (lv_at hl 3 rfl) ?_
          refine zgO (T := TX5) (N := 5) (ci := 3) C in_X5 hP 0 rfl rfl 1 (by decide) q375 rfl dX5_ends_49 ?_
          refine lv_iconst (v := nI 1) hx hb dX5_ends_52 (by decide) ?_
          refine lv_isub hx hb dX5_ends_53 ?_
          refine lv_iload_n hx hb dX5_ends_54 rfl (lv_at hl 2 rfl) ?_
          refine lv_iload hx hb dX5_ends_55 (lv_at hl 0 rfl) ?_
          refine lv_iadd hx hb dX5_ends_57 ?_
          refine va_mmin hx hb (hml.trans hl.1.symm) hown (hts _ q598) (hts _ q454) (hts _ q57) (hts _ q455) (Nat.le_of_ble_eq_true rfl) (Nat.le_of_ble_eq_true rfl) (Nat.le_of_ble_eq_true rfl) (Nat.le_of_ble_eq_true rfl) dX5_ends_58 ?_
          refine va_mmax hx hb (hml.trans hl.1.symm) hown (hts _ q599) (hts _ q423) (hts _ q57) (hts _ q424) (Nat.le_of_ble_eq_true rfl) (Nat.le_of_ble_eq_true rfl) (Nat.le_of_ble_eq_true rfl) (Nat.le_of_ble_eq_true rfl) dX5_ends_61 ?_
          obtain ⟨g1, g2⟩ := zStp_in (K := K) (i := i) (w := wd) (tilt := tilt) (r := r) (c := k) (by omega) (by omega)
          rw [← ex] at g2
          rw [show (if (nI 0) < (if ((nI k) + x) < ((nI wd) - (nI 1)) then ((nI k) + x) else ((nI wd) - (nI 1))) then (if ((nI k) + x) < ((nI wd) - (nI 1)) then ((nI k) + x) else ((nI wd) - (nI 1))) else (nI 0)) = nI (zStp K i wd tilt r k) from g2]
          refine lv_istore_n (lv' := [(3, .int (nI (zStp K i wd tilt r k))), (5, .int x), (4, .int (nI r)), (0, .ref (B 1 i)), (1, .int (nI col)), (2, .int tilt)]) hx hb dX5_ends_64 rfl hl (by decide) rfl (fun ls hl => ?_)
          refine lv_iinc (v := nI (r + 1)) (lv' := [(4, .int (nI (r + 1))), (3, .int (nI (zStp K i wd tilt r k))), (5, .int x), (0, .ref (B 1 i)), (1, .int (nI col)), (2, .int tilt)]) hx hb dX5_ends_65 hl (k := 2) rfl (nI_1 _) (by decide) rfl (fun ls hl => ?_)
          refine lv_goto (tgt := 5) hx hb dX5_ends_68 (by decide) ?_
          exact ih (r + 1) _ (by omega) (by omega) (by rw [h3]; rfl) ls (lv_sub hl [0, 1, 3, 4, 5] rfl)
        refine lv_iload hx hb dX5_ends_30 (lv_at hl 0 rfl) ?_
        refine lv_if_ne (tgt := 47) hx hb dX5_ends_32 (by decide) (fun c_2 => ?_) (fun c_2 => ?_)
        · exact join _ (by rw [if_neg c_2]) ls (lv_sub hl [0, 1, 2, 3, 4, 5] rfl)
        · refine lv_iload hx hb dX5_ends_35 (lv_at hl 1 rfl) ?_
          refine lv_iload_n hx hb dX5_ends_37 rfl (lv_at hl 2 rfl) ?_
          refine zn_add C dX5_ends_38 ?_
          refine lv_iconst (v := nI 2) hx hb dX5_ends_39 (by decide) ?_
          refine zn_rem C (by omega) (by omega) (by omega) dX5_ends_40 ?_
          refine zn_ifn0 (tgt := 47) C (by omega) dX5_ends_41 (by decide) (fun c_3 => ?_) (fun c_3 => ?_)
          · exact join _ (by rw [if_pos c_2, if_neg c_3]; exact c_2) ls (lv_sub hl [0, 1, 2, 3, 4, 5] rfl)
          · refine lv_iload_n hx hb dX5_ends_44 rfl (lv_at hl 5 rfl) ?_
            refine lv_istore (lv' := [(5, .int tilt), (4, .int (nI r)), (3, .int (nI k)), (0, .ref (B 1 i)), (1, .int (nI col)), (2, .int tilt)]) hx hb dX5_ends_45 hl (by decide) rfl (fun ls hl => ?_)
            exact join _ (by rw [if_pos c_2, if_pos c_3]) ls (lv_sub hl [0, 1, 2, 3, 4, 5] rfl)
  exact loop (dp + 1) 0 col (by omega) (by omega) rfl ls (lv_sub hl [0, 1, 2, 3, 4] rfl)
set_option maxHeartbeats 4000000 in
theorem ar_tiltAtT (l : Launch) (G : zG) (B : Nat → Nat → Nat) (K : zKt) (σ : zSt) (i : Nat) (hT : zTab σ i) (col : Nat) (hc : col < zWd σ i) : zMro l yX5_tiltAt cX5_tiltAt 4 (some .int) 1 G [.ref (B 1 i), .int (nI col)] (va_P G.1 zCl (zTb G B K σ i)) (some (.int (zBest K σ i col))) := by
  refine zMk [(0, .ref (B 1 i)), (1, .int (nI col))] (by decide) (Nat.le_of_ble_eq_true rfl) rfl ?_
  intro p e s m below meth c ls C hP hl _
  generalize ([.ref (B 1 i), .int (nI col)] : List Value).toArray = av at C ⊢
  have hx := C.1
  have hb := C.2.1
  have hml := C.2.2.1
  have hown := C.2.2.2.1
  have hts := C.2.2.2.2.1
  have hE := C.2.2.2.2.2.2.2
  have hw9 := hT.2.2.1
  refine lv_iconst (v := (-1)) hx hb dX5_tiltAt_0 (by decide) ?_
  refine lv_istore_n (lv' := [(2, .int (-1)), (0, .ref (B 1 i)), (1, .int (nI col))]) hx hb dX5_tiltAt_1 rfl hl (by decide) rfl (fun ls hl => ?_)
  refine lv_iconst (v := nI 0) hx hb dX5_tiltAt_2 (by decide) ?_
  refine lv_istore_n (lv' := [(3, .int (nI 0)), (2, .int (-1)), (0, .ref (B 1 i)), (1, .int (nI col))]) hx hb dX5_tiltAt_3 rfl hl (by decide) rfl (fun ls hl => ?_)
  refine lv_iload_n hx hb dX5_tiltAt_4 rfl (lv_at hl 0 rfl) ?_
  refine lv_iconst (v := nI 1) hx hb dX5_tiltAt_5 (by decide) ?_
  refine zn_gt (tgt := 46) C (by decide) (by decide) dX5_tiltAt_6 (by decide) (fun c_1 => ?_) (fun c_1 => ?_)
  · exact absurd c_1 (by decide)
  · refine lv_aload_n hx hb dX5_tiltAt_9 rfl (lv_at hl 2 rfl) ?_
    refine zgO (T := TX5) (N := 5) (ci := 3) C in_X5 hP 0 rfl rfl 4 (by decide) q379 rfl dX5_tiltAt_10 ?_
    refine lv_aload_n hx hb dX5_tiltAt_13 rfl (lv_at hl 2 rfl) ?_
    refine lv_iload_n hx hb dX5_tiltAt_14 rfl (lv_at hl 3 rfl) ?_
    refine lv_iload_n hx hb dX5_tiltAt_15 rfl (lv_at hl 0 rfl) ?_
    refine zcV1 (As := [.int (nI col), .int (nI 0)]) (rest := [.ref (B 3 i)]) C (ar_ends l G B K σ i hT col (nI 0) (by omega)) (lw_V q611 q595 q596 q55 q597) hdX5_ends ⟨Nat.le_of_ble_eq_true rfl, Nat.le_of_ble_eq_true rfl⟩ (zrO (ci := 3) (q0 := 0) hE hP rfl rfl) (hP) hl.1 rfl (Nat.le_of_ble_eq_true rfl) ⟨Nat.le_of_ble_eq_true rfl, Nat.le_of_ble_eq_true rfl⟩ dX5_tiltAt_16 ?_
    have hin9 : zEnd K σ i col (nI 0) < zWd σ i := zEndR_in (by omega) (by omega) _
    refine zn_ald C hP 2 rfl hin9 (by omega) dX5_tiltAt_19 ?_
    refine lv_aload_n hx hb dX5_tiltAt_20 rfl (lv_at hl 2 rfl) ?_
    refine zgO (T := TX5) (N := 5) (ci := 3) C in_X5 hP 0 rfl rfl 4 (by decide) q379 rfl dX5_tiltAt_21 ?_
    refine lv_aload_n hx hb dX5_tiltAt_24 rfl (lv_at hl 2 rfl) ?_
    refine lv_iload_n hx hb dX5_tiltAt_25 rfl (lv_at hl 3 rfl) ?_
    refine lv_iload_n hx hb dX5_tiltAt_26 rfl (lv_at hl 1 rfl) ?_
    refine zcV1 (As := [.int (nI col), .int (-1)]) (rest := [.ref (B 3 i), .int (zCup K σ i col (nI 0))]) C (ar_ends l G B K σ i hT col (-1) (by omega)) (lw_V q611 q595 q596 q55 q597) hdX5_ends ⟨Nat.le_of_ble_eq_true rfl, Nat.le_of_ble_eq_true rfl⟩ (zrO (ci := 3) (q0 := 0) hE hP rfl rfl) (hP) hl.1 rfl (Nat.le_of_ble_eq_true rfl) ⟨Nat.le_of_ble_eq_true rfl, Nat.le_of_ble_eq_true rfl⟩ dX5_tiltAt_27 ?_
    have hin9 : zEnd K σ i col (-1) < zWd σ i := zEndR_in (by omega) (by omega) _
    refine zn_ald C hP 2 rfl hin9 (by omega) dX5_tiltAt_30 ?_
    refine lv_icmp_le (tgt := 38) hx hb dX5_tiltAt_31 (by decide) (fun c_2 => ?_) (fun c_2 => ?_)
    · refine lv_iload_n hx hb dX5_tiltAt_38 rfl (lv_at hl 1 rfl) ?_
      refine lv_istore_n (lv' := [(2, .int (-1)), (3, .int (nI 0)), (0, .ref (B 1 i)), (1, .int (nI col))]) hx hb dX5_tiltAt_39 rfl hl (by decide) rfl (fun ls hl => ?_)
      refine lv_iinc (v := nI 1) (lv' := [(3, .int (nI 1)), (2, .int (-1)), (0, .ref (B 1 i)), (1, .int (nI col))]) hx hb dX5_tiltAt_40 hl (k := 1) rfl (by decide) (by decide) rfl (fun ls hl => ?_)
      refine lv_goto (tgt := 4) hx hb dX5_tiltAt_43 (by decide) ?_
      refine lv_iload_n hx hb dX5_tiltAt_4 rfl (lv_at hl 0 rfl) ?_
      refine lv_iconst (v := nI 1) hx hb dX5_tiltAt_5 (by decide) ?_
      refine zn_gt (tgt := 46) C (by decide) (by decide) dX5_tiltAt_6 (by decide) (fun c_3 => ?_) (fun c_3 => ?_)
      · exact absurd c_3 (by decide)
      · refine lv_aload_n hx hb dX5_tiltAt_9 rfl (lv_at hl 2 rfl) ?_
        refine zgO (T := TX5) (N := 5) (ci := 3) C in_X5 hP 0 rfl rfl 4 (by decide) q379 rfl dX5_tiltAt_10 ?_
        refine lv_aload_n hx hb dX5_tiltAt_13 rfl (lv_at hl 2 rfl) ?_
        refine lv_iload_n hx hb dX5_tiltAt_14 rfl (lv_at hl 3 rfl) ?_
        refine lv_iload_n hx hb dX5_tiltAt_15 rfl (lv_at hl 0 rfl) ?_
        refine zcV1 (As := [.int (nI col), .int (nI 1)]) (rest := [.ref (B 3 i)]) C (ar_ends l G B K σ i hT col (nI 1) (by omega)) (lw_V q611 q595 q596 q55 q597) hdX5_ends ⟨Nat.le_of_ble_eq_true rfl, Nat.le_of_ble_eq_true rfl⟩ (zrO (ci := 3) (q0 := 0) hE hP rfl rfl) (hP) hl.1 rfl (Nat.le_of_ble_eq_true rfl) ⟨Nat.le_of_ble_eq_true rfl, Nat.le_of_ble_eq_true rfl⟩ dX5_tiltAt_16 ?_
        have hin9 : zEnd K σ i col (nI 1) < zWd σ i := zEndR_in (by omega) (by omega) _
        refine zn_ald C hP 2 rfl hin9 (by omega) dX5_tiltAt_19 ?_
        refine lv_aload_n hx hb dX5_tiltAt_20 rfl (lv_at hl 2 rfl) ?_
        refine zgO (T := TX5) (N := 5) (ci := 3) C in_X5 hP 0 rfl rfl 4 (by decide) q379 rfl dX5_tiltAt_21 ?_
        refine lv_aload_n hx hb dX5_tiltAt_24 rfl (lv_at hl 2 rfl) ?_
        refine lv_iload_n hx hb dX5_tiltAt_25 rfl (lv_at hl 3 rfl) ?_
        refine lv_iload_n hx hb dX5_tiltAt_26 rfl (lv_at hl 1 rfl) ?_
        refine zcV1 (As := [.int (nI col), .int (-1)]) (rest := [.ref (B 3 i), .int (zCup K σ i col (nI 1))]) C (ar_ends l G B K σ i hT col (-1) (by omega)) (lw_V q611 q595 q596 q55 q597) hdX5_ends ⟨Nat.le_of_ble_eq_true rfl, Nat.le_of_ble_eq_true rfl⟩ (zrO (ci := 3) (q0 := 0) hE hP rfl rfl) (hP) hl.1 rfl (Nat.le_of_ble_eq_true rfl) ⟨Nat.le_of_ble_eq_true rfl, Nat.le_of_ble_eq_true rfl⟩ dX5_tiltAt_27 ?_
        have hin9 : zEnd K σ i col (-1) < zWd σ i := zEndR_in (by omega) (by omega) _
        refine zn_ald C hP 2 rfl hin9 (by omega) dX5_tiltAt_30 ?_
        refine lv_icmp_le (tgt := 38) hx hb dX5_tiltAt_31 (by decide) (fun c_4 => ?_) (fun c_4 => ?_)
        · refine lv_iload_n hx hb dX5_tiltAt_38 rfl (lv_at hl 1 rfl) ?_
          refine lv_istore_n (lv' := [(2, .int (-1)), (3, .int (nI 1)), (0, .ref (B 1 i)), (1, .int (nI col))]) hx hb dX5_tiltAt_39 rfl hl (by decide) rfl (fun ls hl => ?_)
          refine lv_iinc (v := nI 2) (lv' := [(3, .int (nI 2)), (2, .int (-1)), (0, .ref (B 1 i)), (1, .int (nI col))]) hx hb dX5_tiltAt_40 hl (k := 1) rfl (by decide) (by decide) rfl (fun ls hl => ?_)
          refine lv_goto (tgt := 4) hx hb dX5_tiltAt_43 (by decide) ?_
          refine lv_iload_n hx hb dX5_tiltAt_4 rfl (lv_at hl 0 rfl) ?_
          refine lv_iconst (v := nI 1) hx hb dX5_tiltAt_5 (by decide) ?_
          refine zn_gt (tgt := 46) C (by decide) (by decide) dX5_tiltAt_6 (by decide) (fun c_5 => ?_) (fun c_5 => ?_)
          · refine lv_iload_n hx hb dX5_tiltAt_46 rfl (lv_at hl 1 rfl) ?_
            exact ze_iretE C (by unfold zBest zB1; rw [if_pos (show zCup K σ i col (nI 0) ≤ zCup K σ i col (-1) from c_2), if_pos (show zCup K σ i col (nI 1) ≤ zCup K σ i col (-1) from c_4)]) dX5_tiltAt_47
          · exact absurd c_5 (by decide)
        · refine lv_iload_n hx hb dX5_tiltAt_34 rfl (lv_at hl 0 rfl) ?_
          refine lv_goto (tgt := 39) hx hb dX5_tiltAt_35 (by decide) ?_
          refine lv_istore_n (lv' := [(2, .int (nI 1)), (3, .int (nI 1)), (0, .ref (B 1 i)), (1, .int (nI col))]) hx hb dX5_tiltAt_39 rfl hl (by decide) rfl (fun ls hl => ?_)
          refine lv_iinc (v := nI 2) (lv' := [(3, .int (nI 2)), (2, .int (nI 1)), (0, .ref (B 1 i)), (1, .int (nI col))]) hx hb dX5_tiltAt_40 hl (k := 1) rfl (by decide) (by decide) rfl (fun ls hl => ?_)
          refine lv_goto (tgt := 4) hx hb dX5_tiltAt_43 (by decide) ?_
          refine lv_iload_n hx hb dX5_tiltAt_4 rfl (lv_at hl 0 rfl) ?_
          refine lv_iconst (v := nI 1) hx hb dX5_tiltAt_5 (by decide) ?_
          refine zn_gt (tgt := 46) C (by decide) (by decide) dX5_tiltAt_6 (by decide) (fun c_6 => ?_) (fun c_6 => ?_)
          · refine lv_iload_n hx hb dX5_tiltAt_46 rfl (lv_at hl 1 rfl) ?_
            exact ze_iretE C (by unfold zBest zB1; rw [if_pos (show zCup K σ i col (nI 0) ≤ zCup K σ i col (-1) from c_2), if_neg (show ¬ zCup K σ i col (nI 1) ≤ zCup K σ i col (-1) from c_4)]) dX5_tiltAt_47
          · exact absurd c_6 (by decide)
    · refine lv_iload_n hx hb dX5_tiltAt_34 rfl (lv_at hl 0 rfl) ?_
      refine lv_goto (tgt := 39) hx hb dX5_tiltAt_35 (by decide) ?_
      refine lv_istore_n (lv' := [(2, .int (nI 0)), (3, .int (nI 0)), (0, .ref (B 1 i)), (1, .int (nI col))]) hx hb dX5_tiltAt_39 rfl hl (by decide) rfl (fun ls hl => ?_)
      refine lv_iinc (v := nI 1) (lv' := [(3, .int (nI 1)), (2, .int (nI 0)), (0, .ref (B 1 i)), (1, .int (nI col))]) hx hb dX5_tiltAt_40 hl (k := 1) rfl (by decide) (by decide) rfl (fun ls hl => ?_)
      refine lv_goto (tgt := 4) hx hb dX5_tiltAt_43 (by decide) ?_
      refine lv_iload_n hx hb dX5_tiltAt_4 rfl (lv_at hl 0 rfl) ?_
      refine lv_iconst (v := nI 1) hx hb dX5_tiltAt_5 (by decide) ?_
      refine zn_gt (tgt := 46) C (by decide) (by decide) dX5_tiltAt_6 (by decide) (fun c_7 => ?_) (fun c_7 => ?_)
      · exact absurd c_7 (by decide)
      · refine lv_aload_n hx hb dX5_tiltAt_9 rfl (lv_at hl 2 rfl) ?_
        refine zgO (T := TX5) (N := 5) (ci := 3) C in_X5 hP 0 rfl rfl 4 (by decide) q379 rfl dX5_tiltAt_10 ?_
        refine lv_aload_n hx hb dX5_tiltAt_13 rfl (lv_at hl 2 rfl) ?_
        refine lv_iload_n hx hb dX5_tiltAt_14 rfl (lv_at hl 3 rfl) ?_
        refine lv_iload_n hx hb dX5_tiltAt_15 rfl (lv_at hl 0 rfl) ?_
        refine zcV1 (As := [.int (nI col), .int (nI 1)]) (rest := [.ref (B 3 i)]) C (ar_ends l G B K σ i hT col (nI 1) (by omega)) (lw_V q611 q595 q596 q55 q597) hdX5_ends ⟨Nat.le_of_ble_eq_true rfl, Nat.le_of_ble_eq_true rfl⟩ (zrO (ci := 3) (q0 := 0) hE hP rfl rfl) (hP) hl.1 rfl (Nat.le_of_ble_eq_true rfl) ⟨Nat.le_of_ble_eq_true rfl, Nat.le_of_ble_eq_true rfl⟩ dX5_tiltAt_16 ?_
        have hin9 : zEnd K σ i col (nI 1) < zWd σ i := zEndR_in (by omega) (by omega) _
        refine zn_ald C hP 2 rfl hin9 (by omega) dX5_tiltAt_19 ?_
        refine lv_aload_n hx hb dX5_tiltAt_20 rfl (lv_at hl 2 rfl) ?_
        refine zgO (T := TX5) (N := 5) (ci := 3) C in_X5 hP 0 rfl rfl 4 (by decide) q379 rfl dX5_tiltAt_21 ?_
        refine lv_aload_n hx hb dX5_tiltAt_24 rfl (lv_at hl 2 rfl) ?_
        refine lv_iload_n hx hb dX5_tiltAt_25 rfl (lv_at hl 3 rfl) ?_
        refine lv_iload_n hx hb dX5_tiltAt_26 rfl (lv_at hl 1 rfl) ?_
        refine zcV1 (As := [.int (nI col), .int (nI 0)]) (rest := [.ref (B 3 i), .int (zCup K σ i col (nI 1))]) C (ar_ends l G B K σ i hT col (nI 0) (by omega)) (lw_V q611 q595 q596 q55 q597) hdX5_ends ⟨Nat.le_of_ble_eq_true rfl, Nat.le_of_ble_eq_true rfl⟩ (zrO (ci := 3) (q0 := 0) hE hP rfl rfl) (hP) hl.1 rfl (Nat.le_of_ble_eq_true rfl) ⟨Nat.le_of_ble_eq_true rfl, Nat.le_of_ble_eq_true rfl⟩ dX5_tiltAt_27 ?_
        have hin9 : zEnd K σ i col (nI 0) < zWd σ i := zEndR_in (by omega) (by omega) _
        refine zn_ald C hP 2 rfl hin9 (by omega) dX5_tiltAt_30 ?_
        refine lv_icmp_le (tgt := 38) hx hb dX5_tiltAt_31 (by decide) (fun c_8 => ?_) (fun c_8 => ?_)
        · refine lv_iload_n hx hb dX5_tiltAt_38 rfl (lv_at hl 1 rfl) ?_
          refine lv_istore_n (lv' := [(2, .int (nI 0)), (3, .int (nI 1)), (0, .ref (B 1 i)), (1, .int (nI col))]) hx hb dX5_tiltAt_39 rfl hl (by decide) rfl (fun ls hl => ?_)
          refine lv_iinc (v := nI 2) (lv' := [(3, .int (nI 2)), (2, .int (nI 0)), (0, .ref (B 1 i)), (1, .int (nI col))]) hx hb dX5_tiltAt_40 hl (k := 1) rfl (by decide) (by decide) rfl (fun ls hl => ?_)
          refine lv_goto (tgt := 4) hx hb dX5_tiltAt_43 (by decide) ?_
          refine lv_iload_n hx hb dX5_tiltAt_4 rfl (lv_at hl 0 rfl) ?_
          refine lv_iconst (v := nI 1) hx hb dX5_tiltAt_5 (by decide) ?_
          refine zn_gt (tgt := 46) C (by decide) (by decide) dX5_tiltAt_6 (by decide) (fun c_9 => ?_) (fun c_9 => ?_)
          · refine lv_iload_n hx hb dX5_tiltAt_46 rfl (lv_at hl 1 rfl) ?_
            exact ze_iretE C (by unfold zBest zB1; rw [if_neg (show ¬ zCup K σ i col (nI 0) ≤ zCup K σ i col (-1) from c_2), if_pos (show zCup K σ i col (nI 1) ≤ zCup K σ i col (nI 0) from c_8)]) dX5_tiltAt_47
          · exact absurd c_9 (by decide)
        · refine lv_iload_n hx hb dX5_tiltAt_34 rfl (lv_at hl 0 rfl) ?_
          refine lv_goto (tgt := 39) hx hb dX5_tiltAt_35 (by decide) ?_
          refine lv_istore_n (lv' := [(2, .int (nI 1)), (3, .int (nI 1)), (0, .ref (B 1 i)), (1, .int (nI col))]) hx hb dX5_tiltAt_39 rfl hl (by decide) rfl (fun ls hl => ?_)
          refine lv_iinc (v := nI 2) (lv' := [(3, .int (nI 2)), (2, .int (nI 1)), (0, .ref (B 1 i)), (1, .int (nI col))]) hx hb dX5_tiltAt_40 hl (k := 1) rfl (by decide) (by decide) rfl (fun ls hl => ?_)
          refine lv_goto (tgt := 4) hx hb dX5_tiltAt_43 (by decide) ?_
          refine lv_iload_n hx hb dX5_tiltAt_4 rfl (lv_at hl 0 rfl) ?_
          refine lv_iconst (v := nI 1) hx hb dX5_tiltAt_5 (by decide) ?_
          refine zn_gt (tgt := 46) C (by decide) (by decide) dX5_tiltAt_6 (by decide) (fun c_10 => ?_) (fun c_10 => ?_)
          · refine lv_iload_n hx hb dX5_tiltAt_46 rfl (lv_at hl 1 rfl) ?_
            exact ze_iretE C (by unfold zBest zB1; rw [if_neg (show ¬ zCup K σ i col (nI 0) ≤ zCup K σ i col (-1) from c_2), if_neg (show ¬ zCup K σ i col (nI 1) ≤ zCup K σ i col (nI 0) from c_8)]) dX5_tiltAt_47
          · exact absurd c_10 (by decide)
set_option maxHeartbeats 4000000 in
theorem ar_deadT (l : Launch) (G : zG) (B : Nat → Nat → Nat) (K : zKt) (σ : zSt) (i : Nat) (hT : zTab σ i) : zMro l yX5_dead cX5_dead 4 (some .int) 1 G [.ref (B 1 i)] (va_P G.1 zCl (zTb G B K σ i)) (some (.int (zDead K σ i))) := by
  refine zMk [(0, .ref (B 1 i))] (by decide) (Nat.le_of_ble_eq_true rfl) rfl ?_
  intro p e s m below meth c ls C hP hl _
  generalize ([.ref (B 1 i)] : List Value).toArray = av at C ⊢
  have hx := C.1
  have hb := C.2.1
  have hml := C.2.2.1
  have hown := C.2.2.2.1
  have hts := C.2.2.2.2.1
  have hE := C.2.2.2.2.2.2.2
  have hw9 := hT.2.2.1
  refine lv_iconst (v := nI 0) hx hb dX5_dead_0 (by decide) ?_
  refine lv_istore_n (lv' := [(1, .int (nI 0)), (0, .ref (B 1 i))]) hx hb dX5_dead_1 rfl hl (by decide) rfl (fun ls hl => ?_)
  refine lv_iconst (v := nI 0) hx hb dX5_dead_2 (by decide) ?_
  refine lv_istore_n (lv' := [(2, .int (nI 0)), (1, .int (nI 0)), (0, .ref (B 1 i))]) hx hb dX5_dead_3 rfl hl (by decide) rfl (fun ls hl => ?_)
  have loop : ∀ (n : Nat) (k : Nat), (k ≤ zWd σ i) → (zWd σ i + 1 ≤ k + n) → ∀ (ls : Array Slot), lv_has ls 4 [(2, .int (nI k)), (1, .int (zRc K σ i k)), (0, .ref (B 1 i))] → W p l e (zRm 1 0 0) s m av below meth c s.heap [] 0 0 (MQ below (zRO (some (.int (zDead K σ i)))) av s 0 0 (fun _ => False)) (F0 m 4 ls []) := by
    intro n
    induction n with
    | zero =>
      intro k h8 h9
      exact absurd (And.intro h8 h9) (by omega)
    | succ n ih =>
      intro k h8 h9 ls hl
      refine lv_iload_n hx hb dX5_dead_4 rfl (lv_at hl 0 rfl) ?_
      refine lv_aload_n hx hb dX5_dead_5 rfl (lv_at hl 2 rfl) ?_
      refine zgO (T := TX5) (N := 5) (ci := 3) C in_X5 hP 0 rfl rfl 1 (by decide) q375 rfl dX5_dead_6 ?_
      refine zn_ge (tgt := 42) C (by omega) (by omega) dX5_dead_9 (by decide) (fun c_1 => ?_) (fun c_1 => ?_)
      · have hk9 : zWd σ i = k := by omega
        subst hk9
        refine lv_aload_n hx hb dX5_dead_42 rfl (lv_at hl 2 rfl) ?_
        refine zgO (T := TX5) (N := 5) (ci := 3) C in_X5 hP 0 rfl rfl 1 (by decide) q375 rfl dX5_dead_43 ?_
        refine lv_iload_n hx hb dX5_dead_46 rfl (lv_at hl 1 rfl) ?_
        refine zcS1 (As := [.int (zRc K σ i (zWd σ i))]) (rest := [.int (nI (zWd σ i))]) C (mo_bits l G (zRc K σ i (zWd σ i))) (lw_S q623 q624 q66 q625) hdJ16_bitCount.2 ⟨Nat.le_of_ble_eq_true rfl, Nat.le_of_ble_eq_true rfl⟩ (trivial) hl.1 rfl (Nat.le_of_ble_eq_true rfl) ⟨Nat.le_of_ble_eq_true rfl, Nat.le_of_ble_eq_true rfl⟩ dX5_dead_47 ?_
        refine lv_isub hx hb dX5_dead_50 ?_
        exact ze_iretE C (rfl) dX5_dead_51
      · refine lv_iconst (v := (-1)) hx hb dX5_dead_12 (by decide) ?_
        refine lv_istore_n (lv' := [(3, .int (-1)), (2, .int (nI k)), (1, .int (zRc K σ i k)), (0, .ref (B 1 i))]) hx hb dX5_dead_13 rfl hl (by decide) rfl (fun ls hl => ?_)
        refine lv_iload_n hx hb dX5_dead_14 rfl (lv_at hl 0 rfl) ?_
        refine lv_iconst (v := nI 1) hx hb dX5_dead_15 (by decide) ?_
        refine lv_icmp_gt (tgt := 36) hx hb dX5_dead_16 (by decide) (fun c_2 => ?_) (fun c_2 => ?_)
        · exact absurd c_2 (by decide)
        · refine lv_iload_n hx hb dX5_dead_19 rfl (lv_at hl 2 rfl) ?_
          refine lv_iconst (v := nI 1) hx hb dX5_dead_20 (by decide) ?_
          refine lv_aload_n hx hb dX5_dead_21 rfl (lv_at hl 3 rfl) ?_
          refine lv_iload_n hx hb dX5_dead_22 rfl (lv_at hl 1 rfl) ?_
          refine lv_iload_n hx hb dX5_dead_23 rfl (lv_at hl 0 rfl) ?_
          refine zcV1 (As := [.int (nI k), .int (-1)]) (rest := [.int (nI 1), .int (zRc K σ i k)]) C (ar_ends l G B K σ i hT k (-1) (by omega)) (lw_V q611 q595 q596 q55 q597) hdX5_ends ⟨Nat.le_of_ble_eq_true rfl, Nat.le_of_ble_eq_true rfl⟩ (zrO (ci := 3) (q0 := 0) hE hP rfl rfl) (hP) hl.1 rfl (Nat.le_of_ble_eq_true rfl) ⟨Nat.le_of_ble_eq_true rfl, Nat.le_of_ble_eq_true rfl⟩ dX5_dead_24 ?_
          refine lv_ishl hx hb dX5_dead_27 ?_
          refine lv_ior hx hb dX5_dead_28 ?_
          refine lv_istore_n (lv' := [(1, .int ((zRc K σ i k) ||| ((nI 1) <<< ((nI (zEnd K σ i k (-1))) &&& 31)))), (3, .int (-1)), (2, .int (nI k)), (0, .ref (B 1 i))]) hx hb dX5_dead_29 rfl hl (by decide) rfl (fun ls hl => ?_)
          refine lv_iinc (v := nI 0) (lv' := [(3, .int (nI 0)), (1, .int ((zRc K σ i k) ||| ((nI 1) <<< ((nI (zEnd K σ i k (-1))) &&& 31)))), (2, .int (nI k)), (0, .ref (B 1 i))]) hx hb dX5_dead_30 hl (k := 1) rfl (by decide) (by decide) rfl (fun ls hl => ?_)
          refine lv_goto (tgt := 14) hx hb dX5_dead_33 (by decide) ?_
          refine lv_iload_n hx hb dX5_dead_14 rfl (lv_at hl 0 rfl) ?_
          refine lv_iconst (v := nI 1) hx hb dX5_dead_15 (by decide) ?_
          refine zn_gt (tgt := 36) C (by decide) (by decide) dX5_dead_16 (by decide) (fun c_3 => ?_) (fun c_3 => ?_)
          · exact absurd c_3 (by decide)
          · refine lv_iload_n hx hb dX5_dead_19 rfl (lv_at hl 1 rfl) ?_
            refine lv_iconst (v := nI 1) hx hb dX5_dead_20 (by decide) ?_
            refine lv_aload_n hx hb dX5_dead_21 rfl (lv_at hl 3 rfl) ?_
            refine lv_iload_n hx hb dX5_dead_22 rfl (lv_at hl 2 rfl) ?_
            refine lv_iload_n hx hb dX5_dead_23 rfl (lv_at hl 0 rfl) ?_
            refine zcV1 (As := [.int (nI k), .int (nI 0)]) (rest := [.int (nI 1), .int ((zRc K σ i k) ||| ((nI 1) <<< ((nI (zEnd K σ i k (-1))) &&& 31)))]) C (ar_ends l G B K σ i hT k (nI 0) (by omega)) (lw_V q611 q595 q596 q55 q597) hdX5_ends ⟨Nat.le_of_ble_eq_true rfl, Nat.le_of_ble_eq_true rfl⟩ (zrO (ci := 3) (q0 := 0) hE hP rfl rfl) (hP) hl.1 rfl (Nat.le_of_ble_eq_true rfl) ⟨Nat.le_of_ble_eq_true rfl, Nat.le_of_ble_eq_true rfl⟩ dX5_dead_24 ?_
            refine lv_ishl hx hb dX5_dead_27 ?_
            refine lv_ior hx hb dX5_dead_28 ?_
            refine lv_istore_n (lv' := [(1, .int (((zRc K σ i k) ||| ((nI 1) <<< ((nI (zEnd K σ i k (-1))) &&& 31))) ||| ((nI 1) <<< ((nI (zEnd K σ i k (nI 0))) &&& 31)))), (3, .int (nI 0)), (2, .int (nI k)), (0, .ref (B 1 i))]) hx hb dX5_dead_29 rfl hl (by decide) rfl (fun ls hl => ?_)
            refine lv_iinc (v := nI 1) (lv' := [(3, .int (nI 1)), (1, .int (((zRc K σ i k) ||| ((nI 1) <<< ((nI (zEnd K σ i k (-1))) &&& 31))) ||| ((nI 1) <<< ((nI (zEnd K σ i k (nI 0))) &&& 31)))), (2, .int (nI k)), (0, .ref (B 1 i))]) hx hb dX5_dead_30 hl (k := 1) rfl (by decide) (by decide) rfl (fun ls hl => ?_)
            refine lv_goto (tgt := 14) hx hb dX5_dead_33 (by decide) ?_
            refine lv_iload_n hx hb dX5_dead_14 rfl (lv_at hl 0 rfl) ?_
            refine lv_iconst (v := nI 1) hx hb dX5_dead_15 (by decide) ?_
            refine zn_gt (tgt := 36) C (by decide) (by decide) dX5_dead_16 (by decide) (fun c_4 => ?_) (fun c_4 => ?_)
            · exact absurd c_4 (by decide)
            · refine lv_iload_n hx hb dX5_dead_19 rfl (lv_at hl 1 rfl) ?_
              refine lv_iconst (v := nI 1) hx hb dX5_dead_20 (by decide) ?_
              refine lv_aload_n hx hb dX5_dead_21 rfl (lv_at hl 3 rfl) ?_
              refine lv_iload_n hx hb dX5_dead_22 rfl (lv_at hl 2 rfl) ?_
              refine lv_iload_n hx hb dX5_dead_23 rfl (lv_at hl 0 rfl) ?_
              refine zcV1 (As := [.int (nI k), .int (nI 1)]) (rest := [.int (nI 1), .int (((zRc K σ i k) ||| ((nI 1) <<< ((nI (zEnd K σ i k (-1))) &&& 31))) ||| ((nI 1) <<< ((nI (zEnd K σ i k (nI 0))) &&& 31)))]) C (ar_ends l G B K σ i hT k (nI 1) (by omega)) (lw_V q611 q595 q596 q55 q597) hdX5_ends ⟨Nat.le_of_ble_eq_true rfl, Nat.le_of_ble_eq_true rfl⟩ (zrO (ci := 3) (q0 := 0) hE hP rfl rfl) (hP) hl.1 rfl (Nat.le_of_ble_eq_true rfl) ⟨Nat.le_of_ble_eq_true rfl, Nat.le_of_ble_eq_true rfl⟩ dX5_dead_24 ?_
              refine lv_ishl hx hb dX5_dead_27 ?_
              refine lv_ior hx hb dX5_dead_28 ?_
              refine lv_istore_n (lv' := [(1, .int ((((zRc K σ i k) ||| ((nI 1) <<< ((nI (zEnd K σ i k (-1))) &&& 31))) ||| ((nI 1) <<< ((nI (zEnd K σ i k (nI 0))) &&& 31))) ||| ((nI 1) <<< ((nI (zEnd K σ i k (nI 1))) &&& 31)))), (3, .int (nI 1)), (2, .int (nI k)), (0, .ref (B 1 i))]) hx hb dX5_dead_29 rfl hl (by decide) rfl (fun ls hl => ?_)
              refine lv_iinc (v := nI 2) (lv' := [(3, .int (nI 2)), (1, .int ((((zRc K σ i k) ||| ((nI 1) <<< ((nI (zEnd K σ i k (-1))) &&& 31))) ||| ((nI 1) <<< ((nI (zEnd K σ i k (nI 0))) &&& 31))) ||| ((nI 1) <<< ((nI (zEnd K σ i k (nI 1))) &&& 31)))), (2, .int (nI k)), (0, .ref (B 1 i))]) hx hb dX5_dead_30 hl (k := 1) rfl (by decide) (by decide) rfl (fun ls hl => ?_)
              refine lv_goto (tgt := 14) hx hb dX5_dead_33 (by decide) ?_
              refine lv_iload_n hx hb dX5_dead_14 rfl (lv_at hl 0 rfl) ?_
              refine lv_iconst (v := nI 1) hx hb dX5_dead_15 (by decide) ?_
              refine zn_gt (tgt := 36) C (by decide) (by decide) dX5_dead_16 (by decide) (fun c_5 => ?_) (fun c_5 => ?_)
              · refine lv_iinc (v := nI (k + 1)) (lv' := [(2, .int (nI (k + 1))), (3, .int (nI 2)), (1, .int ((((zRc K σ i k) ||| ((nI 1) <<< ((nI (zEnd K σ i k (-1))) &&& 31))) ||| ((nI 1) <<< ((nI (zEnd K σ i k (nI 0))) &&& 31))) ||| ((nI 1) <<< ((nI (zEnd K σ i k (nI 1))) &&& 31)))), (0, .ref (B 1 i))]) hx hb dX5_dead_36 hl (k := 2) rfl (nI_1 _) (by decide) rfl (fun ls hl => ?_)
                refine lv_goto (tgt := 4) hx hb dX5_dead_39 (by decide) ?_
                exact ih (k + 1) (by omega) (by omega) ls (lv_sub hl [0, 2, 3] rfl)
              · exact absurd c_5 (by decide)
  exact loop (zWd σ i + 1) 0 (by omega) (by omega) ls (lv_sub hl [0, 1, 2] rfl)
set_option maxHeartbeats 4000000 in
theorem ar_columnInT (l : Launch) (G : zG) (B : Nat → Nat → Nat) (K : zKt) (σ : zSt) (i : Nat) (hT : zTab σ i) (r : Nat) (hr31 : r < 2 ^ 31) : zMro l yX5_columnIn cX5_columnIn 2 (some .int) 0 G [.ref (B 1 i), .int (nI r)] (va_P G.1 zCl (zTb G B K σ i)) (some (.int (nI (r % zWd σ i)))) := by
  refine zMk [(0, .ref (B 1 i)), (1, .int (nI r))] (by decide) (Nat.le_of_ble_eq_true rfl) rfl ?_
  intro p e s m below meth c ls C hP hl _
  generalize ([.ref (B 1 i), .int (nI r)] : List Value).toArray = av at C ⊢
  have hx := C.1
  have hb := C.2.1
  have hml := C.2.2.1
  have hown := C.2.2.2.1
  have hts := C.2.2.2.2.1
  have hE := C.2.2.2.2.2.2.2
  refine lv_iload_n hx hb dX5_columnIn_0 rfl (lv_at hl 1 rfl) ?_
  refine lv_aload_n hx hb dX5_columnIn_1 rfl (lv_at hl 0 rfl) ?_
  refine zgO (T := TX5) (N := 5) (ci := 3) C in_X5 hP 0 rfl rfl 1 (by decide) q375 rfl dX5_columnIn_2 ?_
  refine zn_rem C hr31 (by have := hT.2.1; omega) (by have := hT.2.2.1; omega) dX5_columnIn_5 ?_
  exact ze_iretE C (rfl) dX5_columnIn_6
set_option maxHeartbeats 4000000 in
theorem ar_toldT (l : Launch) (G : zG) (B : Nat → Nat → Nat) (K : zKt) (σ : zSt) (i : Nat) (hT : zTab σ i) (w : Nat) (hw : w < 4) (h3 : σ 3 i = nI 0) : zMro l yX5_told cX5_told 2 (some .int) 0 G [.ref (B 1 i), .int (nI w)] (va_P G.1 zCl (zTb G B K σ i)) (some (.int (σ w i))) := by
  refine zMk [(0, .ref (B 1 i)), (1, .int (nI w))] (by decide) (Nat.le_of_ble_eq_true rfl) rfl ?_
  intro p e s m below meth c ls C hP hl _
  generalize ([.ref (B 1 i), .int (nI w)] : List Value).toArray = av at C ⊢
  have hx := C.1
  have hb := C.2.1
  have hml := C.2.2.1
  have hown := C.2.2.2.1
  have hts := C.2.2.2.2.1
  have hE := C.2.2.2.2.2.2.2
  refine lv_iload_n hx hb dX5_told_0 rfl (lv_at hl 1 rfl) ?_
  refine lv_iconst (v := nI 1) hx hb dX5_told_1 (by decide) ?_
  rcases (show w = 0 ∨ w = 1 ∨ w = 2 ∨ w = 3 by omega) with rfl | rfl | rfl | rfl
  · refine zn_ne (tgt := 12) C (by decide) (by decide) dX5_told_2 (by decide) (fun c_1 => ?_) (fun c_1 => ?_)
    · refine lv_iload_n hx hb dX5_told_12 rfl (lv_at hl 1 rfl) ?_
      refine lv_iconst (v := nI 2) hx hb dX5_told_13 (by decide) ?_
      refine zn_ne (tgt := 24) C (by decide) (by decide) dX5_told_14 (by decide) (fun c_2 => ?_) (fun c_2 => ?_)
      · refine lv_iconst (v := nI 0) hx hb dX5_told_24 (by decide) ?_
        exact ze_iretE C (hT.1.symm) dX5_told_25
      · exact absurd c_2 (by decide)
    · exact absurd c_1 (by decide)
  · refine zn_ne (tgt := 12) C (by decide) (by decide) dX5_told_2 (by decide) (fun c_3 => ?_) (fun c_3 => ?_)
    · exact absurd rfl c_3
    · refine lv_aload_n hx hb dX5_told_5 rfl (lv_at hl 0 rfl) ?_
      refine zgO (T := TX5) (N := 5) (ci := 3) C in_X5 hP 0 rfl rfl 1 (by decide) q375 rfl dX5_told_6 ?_
      refine lv_goto (tgt := 25) hx hb dX5_told_9 (by decide) ?_
      exact ze_iretE C (hT.2.2.2.2.2.1.symm) dX5_told_25
  · refine zn_ne (tgt := 12) C (by decide) (by decide) dX5_told_2 (by decide) (fun c_4 => ?_) (fun c_4 => ?_)
    · refine lv_iload_n hx hb dX5_told_12 rfl (lv_at hl 1 rfl) ?_
      refine lv_iconst (v := nI 2) hx hb dX5_told_13 (by decide) ?_
      refine zn_ne (tgt := 24) C (by decide) (by decide) dX5_told_14 (by decide) (fun c_5 => ?_) (fun c_5 => ?_)
      · exact absurd rfl c_5
      · refine lv_aload_n hx hb dX5_told_17 rfl (lv_at hl 0 rfl) ?_
        refine zgO (T := TX5) (N := 5) (ci := 3) C in_X5 hP 0 rfl rfl 2 (by decide) q376 rfl dX5_told_18 ?_
        refine lv_goto (tgt := 25) hx hb dX5_told_21 (by decide) ?_
        exact ze_iretE C (hT.2.2.2.2.2.2.symm) dX5_told_25
    · exact absurd c_4 (by decide)
  · refine zn_ne (tgt := 12) C (by decide) (by decide) dX5_told_2 (by decide) (fun c_6 => ?_) (fun c_6 => ?_)
    · refine lv_iload_n hx hb dX5_told_12 rfl (lv_at hl 1 rfl) ?_
      refine lv_iconst (v := nI 2) hx hb dX5_told_13 (by decide) ?_
      refine zn_ne (tgt := 24) C (by decide) (by decide) dX5_told_14 (by decide) (fun c_7 => ?_) (fun c_7 => ?_)
      · refine lv_iconst (v := nI 0) hx hb dX5_told_24 (by decide) ?_
        exact ze_iretE C (h3.symm) dX5_told_25
      · exact absurd c_7 (by decide)
    · exact absurd c_6 (by decide)
set_option maxHeartbeats 4000000 in
theorem ar_takeT (l : Launch) (G : zG) (B : Nat → Nat → Nat) (K : zKt) (σ : zSt) (i : Nat) (hT : zTab σ i) (h : Nat → Nat) (x : Nat) (col : Nat) (tilt : Int32) (hi : i < 8) (hc : col < zWd σ i) (hI : zInj h 13) (hdj : ¬ zA h 13 (B 1 i) ∧ ¬ zA h 13 (B 2 i) ∧ ¬ zA h 13 (B 3 i)) : zMrw l yX5_take cX5_take 5 (some .int) 1 0 0 G [.ref (B 1 i), .ref (h 0), .int (nI col), .int tilt] (fun H => zHP G h x σ H ∧ va_P G.1 zCl (zTb G B K σ i) H) (some (.int (zTk K σ i col tilt).2)) (zHP G h x (zTk K σ i col tilt).1) (zA h 13) := by
  refine zMk [(0, .ref (B 1 i)), (1, .ref (h 0)), (2, .int (nI col)), (3, .int tilt)] (by decide) (Nat.le_of_ble_eq_true rfl) rfl ?_
  intro p e s m below meth c ls C hP hl hin
  generalize ([.ref (B 1 i), .ref (h 0), .int (nI col), .int tilt] : List Value).toArray = av at C ⊢
  have hx := C.1
  have hb := C.2.1
  have hml := C.2.2.1
  have hown := C.2.2.2.1
  have hts := C.2.2.2.2.1
  have hE := C.2.2.2.2.2.2.2
  have hS : va_S (zA h 13) s.heap s.heap [] := va_S.rf
  obtain ⟨hP, hTb⟩ := hP
  have hTb0 := hTb
  have hw9 := hT.2.2.1
  refine lv_aload_n hx hb dX5_take_0 rfl (lv_at hl 1 rfl) ?_
  refine zgN (T := TX2) (N := 16) (ci := 2) C in_X2 hP 0 rfl rfl 1 (by decide) q112 rfl dX5_take_1 ?_
  refine lv_aload_n hx hb dX5_take_4 rfl (lv_at hl 0 rfl) ?_
  refine zgS (T := TX5) (N := 5) (ci := 3) C in_X5 hTb 0 rfl rfl 0 (by decide) q386 q387 rfl dX5_take_5 ?_
  refine lv_dup2_11 hx hb dX5_take_8 rfl rfl ?_
  refine zn_ald C hP 1 rfl (by omega) (Nat.le_of_ble_eq_true rfl) dX5_take_9 ?_
  refine lv_iconst (v := nI 1) hx hb dX5_take_10 (by decide) ?_
  refine lv_iadd hx hb dX5_take_11 ?_
  refine zn_ast C hP (zH_D hI (fun _ h => h)) hS 1 rfl (by omega) (Nat.le_of_ble_eq_true rfl) dX5_take_12 (fun H locs hP hS => ?_)
  rw [zH_up1] at hP
  have hP : zHP G h x (zup σ 4 i ((σ 4 i) + (nI 1))) H := hP
  have hTb := zTb_keep hTb0 (zS_F hS) hdj
  refine lv_aload_n hx hb dX5_take_13 rfl (lv_at hl 1 rfl) ?_
  refine zgN (T := TX2) (N := 16) (ci := 2) C in_X2 hP 0 rfl rfl 1 (by decide) q112 rfl dX5_take_14 ?_
  refine lv_aload_n hx hb dX5_take_17 rfl (lv_at hl 0 rfl) ?_
  refine zgS (T := TX5) (N := 5) (ci := 3) C in_X5 hTb 0 rfl rfl 0 (by decide) q386 q387 rfl dX5_take_18 ?_
  refine zn_ald C hP 1 rfl (by omega) (Nat.le_of_ble_eq_true rfl) dX5_take_21 ?_
  rw [zup_s]
  refine lv_aload_n hx hb dX5_take_22 rfl (lv_at hl 0 rfl) ?_
  refine zgO (T := TX5) (N := 5) (ci := 3) C in_X5 hTb 0 rfl rfl 4 (by decide) q379 rfl dX5_take_23 ?_
  refine lv_aload_n hx hb dX5_take_26 rfl (lv_at hl 0 rfl) ?_
  refine lv_iload_n hx hb dX5_take_27 rfl (lv_at hl 2 rfl) ?_
  refine lv_iload_n hx hb dX5_take_28 rfl (lv_at hl 3 rfl) ?_
  refine zcV1 (As := [.int (nI col), .int tilt]) (rest := [.ref (B 3 i), .int (σ 4 i + nI 1)]) C (ar_ends l G B K σ i hT col tilt (by omega)) (lw_V q611 q595 q596 q55 q597) hdX5_ends ⟨Nat.le_of_ble_eq_true rfl, Nat.le_of_ble_eq_true rfl⟩ (zrO (ci := 3) (q0 := 0) hE hTb rfl rfl) (hTb) hl.1 rfl (Nat.le_of_ble_eq_true rfl) ⟨Nat.le_of_ble_eq_true rfl, Nat.le_of_ble_eq_true rfl⟩ dX5_take_29 ?_
  have hin9 : zEnd K σ i col tilt < zWd σ i := zEndR_in (by omega) (by omega) _
  refine zn_ald C hTb 2 rfl hin9 (by omega) dX5_take_32 ?_
  refine va_mmin hx hb (hml.trans hl.1.symm) hown (hts _ q598) (hts _ q454) (hts _ q57) (hts _ q455) (Nat.le_of_ble_eq_true rfl) (Nat.le_of_ble_eq_true rfl) (Nat.le_of_ble_eq_true rfl) (Nat.le_of_ble_eq_true rfl) dX5_take_33 ?_
  rw [show (if (zCup K σ i col tilt) < (σ 4 i + nI 1) then (zCup K σ i col tilt) else (σ 4 i + nI 1)) = zPay K σ i col tilt from rfl]
  refine lv_istore (lv' := [(4, .int (zPay K σ i col tilt)), (0, .ref (B 1 i)), (1, .ref (h 0)), (2, .int (nI col)), (3, .int tilt)]) hx hb dX5_take_36 hl (by decide) rfl (fun ls hl => ?_)
  refine lv_aload_n hx hb dX5_take_38 rfl (lv_at hl 2 rfl) ?_
  refine zgN (T := TX2) (N := 16) (ci := 2) C in_X2 hP 0 rfl rfl 1 (by decide) q112 rfl dX5_take_39 ?_
  refine lv_aload_n hx hb dX5_take_42 rfl (lv_at hl 1 rfl) ?_
  refine zgS (T := TX5) (N := 5) (ci := 3) C in_X5 hTb 0 rfl rfl 0 (by decide) q386 q387 rfl dX5_take_43 ?_
  refine lv_dup2_11 hx hb dX5_take_46 rfl rfl ?_
  refine zn_ald C hP 1 rfl (by omega) (Nat.le_of_ble_eq_true rfl) dX5_take_47 ?_
  rw [zup_s]
  refine lv_iload hx hb dX5_take_48 (lv_at hl 0 rfl) ?_
  refine lv_isub hx hb dX5_take_50 ?_
  refine zn_ast C hP (zH_D hI (fun _ h => h)) hS 1 rfl (by omega) (Nat.le_of_ble_eq_true rfl) dX5_take_51 (fun H locs hP hS => ?_)
  rw [zH_up1] at hP
  have hP : zHP G h x (zup (zup σ 4 i ((σ 4 i) + (nI 1))) 4 i ((σ 4 i + nI 1) - (zPay K σ i col tilt))) H := hP
  refine lv_iload hx hb dX5_take_52 (lv_at hl 0 rfl) ?_
  exact zw_iretE C (by unfold zTk; rw [if_pos (show σ 0 i = 0 from hT.1)]) (by unfold zTk; rw [if_pos (show σ 0 i = 0 from hT.1)]; rw [zup_zup] at hP; exact hP) hS dX5_take_54
set_option maxHeartbeats 4000000 in
theorem ar_requirePlayP (l : Launch) (G : zG) (B : Nat → Nat → Nat) (K : zKt) (σ : zSt) (i : Nat) (hT : zPsh σ i) (v t : Int32) : zMro l yX6_requirePlay cX6_requirePlay 3 (none) 0 G [.ref (B 1 i), .int v, .int t] (va_P G.1 zCl (zPu B σ i)) (none) := by
  refine zMk [(0, .ref (B 1 i)), (1, .int v), (2, .int t)] (by decide) (Nat.le_of_ble_eq_true rfl) rfl ?_
  intro p e s m below meth c ls C hP hl _
  generalize ([.ref (B 1 i), .int v, .int t] : List Value).toArray = av at C ⊢
  have hx := C.1
  have hb := C.2.1
  have hml := C.2.2.1
  have hown := C.2.2.2.1
  have hts := C.2.2.2.2.1
  have hE := C.2.2.2.2.2.2.2
  exact ze_vret C dX6_requirePlay_0
set_option maxHeartbeats 4000000 in
theorem ar_columnInP (l : Launch) (G : zG) (B : Nat → Nat → Nat) (K : zKt) (σ : zSt) (i : Nat) (hT : zPsh σ i) (v : Int32) : zMro l yX6_columnIn cX6_columnIn 2 (some .int) 0 G [.ref (B 1 i), .int v] (va_P G.1 zCl (zPu B σ i)) (some (.int (nI 0))) := by
  refine zMk [(0, .ref (B 1 i)), (1, .int v)] (by decide) (Nat.le_of_ble_eq_true rfl) rfl ?_
  intro p e s m below meth c ls C hP hl _
  generalize ([.ref (B 1 i), .int v] : List Value).toArray = av at C ⊢
  have hx := C.1
  have hb := C.2.1
  have hml := C.2.2.1
  have hown := C.2.2.2.1
  have hts := C.2.2.2.2.1
  have hE := C.2.2.2.2.2.2.2
  refine lv_iconst (v := nI 0) hx hb dX6_columnIn_0 (by decide) ?_
  exact ze_iretE C (rfl) dX6_columnIn_1
set_option maxHeartbeats 4000000 in
theorem ar_tiltAtP (l : Launch) (G : zG) (B : Nat → Nat → Nat) (K : zKt) (σ : zSt) (i : Nat) (hT : zPsh σ i) (v : Int32) : zMro l yX6_tiltAt cX6_tiltAt 2 (some .int) 0 G [.ref (B 1 i), .int v] (va_P G.1 zCl (zPu B σ i)) (some (.int (nI 0))) := by
  refine zMk [(0, .ref (B 1 i)), (1, .int v)] (by decide) (Nat.le_of_ble_eq_true rfl) rfl ?_
  intro p e s m below meth c ls C hP hl _
  generalize ([.ref (B 1 i), .int v] : List Value).toArray = av at C ⊢
  have hx := C.1
  have hb := C.2.1
  have hml := C.2.2.1
  have hown := C.2.2.2.1
  have hts := C.2.2.2.2.1
  have hE := C.2.2.2.2.2.2.2
  refine lv_iconst (v := nI 0) hx hb dX6_tiltAt_0 (by decide) ?_
  exact ze_iretE C (rfl) dX6_tiltAt_1
set_option maxHeartbeats 4000000 in
theorem ar_toldP (l : Launch) (G : zG) (B : Nat → Nat → Nat) (K : zKt) (σ : zSt) (i : Nat) (hT : zPsh σ i) (w : Nat) (hw : w < 4) : zMro l yX6_told cX6_told 2 (some .int) 0 G [.ref (B 1 i), .int (nI w)] (va_P G.1 zCl (zPu B σ i)) (some (.int (σ w i))) := by
  refine zMk [(0, .ref (B 1 i)), (1, .int (nI w))] (by decide) (Nat.le_of_ble_eq_true rfl) rfl ?_
  intro p e s m below meth c ls C hP hl _
  generalize ([.ref (B 1 i), .int (nI w)] : List Value).toArray = av at C ⊢
  have hx := C.1
  have hb := C.2.1
  have hml := C.2.2.1
  have hown := C.2.2.2.1
  have hts := C.2.2.2.2.1
  have hE := C.2.2.2.2.2.2.2
  refine lv_iload_n hx hb dX6_told_0 rfl (lv_at hl 1 rfl) ?_
  rcases (show w = 0 ∨ w = 1 ∨ w = 2 ∨ w = 3 by omega) with rfl | rfl | rfl | rfl
  · refine zn_ifn0 (tgt := 8) C (by decide) dX6_told_1 (by decide) (fun c_1 => ?_) (fun c_1 => ?_)
    · exact absurd rfl c_1
    · refine lv_iconst (v := nI 1) hx hb dX6_told_4 (by decide) ?_
      refine lv_goto (tgt := 21) hx hb dX6_told_5 (by decide) ?_
      exact ze_iretE C (hT.1.symm) dX6_told_21
  · refine zn_ifn0 (tgt := 8) C (by decide) dX6_told_1 (by decide) (fun c_2 => ?_) (fun c_2 => ?_)
    · refine lv_iload_n hx hb dX6_told_8 rfl (lv_at hl 1 rfl) ?_
      refine lv_iconst (v := nI 3) hx hb dX6_told_9 (by decide) ?_
      refine zn_ne (tgt := 20) C (by decide) (by decide) dX6_told_10 (by decide) (fun c_3 => ?_) (fun c_3 => ?_)
      · refine lv_iconst (v := nI 0) hx hb dX6_told_20 (by decide) ?_
        exact ze_iretE C (hT.2.1.symm) dX6_told_21
      · exact absurd c_3 (by decide)
    · exact absurd c_2 (by decide)
  · refine zn_ifn0 (tgt := 8) C (by decide) dX6_told_1 (by decide) (fun c_4 => ?_) (fun c_4 => ?_)
    · refine lv_iload_n hx hb dX6_told_8 rfl (lv_at hl 1 rfl) ?_
      refine lv_iconst (v := nI 3) hx hb dX6_told_9 (by decide) ?_
      refine zn_ne (tgt := 20) C (by decide) (by decide) dX6_told_10 (by decide) (fun c_5 => ?_) (fun c_5 => ?_)
      · refine lv_iconst (v := nI 0) hx hb dX6_told_20 (by decide) ?_
        exact ze_iretE C (hT.2.2.symm) dX6_told_21
      · exact absurd c_5 (by decide)
    · exact absurd c_4 (by decide)
  · refine zn_ifn0 (tgt := 8) C (by decide) dX6_told_1 (by decide) (fun c_6 => ?_) (fun c_6 => ?_)
    · refine lv_iload_n hx hb dX6_told_8 rfl (lv_at hl 1 rfl) ?_
      refine lv_iconst (v := nI 3) hx hb dX6_told_9 (by decide) ?_
      refine zn_ne (tgt := 20) C (by decide) (by decide) dX6_told_10 (by decide) (fun c_7 => ?_) (fun c_7 => ?_)
      · exact absurd rfl c_7
      · refine lv_aload_n hx hb dX6_told_13 rfl (lv_at hl 0 rfl) ?_
        refine zgO (T := TX6) (N := 2) (ci := 4) C in_X6 hP 0 rfl rfl 1 (by decide) q474 rfl dX6_told_14 ?_
        refine lv_goto (tgt := 21) hx hb dX6_told_17 (by decide) ?_
        exact ze_iretE C (rfl) dX6_told_21
    · exact absurd c_6 (by decide)
set_option maxHeartbeats 4000000 in
theorem ar_takeP0 (l : Launch) (G : zG) (B : Nat → Nat → Nat) (K : zKt) (σ : zSt) (i : Nat) (hT : zPsh σ i) (h : Nat → Nat) (x : Nat) (cv tilt : Int32) (hi : i < 8) (hI : zInj h 13) (hdj : ¬ zA h 13 (B 1 i)) : zMrw l yX6_take cX6_take 8 (some .int) 0 0 0 G [.ref (B 1 i), .ref (h 0), .int cv, .int tilt] (fun H => zHP G h x σ H ∧ va_P G.1 zCl (zPu B σ i) H) (some (.int (zPush σ i).2)) (zHP G h x (zPush σ i).1) (zA h 13) := by
  refine zMk [(0, .ref (B 1 i)), (1, .ref (h 0)), (2, .int cv), (3, .int tilt)] (by decide) (Nat.le_of_ble_eq_true rfl) rfl ?_
  intro p e s m below meth c ls C hP hl hin
  generalize ([.ref (B 1 i), .ref (h 0), .int cv, .int tilt] : List Value).toArray = av at C ⊢
  have hx := C.1
  have hb := C.2.1
  have hml := C.2.2.1
  have hown := C.2.2.2.1
  have hts := C.2.2.2.2.1
  have hE := C.2.2.2.2.2.2.2
  have hS : va_S (zA h 13) s.heap s.heap [] := va_S.rf
  obtain ⟨hP, hPu⟩ := hP
  have hPu0 := hPu
  refine lv_iconst (v := nI 5) hx hb dX6_take_0 (by decide) ?_
  refine lv_aload_n hx hb dX6_take_1 rfl (lv_at hl 0 rfl) ?_
  refine zgS (T := TX6) (N := 2) (ci := 4) C in_X6 hPu 0 rfl rfl 0 (by decide) q383 q384 rfl dX6_take_2 ?_
  refine zn_mul C dX6_take_5 ?_
  refine lv_istore (lv' := [(4, .int (nI (5 * i))), (0, .ref (B 1 i)), (1, .ref (h 0)), (2, .int cv), (3, .int tilt)]) hx hb dX6_take_6 hl (by decide) rfl (fun ls hl => ?_)
  refine lv_aload_n hx hb dX6_take_8 rfl (lv_at hl 2 rfl) ?_
  refine zgN (T := TX2) (N := 16) (ci := 2) C in_X2 hP 0 rfl rfl 6 (by decide) q122 rfl dX6_take_9 ?_
  refine lv_iload hx hb dX6_take_12 (lv_at hl 0 rfl) ?_
  refine lv_dup2_11 hx hb dX6_take_14 rfl rfl ?_
  refine zn_ald C hP 6 rfl (by omega) (Nat.le_of_ble_eq_true rfl) dX6_take_15 ?_
  refine lv_iconst (v := nI 1) hx hb dX6_take_16 (by decide) ?_
  refine lv_iadd hx hb dX6_take_17 ?_
  refine zn_ast C hP (zH_D hI (fun _ h => h)) hS 6 rfl (by omega) (Nat.le_of_ble_eq_true rfl) dX6_take_18 (fun H locs hP hS => ?_)
  rw [zH_up6] at hP
  have hP : zHP G h x (zup σ 20 (5 * i) ((σ 20 (5 * i)) + (nI 1))) H := hP
  refine lv_iconst (v := nI 0) hx hb dX6_take_19 (by decide) ?_
  refine lv_istore (lv' := [(5, .int (nI 0)), (4, .int (nI (5 * i))), (0, .ref (B 1 i)), (1, .ref (h 0)), (2, .int cv), (3, .int tilt)]) hx hb dX6_take_20 hl (by decide) rfl (fun ls hl => ?_)
  refine lv_iconst (v := nI 0) hx hb dX6_take_22 (by decide) ?_
  refine lv_istore (lv' := [(6, .int (nI 0)), (5, .int (nI 0)), (4, .int (nI (5 * i))), (0, .ref (B 1 i)), (1, .ref (h 0)), (2, .int cv), (3, .int tilt)]) hx hb dX6_take_23 hl (by decide) rfl (fun ls hl => ?_)
  have loop : ∀ (n : Nat) (k : Nat), (k ≤ 5) → (6 ≤ k + n) → ∀ (H : Heap) (locs : List Loc), zHP G h x (zPsR (σ 3 i) i (zup σ 20 (5 * i) (σ 20 (5 * i) + nI 1), nI 0) k).1 H → va_S (zA h 13) s.heap H locs → ∀ (ls : Array Slot), lv_has ls 8 [(6, .int (nI k)), (5, .int ((zPsR (σ 3 i) i (zup σ 20 (5 * i) (σ 20 (5 * i) + nI 1), nI 0) k).2)), (4, .int (nI (5 * i))), (0, .ref (B 1 i)), (1, .ref (h 0))] → W p l e (zRm 0 0 0) s m av below meth c H locs 0 0 (MQ below (zRW (some (.int (zPush σ i).2)) (zHP G h x (zPush σ i).1) (zA h 13)) av s 0 0 (zA h 13)) (F0 m 25 ls []) := by
    intro n
    induction n with
    | zero =>
      intro k h1 h2
      exact absurd (And.intro h1 h2) (by omega)
    | succ n ih =>
      intro k h1 h2 H locs hP hS ls hl
      have hPu := zP_one hPu0 (zS_F hS) hdj
      generalize hX : zPsR (σ 3 i) i (zup σ 20 (5 * i) (σ 20 (5 * i) + nI 1), nI 0) k = y at hP hl
      refine lv_iload hx hb dX6_take_25 (lv_at hl 0 rfl) ?_
      refine lv_iconst (v := nI 5) hx hb dX6_take_27 (by decide) ?_
      refine zn_ge (tgt := 114) C (by omega) (by omega) dX6_take_28 (by decide) (fun c_1 => ?_) (fun c_1 => ?_)
      · have hk9 : 5 = k := by omega
        subst hk9
        refine lv_iload hx hb dX6_take_114 (lv_at hl 1 rfl) ?_
        exact zw_iretE C (by rw [← hX]; rfl) (by rw [← hX] at hP; exact hP) hS dX6_take_116
      · refine lv_aload_n hx hb dX6_take_31 rfl (lv_at hl 4 rfl) ?_
        refine zgN (T := TX2) (N := 16) (ci := 2) C in_X2 hP 0 rfl rfl 6 (by decide) q122 rfl dX6_take_32 ?_
        refine lv_iload hx hb dX6_take_35 (lv_at hl 2 rfl) ?_
        refine lv_iload hx hb dX6_take_37 (lv_at hl 0 rfl) ?_
        refine zn_add C dX6_take_39 ?_
        refine zn_ald C hP 6 rfl (by omega) (Nat.le_of_ble_eq_true rfl) dX6_take_40 ?_
        refine lv_istore (lv' := [(7, .int (y.1 20 (5 * i + k))), (6, .int (nI k)), (5, .int y.2), (4, .int (nI (5 * i))), (0, .ref (B 1 i)), (1, .ref (h 0))]) hx hb dX6_take_41 hl (by decide) rfl (fun ls hl => ?_)
        refine lv_iload hx hb dX6_take_43 (lv_at hl 0 rfl) ?_
        refine lv_aload_n hx hb dX6_take_45 rfl (lv_at hl 4 rfl) ?_
        refine zgO (T := TX6) (N := 2) (ci := 4) C in_X6 hPu 0 rfl rfl 1 (by decide) q474 rfl dX6_take_46 ?_
        refine lv_icmp_gt (tgt := 55) hx hb dX6_take_49 (by decide) (fun c_2 => ?_) (fun c_2 => ?_)
        · refine lv_aload_n hx hb dX6_take_55 rfl (lv_at hl 5 rfl) ?_
          refine zgN (T := TX2) (N := 16) (ci := 2) C in_X2 hP 0 rfl rfl 6 (by decide) q122 rfl dX6_take_56 ?_
          refine lv_iload hx hb dX6_take_59 (lv_at hl 3 rfl) ?_
          refine lv_iload hx hb dX6_take_61 (lv_at hl 1 rfl) ?_
          refine zn_add C dX6_take_63 ?_
          refine lv_dup2_11 hx hb dX6_take_64 rfl rfl ?_
          refine zn_ald C hP 6 rfl (by omega) (Nat.le_of_ble_eq_true rfl) dX6_take_65 ?_
          refine lv_iload hx hb dX6_take_66 (lv_at hl 0 rfl) ?_
          refine lv_iconst (v := nI 2) hx hb dX6_take_68 (by decide) ?_
          refine lv_idiv hx hb dX6_take_69 (by decide) ?_
          refine lv_isub hx hb dX6_take_70 ?_
          refine zn_ast C hP (zH_D hI (fun _ h => h)) hS 6 rfl (by omega) (Nat.le_of_ble_eq_true rfl) dX6_take_71 (fun H locs hP hS => ?_)
          rw [zH_up6] at hP
          have hP : zHP G h x (zup y.1 20 ((5 * i) + k) ((y.1 20 (5 * i + k)) - ((y.1 20 (5 * i + k)) / (nI 2)))) H := hP
          refine lv_iload hx hb dX6_take_72 (lv_at hl 1 rfl) ?_
          refine lv_iconst (v := nI 1) hx hb dX6_take_74 (by decide) ?_
          refine zn_add C dX6_take_75 ?_
          refine lv_iconst (v := nI 5) hx hb dX6_take_76 (by decide) ?_
          refine zn_ge (tgt := 102) C (by omega) (by omega) dX6_take_77 (by decide) (fun c_3 => ?_) (fun c_3 => ?_)
          · refine lv_iload hx hb dX6_take_102 (lv_at hl 0 rfl) ?_
            refine lv_iconst (v := nI 2) hx hb dX6_take_104 (by decide) ?_
            refine lv_idiv hx hb dX6_take_105 (by decide) ?_
            refine lv_istore (lv' := [(5, .int ((y.1 20 (5 * i + k)) / (nI 2))), (7, .int (y.1 20 (5 * i + k))), (6, .int (nI k)), (4, .int (nI (5 * i))), (0, .ref (B 1 i)), (1, .ref (h 0))]) hx hb dX6_take_106 hl (by decide) rfl (fun ls hl => ?_)
            refine lv_iinc (v := nI (k + 1)) (lv' := [(6, .int (nI (k + 1))), (5, .int ((y.1 20 (5 * i + k)) / (nI 2))), (7, .int (y.1 20 (5 * i + k))), (4, .int (nI (5 * i))), (0, .ref (B 1 i)), (1, .ref (h 0))]) hx hb dX6_take_108 hl (k := 2) rfl (nI_1 _) (by decide) rfl (fun ls hl => ?_)
            refine lv_goto (tgt := 25) hx hb dX6_take_111 (by decide) ?_
            have e9 : zPsR (σ 3 i) i (zup σ 20 (5 * i) (σ 20 (5 * i) + nI 1), nI 0) (k + 1) = (zup y.1 20 ((5 * i) + k) ((y.1 20 (5 * i + k)) - ((y.1 20 (5 * i + k)) / (nI 2))), (y.1 20 (5 * i + k)) / (nI 2)) := by show zPs _ _ _ (zPsR (σ 3 i) i (zup σ 20 (5 * i) (σ 20 (5 * i) + nI 1), nI 0) k) = _; rw [hX]; unfold zPs; rw [if_neg (Int32.not_le.mpr c_2), if_pos (show k = 4 by omega)]
            exact ih (k + 1) (by omega) (by omega) H locs (by rw [e9]; exact hP) hS ls (by rw [e9]; exact (lv_sub hl [0, 1, 3, 4, 5] rfl))
          · refine lv_aload_n hx hb dX6_take_80 rfl (lv_at hl 5 rfl) ?_
            refine zgN (T := TX2) (N := 16) (ci := 2) C in_X2 hP 0 rfl rfl 6 (by decide) q122 rfl dX6_take_81 ?_
            refine lv_iload hx hb dX6_take_84 (lv_at hl 3 rfl) ?_
            refine lv_iload hx hb dX6_take_86 (lv_at hl 1 rfl) ?_
            refine zn_add C dX6_take_88 ?_
            refine lv_iconst (v := nI 1) hx hb dX6_take_89 (by decide) ?_
            refine zn_add C dX6_take_90 ?_
            refine lv_dup2_11 hx hb dX6_take_91 rfl rfl ?_
            refine zn_ald C hP 6 rfl (by omega) (Nat.le_of_ble_eq_true rfl) dX6_take_92 ?_
            refine lv_iload hx hb dX6_take_93 (lv_at hl 0 rfl) ?_
            refine lv_iconst (v := nI 2) hx hb dX6_take_95 (by decide) ?_
            refine lv_idiv hx hb dX6_take_96 (by decide) ?_
            refine lv_iadd hx hb dX6_take_97 ?_
            refine zn_ast C hP (zH_D hI (fun _ h => h)) hS 6 rfl (by omega) (Nat.le_of_ble_eq_true rfl) dX6_take_98 (fun H locs hP hS => ?_)
            rw [zH_up6] at hP
            have hP : zHP G h x (zup (zup y.1 20 ((5 * i) + k) ((y.1 20 (5 * i + k)) - ((y.1 20 (5 * i + k)) / (nI 2)))) 20 (((5 * i) + k) + 1) (((zup y.1 20 ((5 * i) + k) ((y.1 20 (5 * i + k)) - ((y.1 20 (5 * i + k)) / (nI 2)))) 20 (5 * i + k + 1)) + ((y.1 20 (5 * i + k)) / (nI 2)))) H := hP
            refine lv_goto (tgt := 108) hx hb dX6_take_99 (by decide) ?_
            refine lv_iinc (v := nI (k + 1)) (lv' := [(6, .int (nI (k + 1))), (7, .int (y.1 20 (5 * i + k))), (5, .int y.2), (4, .int (nI (5 * i))), (0, .ref (B 1 i)), (1, .ref (h 0))]) hx hb dX6_take_108 hl (k := 1) rfl (nI_1 _) (by decide) rfl (fun ls hl => ?_)
            refine lv_goto (tgt := 25) hx hb dX6_take_111 (by decide) ?_
            have e9 : zPsR (σ 3 i) i (zup σ 20 (5 * i) (σ 20 (5 * i) + nI 1), nI 0) (k + 1) = (zup (zup y.1 20 ((5 * i) + k) ((y.1 20 (5 * i + k)) - ((y.1 20 (5 * i + k)) / (nI 2)))) 20 (((5 * i) + k) + 1) (((zup y.1 20 ((5 * i) + k) ((y.1 20 (5 * i + k)) - ((y.1 20 (5 * i + k)) / (nI 2)))) 20 (5 * i + k + 1)) + ((y.1 20 (5 * i + k)) / (nI 2))), y.2) := by show zPs _ _ _ (zPsR (σ 3 i) i (zup σ 20 (5 * i) (σ 20 (5 * i) + nI 1), nI 0) k) = _; rw [hX]; unfold zPs; rw [if_neg (Int32.not_le.mpr c_2), if_neg (show ¬ k = 4 by omega)]
            exact ih (k + 1) (by omega) (by omega) H locs (by rw [e9]; exact hP) hS ls (by rw [e9]; exact (lv_sub hl [0, 2, 3, 4, 5] rfl))
        · refine lv_goto (tgt := 108) hx hb dX6_take_52 (by decide) ?_
          refine lv_iinc (v := nI (k + 1)) (lv' := [(6, .int (nI (k + 1))), (7, .int (y.1 20 (5 * i + k))), (5, .int y.2), (4, .int (nI (5 * i))), (0, .ref (B 1 i)), (1, .ref (h 0))]) hx hb dX6_take_108 hl (k := 1) rfl (nI_1 _) (by decide) rfl (fun ls hl => ?_)
          refine lv_goto (tgt := 25) hx hb dX6_take_111 (by decide) ?_
          have e9 : zPsR (σ 3 i) i (zup σ 20 (5 * i) (σ 20 (5 * i) + nI 1), nI 0) (k + 1) = y := by show zPs _ _ _ (zPsR (σ 3 i) i (zup σ 20 (5 * i) (σ 20 (5 * i) + nI 1), nI 0) k) = _; rw [hX]; unfold zPs; rw [if_pos (Int32.not_lt.mp c_2)]
          exact ih (k + 1) (by omega) (by omega) H locs (by rw [e9]; exact hP) hS ls (by rw [e9]; exact (lv_sub hl [0, 2, 3, 4, 5] rfl))
  exact loop 6 0 (by omega) (by omega) H locs hP hS ls (lv_sub hl [0, 1, 2, 3, 4] rfl)

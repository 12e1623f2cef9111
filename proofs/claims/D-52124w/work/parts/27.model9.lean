/-! the model: machines and players come (printed by gen/m27.py) -/
set_option maxRecDepth 100000
set_option maxHeartbeats 4000000 in
theorem mo_add (l : Launch) (G : zG) (a : Nat → Nat) (th : Int32) (K : zKt) (σ : zSt) (hI : zInj a 8) (sz : Nat) (kd cl rw st bx : Int32) (hM : zkM K < 8) : zMrw l yX3_add cX3_add 7 (some .int) 0 1 9 G [.ref (a 0), .int kd, .int cl, .int rw, .int st, .int bx] (zMPz sz G a th K σ) (some (.int (nI (zkM K)))) (zMP G a th (zKm K) (zAdd σ (zkM K) kd cl rw st bx)) (zAs a 8 sz) := by
  refine zMk [(0, .ref (a 0)), (1, .int kd), (2, .int cl), (3, .int rw), (4, .int st), (5, .int bx)] (by decide) (Nat.le_of_ble_eq_true rfl) rfl ?_
  intro p e s m below meth c ls C hP hl _
  generalize ([.ref (a 0), .int kd, .int cl, .int rw, .int st, .int bx] : List Value).toArray = av at C ⊢
  have hx := C.1
  have hb := C.2.1
  have hml := C.2.2.1
  have hown := C.2.2.2.1
  have hts := C.2.2.2.2.1
  have hE := C.2.2.2.2.2.2.2
  have hS : va_S (zAs a 8 sz) s.heap s.heap [] := va_S.rf
  obtain ⟨hsz, hP⟩ := hP
  subst hsz
  refine lv_bipush (v := nI 9) hx hb dX3_add_0 (by decide) ?_
  refine zn_newi C q174 hP (zM_D hI zAs.in) hS zAs.new (by decide) (Nat.le_of_ble_eq_true rfl) (Nat.le_of_ble_eq_true rfl) dX3_add_2 (fun q H hq hsz hP hD hS => ?_)
  refine lv_dup hx hb dX3_add_4 rfl ?_
  refine lv_iconst (v := nI 0) hx hb dX3_add_5 (by decide) ?_
  refine lv_iload_n hx hb dX3_add_6 rfl (lv_at hl 1 rfl) ?_
  refine zn_ast C hP hD hS 8 rfl (by decide) (Nat.le_of_ble_eq_true rfl) dX3_add_7 (fun H locs hP hS => ?_)
  have hP : va_P G.1 zCl (zM G a th K σ ++ [(q, .inl (G.2 0, 9, .inl (upd (fun _ => nI 0) 0 kd)))]) H := hP
  have hD : va_D (zAs a 8 s.heap.size) (zM G a th K σ ++ [(q, .inl (G.2 0, 9, .inl (upd (fun _ => nI 0) 0 kd)))]) := zD_cong (by rfl) hD
  refine lv_dup hx hb dX3_add_8 rfl ?_
  refine lv_iconst (v := nI 1) hx hb dX3_add_9 (by decide) ?_
  refine lv_iload_n hx hb dX3_add_10 rfl (lv_at hl 2 rfl) ?_
  refine zn_ast C hP hD hS 8 rfl (by decide) (Nat.le_of_ble_eq_true rfl) dX3_add_11 (fun H locs hP hS => ?_)
  have hP : va_P G.1 zCl (zM G a th K σ ++ [(q, .inl (G.2 0, 9, .inl (upd (upd (fun _ => nI 0) 0 kd) 1 cl)))]) H := hP
  have hD : va_D (zAs a 8 s.heap.size) (zM G a th K σ ++ [(q, .inl (G.2 0, 9, .inl (upd (upd (fun _ => nI 0) 0 kd) 1 cl)))]) := zD_cong (by rfl) hD
  refine lv_dup hx hb dX3_add_12 rfl ?_
  refine lv_iconst (v := nI 2) hx hb dX3_add_13 (by decide) ?_
  refine lv_iload_n hx hb dX3_add_14 rfl (lv_at hl 3 rfl) ?_
  refine zn_ast C hP hD hS 8 rfl (by decide) (Nat.le_of_ble_eq_true rfl) dX3_add_15 (fun H locs hP hS => ?_)
  have hP : va_P G.1 zCl (zM G a th K σ ++ [(q, .inl (G.2 0, 9, .inl (upd (upd (upd (fun _ => nI 0) 0 kd) 1 cl) 2 rw)))]) H := hP
  have hD : va_D (zAs a 8 s.heap.size) (zM G a th K σ ++ [(q, .inl (G.2 0, 9, .inl (upd (upd (upd (fun _ => nI 0) 0 kd) 1 cl) 2 rw)))]) := zD_cong (by rfl) hD
  refine lv_dup hx hb dX3_add_16 rfl ?_
  refine lv_iconst (v := nI 3) hx hb dX3_add_17 (by decide) ?_
  refine lv_iload hx hb dX3_add_18 (lv_at hl 4 rfl) ?_
  refine zn_ast C hP hD hS 8 rfl (by decide) (Nat.le_of_ble_eq_true rfl) dX3_add_20 (fun H locs hP hS => ?_)
  have hP : va_P G.1 zCl (zM G a th K σ ++ [(q, .inl (G.2 0, 9, .inl (upd (upd (upd (upd (fun _ => nI 0) 0 kd) 1 cl) 2 rw) 3 st)))]) H := hP
  have hD : va_D (zAs a 8 s.heap.size) (zM G a th K σ ++ [(q, .inl (G.2 0, 9, .inl (upd (upd (upd (upd (fun _ => nI 0) 0 kd) 1 cl) 2 rw) 3 st)))]) := zD_cong (by rfl) hD
  refine lv_dup hx hb dX3_add_21 rfl ?_
  refine lv_iconst (v := nI 4) hx hb dX3_add_22 (by decide) ?_
  refine lv_iload hx hb dX3_add_23 (lv_at hl 5 rfl) ?_
  refine zn_ast C hP hD hS 8 rfl (by decide) (Nat.le_of_ble_eq_true rfl) dX3_add_25 (fun H locs hP hS => ?_)
  have hP : va_P G.1 zCl (zM G a th K σ ++ [(q, .inl (G.2 0, 9, .inl (upd (upd (upd (upd (upd (fun _ => nI 0) 0 kd) 1 cl) 2 rw) 3 st) 4 bx)))]) H := hP
  have hD : va_D (zAs a 8 s.heap.size) (zM G a th K σ ++ [(q, .inl (G.2 0, 9, .inl (upd (upd (upd (upd (upd (fun _ => nI 0) 0 kd) 1 cl) 2 rw) 3 st) 4 bx)))]) := zD_cong (by rfl) hD
  refine lv_dup hx hb dX3_add_26 rfl ?_
  refine lv_iconst (v := nI 5) hx hb dX3_add_27 (by decide) ?_
  refine lv_iconst (v := nI 0) hx hb dX3_add_28 (by decide) ?_
  refine zn_ast C hP hD hS 8 rfl (by decide) (Nat.le_of_ble_eq_true rfl) dX3_add_29 (fun H locs hP hS => ?_)
  have hP : va_P G.1 zCl (zM G a th K σ ++ [(q, .inl (G.2 0, 9, .inl (upd (upd (upd (upd (upd (upd (fun _ => nI 0) 0 kd) 1 cl) 2 rw) 3 st) 4 bx) 5 (nI 0))))]) H := hP
  have hD : va_D (zAs a 8 s.heap.size) (zM G a th K σ ++ [(q, .inl (G.2 0, 9, .inl (upd (upd (upd (upd (upd (upd (fun _ => nI 0) 0 kd) 1 cl) 2 rw) 3 st) 4 bx) 5 (nI 0))))]) := zD_cong (by rfl) hD
  refine lv_dup hx hb dX3_add_30 rfl ?_
  refine lv_bipush (v := nI 6) hx hb dX3_add_31 (by decide) ?_
  refine lv_iconst (v := nI 0) hx hb dX3_add_33 (by decide) ?_
  refine zn_ast C hP hD hS 8 rfl (by decide) (Nat.le_of_ble_eq_true rfl) dX3_add_34 (fun H locs hP hS => ?_)
  have hP : va_P G.1 zCl (zM G a th K σ ++ [(q, .inl (G.2 0, 9, .inl (upd (upd (upd (upd (upd (upd (upd (fun _ => nI 0) 0 kd) 1 cl) 2 rw) 3 st) 4 bx) 5 (nI 0)) 6 (nI 0))))]) H := hP
  have hD : va_D (zAs a 8 s.heap.size) (zM G a th K σ ++ [(q, .inl (G.2 0, 9, .inl (upd (upd (upd (upd (upd (upd (upd (fun _ => nI 0) 0 kd) 1 cl) 2 rw) 3 st) 4 bx) 5 (nI 0)) 6 (nI 0))))]) := zD_cong (by rfl) hD
  refine lv_dup hx hb dX3_add_35 rfl ?_
  refine lv_bipush (v := nI 7) hx hb dX3_add_36 (by decide) ?_
  refine lv_iconst (v := nI 0) hx hb dX3_add_38 (by decide) ?_
  refine zn_ast C hP hD hS 8 rfl (by decide) (Nat.le_of_ble_eq_true rfl) dX3_add_39 (fun H locs hP hS => ?_)
  have hP : va_P G.1 zCl (zM G a th K σ ++ [(q, .inl (G.2 0, 9, .inl (upd (upd (upd (upd (upd (upd (upd (upd (fun _ => nI 0) 0 kd) 1 cl) 2 rw) 3 st) 4 bx) 5 (nI 0)) 6 (nI 0)) 7 (nI 0))))]) H := hP
  have hD : va_D (zAs a 8 s.heap.size) (zM G a th K σ ++ [(q, .inl (G.2 0, 9, .inl (upd (upd (upd (upd (upd (upd (upd (upd (fun _ => nI 0) 0 kd) 1 cl) 2 rw) 3 st) 4 bx) 5 (nI 0)) 6 (nI 0)) 7 (nI 0))))]) := zD_cong (by rfl) hD
  refine lv_dup hx hb dX3_add_40 rfl ?_
  refine lv_bipush (v := nI 8) hx hb dX3_add_41 (by decide) ?_
  refine lv_iconst (v := nI 0) hx hb dX3_add_43 (by decide) ?_
  refine zn_ast C hP hD hS 8 rfl (by decide) (Nat.le_of_ble_eq_true rfl) dX3_add_44 (fun H locs hP hS => ?_)
  have hP : va_P G.1 zCl (zM G a th K σ ++ [(q, .inl (G.2 0, 9, .inl (upd (upd (upd (upd (upd (upd (upd (upd (upd (fun _ => nI 0) 0 kd) 1 cl) 2 rw) 3 st) 4 bx) 5 (nI 0)) 6 (nI 0)) 7 (nI 0)) 8 (nI 0))))]) H := hP
  have hD : va_D (zAs a 8 s.heap.size) (zM G a th K σ ++ [(q, .inl (G.2 0, 9, .inl (upd (upd (upd (upd (upd (upd (upd (upd (upd (fun _ => nI 0) 0 kd) 1 cl) 2 rw) 3 st) 4 bx) 5 (nI 0)) 6 (nI 0)) 7 (nI 0)) 8 (nI 0))))]) := zD_cong (by rfl) hD
  refine lv_astore (lv' := [(6, .ref q), (0, .ref (a 0)), (1, .int kd), (2, .int cl), (3, .int rw), (4, .int st), (5, .int bx)]) hx hb dX3_add_45 hl (by decide) rfl (fun ls hl => ?_)
  refine lv_aload hx hb dX3_add_47 (lv_at hl 0 rfl) ?_
  refine lv_iconst (v := nI 0) hx hb dX3_add_49 (by decide) ?_
  refine lv_aload_n hx hb dX3_add_50 rfl (lv_at hl 1 rfl) ?_
  have hP9 := hP
  have hP : zMP G a th K σ H := zP_left hP9
  refine zgM C hP 6 (by decide) q816 rfl rfl dX3_add_51 ?_
  refine lv_bipush (v := nI 9) hx hb dX3_add_54 (by decide) ?_
  refine lv_aload_n hx hb dX3_add_56 rfl (lv_at hl 1 rfl) ?_
  refine zgM C hP 1 (by decide) q811 rfl rfl dX3_add_57 ?_
  refine zn_mul C dX3_add_60 ?_
  refine lv_bipush (v := nI 9) hx hb dX3_add_61 (by decide) ?_
  refine zn_copy C hl.1 q863 q458 q457 q59 hP9 hD hS 8 3 rfl rfl (by decide) (by omega) (by decide) (by decide) (Nat.le_of_ble_eq_true rfl) (Nat.le_of_ble_eq_true rfl) dX3_add_63 (fun H locs hP hS => ?_)
  rw [zM_add (f := (upd (upd (upd (upd (upd (upd (upd (upd (upd (fun _ => nI 0) 0 kd) 1 cl) 2 rw) 3 st) 4 bx) 5 (nI 0)) 6 (nI 0)) 7 (nI 0)) 8 (nI 0))) (kd := kd) (cl := cl) (rw := rw) (st := st) (bx := bx) (fun w hw => by rcases (show w = 0 ∨ w = 1 ∨ w = 2 ∨ w = 3 ∨ w = 4 ∨ w = 5 ∨ w = 6 ∨ w = 7 ∨ w = 8 by omega) with rfl | rfl | rfl | rfl | rfl | rfl | rfl | rfl | rfl <;> rfl)] at hP
  have hP : zMP G a th K (zAdd σ (zkM K) kd cl rw st bx) H := zP_left hP
  refine lv_aload_n hx hb dX3_add_66 rfl (lv_at hl 1 rfl) ?_
  refine lv_dup hx hb dX3_add_67 rfl ?_
  refine zgM C hP 1 (by decide) q811 rfl rfl dX3_add_68 ?_
  refine lv_iconst (v := nI 1) hx hb dX3_add_71 (by decide) ?_
  refine zn_add C dX3_add_72 ?_
  refine zpM (th' := th) (K' := (zKm K)) C hI zAs.in hP hS 1 (by decide) q811 rfl rfl (zpd 1 (by decide)) rfl ⟨rfl, rfl⟩ dX3_add_73 (fun H locs hP hS => ?_)
  refine lv_aload_n hx hb dX3_add_76 rfl (lv_at hl 1 rfl) ?_
  refine zgM C hP 1 (by decide) q811 rfl rfl dX3_add_77 ?_
  refine lv_iconst (v := nI 1) hx hb dX3_add_80 (by decide) ?_
  refine lv_isub hx hb dX3_add_81 ?_
  rw [pk_sub (show 1 ≤ zkM K + 1 by omega), show zkM K + 1 - 1 = zkM K by omega]
  exact zw_iretE C (rfl) (hP) hS dX3_add_82
set_option maxHeartbeats 4000000 in
theorem mo_addTable (l : Launch) (G : zG) (a : Nat → Nat) (th : Int32) (K : zKt) (σ : zSt) (hI : zInj a 8) (sz : Nat) (cl rw bx : Int32) (hO : zOk K σ) : zMrw l yX3_addTable cX3_addTable 4 (some .int) 1 1 9 G [.ref (a 0), .int cl, .int rw, .int bx] (zMPz sz G a th K σ) (some (.int (oAddTable K σ cl rw bx).2.1)) (zMP G a (oAddTable K σ cl rw bx).1 (oAddTable K σ cl rw bx).2.2.1 (oAddTable K σ cl rw bx).2.2.2) (zAs a 8 sz) := by
  refine zMk [(0, .ref (a 0)), (1, .int cl), (2, .int rw), (3, .int bx)] (by decide) (Nat.le_of_ble_eq_true rfl) rfl ?_
  intro p e s m below meth c ls C hP hl _
  generalize ([.ref (a 0), .int cl, .int rw, .int bx] : List Value).toArray = av at C ⊢
  have hx := C.1
  have hb := C.2.1
  have hml := C.2.2.1
  have hown := C.2.2.2.1
  have hts := C.2.2.2.2.1
  have hE := C.2.2.2.2.2.2.2
  have hS : va_S (zAs a 8 sz) s.heap s.heap [] := va_S.rf
  have hM8 := hO.1
  obtain ⟨hsz, hP⟩ := hP
  subst hsz
  refine lv_aload_n hx hb dX3_addTable_0 rfl (lv_at hl 0 rfl) ?_
  refine lv_iconst (v := nI 0) hx hb dX3_addTable_1 (by decide) ?_
  refine zpM (th' := (nI 0)) (K' := K) C hI zAs.in hP hS 0 (by decide) q810 rfl rfl (zpd 0 (by decide)) rfl ⟨rfl, rfl⟩ dX3_addTable_2 (fun H locs hP hS => ?_)
  refine lv_iload_n hx hb dX3_addTable_5 rfl (lv_at hl 1 rfl) ?_
  refine lv_iconst (v := nI 3) hx hb dX3_addTable_6 (by decide) ?_
  refine lv_bipush (v := nI 9) hx hb dX3_addTable_7 (by decide) ?_
  refine zcS1 (As := [.int cl, .int (nI 3), .int (nI 9)]) (rest := []) C (mo_isIn l G cl (nI 3) (nI 9)) (lw_S q852 q853 q48 q854) hdX3_isIn.2 ⟨Nat.le_of_ble_eq_true rfl, Nat.le_of_ble_eq_true rfl⟩ (trivial) hl.1 rfl (Nat.le_of_ble_eq_true rfl) ⟨Nat.le_of_ble_eq_true rfl, Nat.le_of_ble_eq_true rfl⟩ dX3_addTable_9 ?_
  refine zb_if ((nI 3) ≤ cl ∧ cl ≤ (nI 9)) (tgt := 36) C rfl dX3_addTable_12 (by decide) (fun c_1 => ?_) (fun c_1 => ?_)
  · refine lv_aload_n hx hb dX3_addTable_36 rfl (lv_at hl 0 rfl) ?_
    refine lv_iconst (v := nI 1) hx hb dX3_addTable_37 (by decide) ?_
    refine zwV1 (As := [.int (nI 1)]) (rest := []) C (mo_fail l G a (nI 0) K σ hI (nI 1)) (lw_V q855 q857 qs12 q48 q858) hdX3_fail ⟨Nat.le_of_ble_eq_true rfl, Nat.le_of_ble_eq_true rfl⟩ (zrM hE hP) (hP) hl.1 rfl (Nat.le_of_ble_eq_true rfl) ⟨Nat.le_of_ble_eq_true rfl, Nat.le_of_ble_eq_true rfl⟩ dX3_addTable_38 hS zAs.in (fun H locs hP _ hS => ?_)
    refine W.widen (k := 1) (n := 9) (by decide) (by decide) ?_
    exact zw_iretE C (by unfold oAddTable; rw [if_neg c_1]; try rfl) (by unfold oAddTable; rw [if_neg c_1]; exact hP) hS dX3_addTable_41
  · refine lv_iload_n hx hb dX3_addTable_15 rfl (lv_at hl 2 rfl) ?_
    refine lv_iconst (v := nI 2) hx hb dX3_addTable_16 (by decide) ?_
    refine lv_bipush (v := nI 12) hx hb dX3_addTable_17 (by decide) ?_
    refine zcS1 (As := [.int rw, .int (nI 2), .int (nI 12)]) (rest := []) C (mo_isIn l G rw (nI 2) (nI 12)) (lw_S q852 q853 q48 q854) hdX3_isIn.2 ⟨Nat.le_of_ble_eq_true rfl, Nat.le_of_ble_eq_true rfl⟩ (trivial) hl.1 rfl (Nat.le_of_ble_eq_true rfl) ⟨Nat.le_of_ble_eq_true rfl, Nat.le_of_ble_eq_true rfl⟩ dX3_addTable_19 ?_
    refine zb_if ((nI 2) ≤ rw ∧ rw ≤ (nI 12)) (tgt := 36) C rfl dX3_addTable_22 (by decide) (fun c_2 => ?_) (fun c_2 => ?_)
    · refine lv_aload_n hx hb dX3_addTable_36 rfl (lv_at hl 0 rfl) ?_
      refine lv_iconst (v := nI 1) hx hb dX3_addTable_37 (by decide) ?_
      refine zwV1 (As := [.int (nI 1)]) (rest := []) C (mo_fail l G a (nI 0) K σ hI (nI 1)) (lw_V q855 q857 qs12 q48 q858) hdX3_fail ⟨Nat.le_of_ble_eq_true rfl, Nat.le_of_ble_eq_true rfl⟩ (zrM hE hP) (hP) hl.1 rfl (Nat.le_of_ble_eq_true rfl) ⟨Nat.le_of_ble_eq_true rfl, Nat.le_of_ble_eq_true rfl⟩ dX3_addTable_38 hS zAs.in (fun H locs hP _ hS => ?_)
      refine W.widen (k := 1) (n := 9) (by decide) (by decide) ?_
      exact zw_iretE C (by unfold oAddTable; rw [if_pos c_1, if_neg c_2]; try rfl) (by unfold oAddTable; rw [if_pos c_1, if_neg c_2]; exact hP) hS dX3_addTable_41
    · refine lv_iload_n hx hb dX3_addTable_25 rfl (lv_at hl 3 rfl) ?_
      refine lv_iconst (v := nI 0) hx hb dX3_addTable_26 (by decide) ?_
      refine lv_sipush (v := nI 9999) hx hb dX3_addTable_27 (by decide) ?_
      refine zcS1 (As := [.int bx, .int (nI 0), .int (nI 9999)]) (rest := []) C (mo_isIn l G bx (nI 0) (nI 9999)) (lw_S q852 q853 q48 q854) hdX3_isIn.2 ⟨Nat.le_of_ble_eq_true rfl, Nat.le_of_ble_eq_true rfl⟩ (trivial) hl.1 rfl (Nat.le_of_ble_eq_true rfl) ⟨Nat.le_of_ble_eq_true rfl, Nat.le_of_ble_eq_true rfl⟩ dX3_addTable_30 ?_
      refine zb_ifn ((nI 0) ≤ bx ∧ bx ≤ (nI 9999)) (tgt := 42) C rfl dX3_addTable_33 (by decide) (fun c_3 => ?_) (fun c_3 => ?_)
      · refine lv_aload_n hx hb dX3_addTable_42 rfl (lv_at hl 0 rfl) ?_
        refine zgM C hP 1 (by decide) q811 rfl rfl dX3_addTable_43 ?_
        refine lv_bipush (v := nI 8) hx hb dX3_addTable_46 (by decide) ?_
        refine zn_ne (tgt := 59) C (by omega) (by omega) dX3_addTable_48 (by decide) (fun c_4 => ?_) (fun c_4 => ?_)
        · refine lv_aload_n hx hb dX3_addTable_59 rfl (lv_at hl 0 rfl) ?_
          refine lv_iconst (v := nI 0) hx hb dX3_addTable_60 (by decide) ?_
          refine lv_iload_n hx hb dX3_addTable_61 rfl (lv_at hl 1 rfl) ?_
          refine lv_iload_n hx hb dX3_addTable_62 rfl (lv_at hl 2 rfl) ?_
          refine lv_iconst (v := nI 0) hx hb dX3_addTable_63 (by decide) ?_
          refine lv_iload_n hx hb dX3_addTable_64 rfl (lv_at hl 3 rfl) ?_
          refine zwV1 (As := [.int (nI 0), .int cl, .int rw, .int (nI 0), .int bx]) (rest := []) C (mo_add l G a (nI 0) K σ hI H.size (nI 0) cl rw (nI 0) bx (by omega)) (lw_V q859 q861 qs13 q48 q862) hdX3_add ⟨Nat.le_of_ble_eq_true rfl, Nat.le_of_ble_eq_true rfl⟩ (zrM hE hP) (⟨rfl, hP⟩) hl.1 rfl (Nat.le_of_ble_eq_true rfl) ⟨Nat.le_of_ble_eq_true rfl, Nat.le_of_ble_eq_true rfl⟩ dX3_addTable_65 hS (zAs.le hS.1) (fun H locs hP _ hS => ?_)
          exact zw_iretE C (by unfold oAddTable; rw [if_pos c_1, if_pos c_2, if_pos c_3, if_neg c_4]; try rfl) (by unfold oAddTable; rw [if_pos c_1, if_pos c_2, if_pos c_3, if_neg c_4]; exact hP) hS dX3_addTable_68
        · refine lv_aload_n hx hb dX3_addTable_51 rfl (lv_at hl 0 rfl) ?_
          refine lv_iconst (v := nI 2) hx hb dX3_addTable_52 (by decide) ?_
          refine zwV1 (As := [.int (nI 2)]) (rest := []) C (mo_fail l G a (nI 0) K σ hI (nI 2)) (lw_V q855 q857 qs12 q48 q858) hdX3_fail ⟨Nat.le_of_ble_eq_true rfl, Nat.le_of_ble_eq_true rfl⟩ (zrM hE hP) (hP) hl.1 rfl (Nat.le_of_ble_eq_true rfl) ⟨Nat.le_of_ble_eq_true rfl, Nat.le_of_ble_eq_true rfl⟩ dX3_addTable_53 hS zAs.in (fun H locs hP _ hS => ?_)
          refine lv_goto (tgt := 68) hx hb dX3_addTable_56 (by decide) ?_
          refine W.widen (k := 1) (n := 9) (by decide) (by decide) ?_
          exact zw_iretE C (by unfold oAddTable; rw [if_pos c_1, if_pos c_2, if_pos c_3, if_pos c_4]; try rfl) (by unfold oAddTable; rw [if_pos c_1, if_pos c_2, if_pos c_3, if_pos c_4]; exact hP) hS dX3_addTable_68
      · refine lv_aload_n hx hb dX3_addTable_36 rfl (lv_at hl 0 rfl) ?_
        refine lv_iconst (v := nI 1) hx hb dX3_addTable_37 (by decide) ?_
        refine zwV1 (As := [.int (nI 1)]) (rest := []) C (mo_fail l G a (nI 0) K σ hI (nI 1)) (lw_V q855 q857 qs12 q48 q858) hdX3_fail ⟨Nat.le_of_ble_eq_true rfl, Nat.le_of_ble_eq_true rfl⟩ (zrM hE hP) (hP) hl.1 rfl (Nat.le_of_ble_eq_true rfl) ⟨Nat.le_of_ble_eq_true rfl, Nat.le_of_ble_eq_true rfl⟩ dX3_addTable_38 hS zAs.in (fun H locs hP _ hS => ?_)
        refine W.widen (k := 1) (n := 9) (by decide) (by decide) ?_
        exact zw_iretE C (by unfold oAddTable; rw [if_pos c_1, if_pos c_2, if_neg c_3]; try rfl) (by unfold oAddTable; rw [if_pos c_1, if_pos c_2, if_neg c_3]; exact hP) hS dX3_addTable_41
set_option maxHeartbeats 4000000 in
theorem mo_addPusher (l : Launch) (G : zG) (a : Nat → Nat) (th : Int32) (K : zKt) (σ : zSt) (hI : zInj a 8) (sz : Nat) (st bx : Int32) (hO : zOk K σ) : zMrw l yX3_addPusher cX3_addPusher 3 (some .int) 1 1 9 G [.ref (a 0), .int st, .int bx] (zMPz sz G a th K σ) (some (.int (oAddPusher K σ st bx).2.1)) (zMP G a (oAddPusher K σ st bx).1 (oAddPusher K σ st bx).2.2.1 (oAddPusher K σ st bx).2.2.2) (zAs a 8 sz) := by
  refine zMk [(0, .ref (a 0)), (1, .int st), (2, .int bx)] (by decide) (Nat.le_of_ble_eq_true rfl) rfl ?_
  intro p e s m below meth c ls C hP hl _
  generalize ([.ref (a 0), .int st, .int bx] : List Value).toArray = av at C ⊢
  have hx := C.1
  have hb := C.2.1
  have hml := C.2.2.1
  have hown := C.2.2.2.1
  have hts := C.2.2.2.2.1
  have hE := C.2.2.2.2.2.2.2
  have hS : va_S (zAs a 8 sz) s.heap s.heap [] := va_S.rf
  have hM8 := hO.1
  obtain ⟨hsz, hP⟩ := hP
  subst hsz
  refine lv_aload_n hx hb dX3_addPusher_0 rfl (lv_at hl 0 rfl) ?_
  refine lv_iconst (v := nI 0) hx hb dX3_addPusher_1 (by decide) ?_
  refine zpM (th' := (nI 0)) (K' := K) C hI zAs.in hP hS 0 (by decide) q810 rfl rfl (zpd 0 (by decide)) rfl ⟨rfl, rfl⟩ dX3_addPusher_2 (fun H locs hP hS => ?_)
  refine lv_iload_n hx hb dX3_addPusher_5 rfl (lv_at hl 1 rfl) ?_
  refine lv_iconst (v := nI 1) hx hb dX3_addPusher_6 (by decide) ?_
  refine lv_bipush (v := nI 9) hx hb dX3_addPusher_7 (by decide) ?_
  refine zcS1 (As := [.int st, .int (nI 1), .int (nI 9)]) (rest := []) C (mo_isIn l G st (nI 1) (nI 9)) (lw_S q852 q853 q48 q854) hdX3_isIn.2 ⟨Nat.le_of_ble_eq_true rfl, Nat.le_of_ble_eq_true rfl⟩ (trivial) hl.1 rfl (Nat.le_of_ble_eq_true rfl) ⟨Nat.le_of_ble_eq_true rfl, Nat.le_of_ble_eq_true rfl⟩ dX3_addPusher_9 ?_
  refine zb_if ((nI 1) ≤ st ∧ st ≤ (nI 9)) (tgt := 26) C rfl dX3_addPusher_12 (by decide) (fun c_1 => ?_) (fun c_1 => ?_)
  · refine lv_aload_n hx hb dX3_addPusher_26 rfl (lv_at hl 0 rfl) ?_
    refine lv_iconst (v := nI 1) hx hb dX3_addPusher_27 (by decide) ?_
    refine zwV1 (As := [.int (nI 1)]) (rest := []) C (mo_fail l G a (nI 0) K σ hI (nI 1)) (lw_V q855 q857 qs12 q48 q858) hdX3_fail ⟨Nat.le_of_ble_eq_true rfl, Nat.le_of_ble_eq_true rfl⟩ (zrM hE hP) (hP) hl.1 rfl (Nat.le_of_ble_eq_true rfl) ⟨Nat.le_of_ble_eq_true rfl, Nat.le_of_ble_eq_true rfl⟩ dX3_addPusher_28 hS zAs.in (fun H locs hP _ hS => ?_)
    refine W.widen (k := 1) (n := 9) (by decide) (by decide) ?_
    exact zw_iretE C (by unfold oAddPusher; rw [if_neg c_1]; try rfl) (by unfold oAddPusher; rw [if_neg c_1]; exact hP) hS dX3_addPusher_31
  · refine lv_iload_n hx hb dX3_addPusher_15 rfl (lv_at hl 2 rfl) ?_
    refine lv_iconst (v := nI 0) hx hb dX3_addPusher_16 (by decide) ?_
    refine lv_sipush (v := nI 9999) hx hb dX3_addPusher_17 (by decide) ?_
    refine zcS1 (As := [.int bx, .int (nI 0), .int (nI 9999)]) (rest := []) C (mo_isIn l G bx (nI 0) (nI 9999)) (lw_S q852 q853 q48 q854) hdX3_isIn.2 ⟨Nat.le_of_ble_eq_true rfl, Nat.le_of_ble_eq_true rfl⟩ (trivial) hl.1 rfl (Nat.le_of_ble_eq_true rfl) ⟨Nat.le_of_ble_eq_true rfl, Nat.le_of_ble_eq_true rfl⟩ dX3_addPusher_20 ?_
    refine zb_ifn ((nI 0) ≤ bx ∧ bx ≤ (nI 9999)) (tgt := 32) C rfl dX3_addPusher_23 (by decide) (fun c_2 => ?_) (fun c_2 => ?_)
    · refine lv_aload_n hx hb dX3_addPusher_32 rfl (lv_at hl 0 rfl) ?_
      refine zgM C hP 1 (by decide) q811 rfl rfl dX3_addPusher_33 ?_
      refine lv_bipush (v := nI 8) hx hb dX3_addPusher_36 (by decide) ?_
      refine zn_ne (tgt := 49) C (by omega) (by omega) dX3_addPusher_38 (by decide) (fun c_3 => ?_) (fun c_3 => ?_)
      · refine lv_aload_n hx hb dX3_addPusher_49 rfl (lv_at hl 0 rfl) ?_
        refine lv_iconst (v := nI 1) hx hb dX3_addPusher_50 (by decide) ?_
        refine lv_iconst (v := nI 0) hx hb dX3_addPusher_51 (by decide) ?_
        refine lv_iconst (v := nI 0) hx hb dX3_addPusher_52 (by decide) ?_
        refine lv_iload_n hx hb dX3_addPusher_53 rfl (lv_at hl 1 rfl) ?_
        refine lv_iload_n hx hb dX3_addPusher_54 rfl (lv_at hl 2 rfl) ?_
        refine zwV1 (As := [.int (nI 1), .int (nI 0), .int (nI 0), .int st, .int bx]) (rest := []) C (mo_add l G a (nI 0) K σ hI H.size (nI 1) (nI 0) (nI 0) st bx (by omega)) (lw_V q859 q861 qs13 q48 q862) hdX3_add ⟨Nat.le_of_ble_eq_true rfl, Nat.le_of_ble_eq_true rfl⟩ (zrM hE hP) (⟨rfl, hP⟩) hl.1 rfl (Nat.le_of_ble_eq_true rfl) ⟨Nat.le_of_ble_eq_true rfl, Nat.le_of_ble_eq_true rfl⟩ dX3_addPusher_55 hS (zAs.le hS.1) (fun H locs hP _ hS => ?_)
        exact zw_iretE C (by unfold oAddPusher; rw [if_pos c_1, if_pos c_2, if_neg c_3]; try rfl) (by unfold oAddPusher; rw [if_pos c_1, if_pos c_2, if_neg c_3]; exact hP) hS dX3_addPusher_58
      · refine lv_aload_n hx hb dX3_addPusher_41 rfl (lv_at hl 0 rfl) ?_
        refine lv_iconst (v := nI 2) hx hb dX3_addPusher_42 (by decide) ?_
        refine zwV1 (As := [.int (nI 2)]) (rest := []) C (mo_fail l G a (nI 0) K σ hI (nI 2)) (lw_V q855 q857 qs12 q48 q858) hdX3_fail ⟨Nat.le_of_ble_eq_true rfl, Nat.le_of_ble_eq_true rfl⟩ (zrM hE hP) (hP) hl.1 rfl (Nat.le_of_ble_eq_true rfl) ⟨Nat.le_of_ble_eq_true rfl, Nat.le_of_ble_eq_true rfl⟩ dX3_addPusher_43 hS zAs.in (fun H locs hP _ hS => ?_)
        refine lv_goto (tgt := 58) hx hb dX3_addPusher_46 (by decide) ?_
        refine W.widen (k := 1) (n := 9) (by decide) (by decide) ?_
        exact zw_iretE C (by unfold oAddPusher; rw [if_pos c_1, if_pos c_2, if_pos c_3]; try rfl) (by unfold oAddPusher; rw [if_pos c_1, if_pos c_2, if_pos c_3]; exact hP) hS dX3_addPusher_58
    · refine lv_aload_n hx hb dX3_addPusher_26 rfl (lv_at hl 0 rfl) ?_
      refine lv_iconst (v := nI 1) hx hb dX3_addPusher_27 (by decide) ?_
      refine zwV1 (As := [.int (nI 1)]) (rest := []) C (mo_fail l G a (nI 0) K σ hI (nI 1)) (lw_V q855 q857 qs12 q48 q858) hdX3_fail ⟨Nat.le_of_ble_eq_true rfl, Nat.le_of_ble_eq_true rfl⟩ (zrM hE hP) (hP) hl.1 rfl (Nat.le_of_ble_eq_true rfl) ⟨Nat.le_of_ble_eq_true rfl, Nat.le_of_ble_eq_true rfl⟩ dX3_addPusher_28 hS zAs.in (fun H locs hP _ hS => ?_)
      refine W.widen (k := 1) (n := 9) (by decide) (by decide) ?_
      exact zw_iretE C (by unfold oAddPusher; rw [if_pos c_1, if_neg c_2]; try rfl) (by unfold oAddPusher; rw [if_pos c_1, if_neg c_2]; exact hP) hS dX3_addPusher_31
set_option maxHeartbeats 4000000 in
theorem mo_come (l : Launch) (G : zG) (a : Nat → Nat) (th : Int32) (K : zKt) (σ : zSt) (hI : zInj a 8) (sz : Nat) (pu te : Int32) (hO : zOk K σ) : zMrw l yX3_come cX3_come 4 (some .int) 1 1 6 G [.ref (a 0), .int pu, .int te] (zMPz sz G a th K σ) (some (.int (oCome K σ pu te).2.1)) (zMP G a (oCome K σ pu te).1 (oCome K σ pu te).2.2.1 (oCome K σ pu te).2.2.2) (zAs a 8 sz) := by
  refine zMk [(0, .ref (a 0)), (1, .int pu), (2, .int te)] (by decide) (Nat.le_of_ble_eq_true rfl) rfl ?_
  intro p e s m below meth c ls C hP hl _
  generalize ([.ref (a 0), .int pu, .int te] : List Value).toArray = av at C ⊢
  have hx := C.1
  have hb := C.2.1
  have hml := C.2.2.1
  have hown := C.2.2.2.1
  have hts := C.2.2.2.2.1
  have hE := C.2.2.2.2.2.2.2
  have hS : va_S (zAs a 8 sz) s.heap s.heap [] := va_S.rf
  have hP10 := hO.2.1
  obtain ⟨hsz, hP⟩ := hP
  subst hsz
  refine lv_aload_n hx hb dX3_come_0 rfl (lv_at hl 0 rfl) ?_
  refine lv_iconst (v := nI 0) hx hb dX3_come_1 (by decide) ?_
  refine zpM (th' := (nI 0)) (K' := K) C hI zAs.in hP hS 0 (by decide) q810 rfl rfl (zpd 0 (by decide)) rfl ⟨rfl, rfl⟩ dX3_come_2 (fun H locs hP hS => ?_)
  refine lv_iload_n hx hb dX3_come_5 rfl (lv_at hl 1 rfl) ?_
  refine lv_iconst (v := nI 0) hx hb dX3_come_6 (by decide) ?_
  refine lv_sipush (v := nI 500) hx hb dX3_come_7 (by decide) ?_
  refine zcS1 (As := [.int pu, .int (nI 0), .int (nI 500)]) (rest := []) C (mo_isIn l G pu (nI 0) (nI 500)) (lw_S q852 q853 q48 q854) hdX3_isIn.2 ⟨Nat.le_of_ble_eq_true rfl, Nat.le_of_ble_eq_true rfl⟩ (trivial) hl.1 rfl (Nat.le_of_ble_eq_true rfl) ⟨Nat.le_of_ble_eq_true rfl, Nat.le_of_ble_eq_true rfl⟩ dX3_come_10 ?_
  refine zb_if ((nI 0) ≤ pu ∧ pu ≤ (nI 500)) (tgt := 26) C rfl dX3_come_13 (by decide) (fun c_1 => ?_) (fun c_1 => ?_)
  · refine lv_aload_n hx hb dX3_come_26 rfl (lv_at hl 0 rfl) ?_
    refine lv_iconst (v := nI 1) hx hb dX3_come_27 (by decide) ?_
    refine zwV1 (As := [.int (nI 1)]) (rest := []) C (mo_fail l G a (nI 0) K σ hI (nI 1)) (lw_V q855 q857 qs12 q48 q858) hdX3_fail ⟨Nat.le_of_ble_eq_true rfl, Nat.le_of_ble_eq_true rfl⟩ (zrM hE hP) (hP) hl.1 rfl (Nat.le_of_ble_eq_true rfl) ⟨Nat.le_of_ble_eq_true rfl, Nat.le_of_ble_eq_true rfl⟩ dX3_come_28 hS zAs.in (fun H locs hP _ hS => ?_)
    refine W.widen (k := 1) (n := 6) (by decide) (by decide) ?_
    exact zw_iretE C (by unfold oCome; rw [if_neg c_1]; try rfl) (by unfold oCome; rw [if_neg c_1]; exact hP) hS dX3_come_31
  · refine lv_iload_n hx hb dX3_come_16 rfl (lv_at hl 2 rfl) ?_
    refine lv_iconst (v := nI 1) hx hb dX3_come_17 (by decide) ?_
    refine lv_bipush (v := nI 9) hx hb dX3_come_18 (by decide) ?_
    refine zcS1 (As := [.int te, .int (nI 1), .int (nI 9)]) (rest := []) C (mo_isIn l G te (nI 1) (nI 9)) (lw_S q852 q853 q48 q854) hdX3_isIn.2 ⟨Nat.le_of_ble_eq_true rfl, Nat.le_of_ble_eq_true rfl⟩ (trivial) hl.1 rfl (Nat.le_of_ble_eq_true rfl) ⟨Nat.le_of_ble_eq_true rfl, Nat.le_of_ble_eq_true rfl⟩ dX3_come_20 ?_
    refine zb_ifn ((nI 1) ≤ te ∧ te ≤ (nI 9)) (tgt := 32) C rfl dX3_come_23 (by decide) (fun c_2 => ?_) (fun c_2 => ?_)
    · refine lv_aload_n hx hb dX3_come_32 rfl (lv_at hl 0 rfl) ?_
      refine zgM C hP 2 (by decide) q812 rfl rfl dX3_come_33 ?_
      refine lv_bipush (v := nI 10) hx hb dX3_come_36 (by decide) ?_
      refine zn_ne (tgt := 47) C (by omega) (by omega) dX3_come_38 (by decide) (fun c_3 => ?_) (fun c_3 => ?_)
      · refine lv_bipush (v := nI 6) hx hb dX3_come_47 (by decide) ?_
        refine zn_newi C q174 hP (zM_D hI zAs.in) hS zAs.new (by decide) (Nat.le_of_ble_eq_true rfl) (Nat.le_of_ble_eq_true rfl) dX3_come_49 (fun q H hq hsz hP hD hS => ?_)
        refine lv_dup hx hb dX3_come_51 rfl ?_
        refine lv_iconst (v := nI 0) hx hb dX3_come_52 (by decide) ?_
        refine lv_iload_n hx hb dX3_come_53 rfl (lv_at hl 1 rfl) ?_
        refine zn_ast C hP hD hS 8 rfl (by decide) (Nat.le_of_ble_eq_true rfl) dX3_come_54 (fun H locs hP hS => ?_)
        have hP : va_P G.1 zCl (zM G a (nI 0) K σ ++ [(q, .inl (G.2 0, 6, .inl (upd (fun _ => nI 0) 0 pu)))]) H := hP
        have hD : va_D (zAs a 8 s.heap.size) (zM G a (nI 0) K σ ++ [(q, .inl (G.2 0, 6, .inl (upd (fun _ => nI 0) 0 pu)))]) := zD_cong (by rfl) hD
        refine lv_dup hx hb dX3_come_55 rfl ?_
        refine lv_iconst (v := nI 1) hx hb dX3_come_56 (by decide) ?_
        refine lv_iload_n hx hb dX3_come_57 rfl (lv_at hl 2 rfl) ?_
        refine zn_ast C hP hD hS 8 rfl (by decide) (Nat.le_of_ble_eq_true rfl) dX3_come_58 (fun H locs hP hS => ?_)
        have hP : va_P G.1 zCl (zM G a (nI 0) K σ ++ [(q, .inl (G.2 0, 6, .inl (upd (upd (fun _ => nI 0) 0 pu) 1 te)))]) H := hP
        have hD : va_D (zAs a 8 s.heap.size) (zM G a (nI 0) K σ ++ [(q, .inl (G.2 0, 6, .inl (upd (upd (fun _ => nI 0) 0 pu) 1 te)))]) := zD_cong (by rfl) hD
        refine lv_dup hx hb dX3_come_59 rfl ?_
        refine lv_iconst (v := nI 2) hx hb dX3_come_60 (by decide) ?_
        refine lv_iconst (v := (-1)) hx hb dX3_come_61 (by decide) ?_
        refine zn_ast C hP hD hS 8 rfl (by decide) (Nat.le_of_ble_eq_true rfl) dX3_come_62 (fun H locs hP hS => ?_)
        have hP : va_P G.1 zCl (zM G a (nI 0) K σ ++ [(q, .inl (G.2 0, 6, .inl (upd (upd (upd (fun _ => nI 0) 0 pu) 1 te) 2 (-1))))]) H := hP
        have hD : va_D (zAs a 8 s.heap.size) (zM G a (nI 0) K σ ++ [(q, .inl (G.2 0, 6, .inl (upd (upd (upd (fun _ => nI 0) 0 pu) 1 te) 2 (-1))))]) := zD_cong (by rfl) hD
        refine lv_dup hx hb dX3_come_63 rfl ?_
        refine lv_iconst (v := nI 3) hx hb dX3_come_64 (by decide) ?_
        refine lv_iconst (v := nI 0) hx hb dX3_come_65 (by decide) ?_
        refine zn_ast C hP hD hS 8 rfl (by decide) (Nat.le_of_ble_eq_true rfl) dX3_come_66 (fun H locs hP hS => ?_)
        have hP : va_P G.1 zCl (zM G a (nI 0) K σ ++ [(q, .inl (G.2 0, 6, .inl (upd (upd (upd (upd (fun _ => nI 0) 0 pu) 1 te) 2 (-1)) 3 (nI 0))))]) H := hP
        have hD : va_D (zAs a 8 s.heap.size) (zM G a (nI 0) K σ ++ [(q, .inl (G.2 0, 6, .inl (upd (upd (upd (upd (fun _ => nI 0) 0 pu) 1 te) 2 (-1)) 3 (nI 0))))]) := zD_cong (by rfl) hD
        refine lv_dup hx hb dX3_come_67 rfl ?_
        refine lv_iconst (v := nI 4) hx hb dX3_come_68 (by decide) ?_
        refine lv_iconst (v := nI 0) hx hb dX3_come_69 (by decide) ?_
        refine zn_ast C hP hD hS 8 rfl (by decide) (Nat.le_of_ble_eq_true rfl) dX3_come_70 (fun H locs hP hS => ?_)
        have hP : va_P G.1 zCl (zM G a (nI 0) K σ ++ [(q, .inl (G.2 0, 6, .inl (upd (upd (upd (upd (upd (fun _ => nI 0) 0 pu) 1 te) 2 (-1)) 3 (nI 0)) 4 (nI 0))))]) H := hP
        have hD : va_D (zAs a 8 s.heap.size) (zM G a (nI 0) K σ ++ [(q, .inl (G.2 0, 6, .inl (upd (upd (upd (upd (upd (fun _ => nI 0) 0 pu) 1 te) 2 (-1)) 3 (nI 0)) 4 (nI 0))))]) := zD_cong (by rfl) hD
        refine lv_dup hx hb dX3_come_71 rfl ?_
        refine lv_iconst (v := nI 5) hx hb dX3_come_72 (by decide) ?_
        refine lv_iconst (v := nI 0) hx hb dX3_come_73 (by decide) ?_
        refine zn_ast C hP hD hS 8 rfl (by decide) (Nat.le_of_ble_eq_true rfl) dX3_come_74 (fun H locs hP hS => ?_)
        have hP : va_P G.1 zCl (zM G a (nI 0) K σ ++ [(q, .inl (G.2 0, 6, .inl (upd (upd (upd (upd (upd (upd (fun _ => nI 0) 0 pu) 1 te) 2 (-1)) 3 (nI 0)) 4 (nI 0)) 5 (nI 0))))]) H := hP
        have hD : va_D (zAs a 8 s.heap.size) (zM G a (nI 0) K σ ++ [(q, .inl (G.2 0, 6, .inl (upd (upd (upd (upd (upd (upd (fun _ => nI 0) 0 pu) 1 te) 2 (-1)) 3 (nI 0)) 4 (nI 0)) 5 (nI 0))))]) := zD_cong (by rfl) hD
        refine lv_astore_n (lv' := [(3, .ref q), (0, .ref (a 0)), (1, .int pu), (2, .int te)]) hx hb dX3_come_75 rfl hl (by decide) rfl (fun ls hl => ?_)
        refine lv_aload_n hx hb dX3_come_76 rfl (lv_at hl 0 rfl) ?_
        refine lv_iconst (v := nI 0) hx hb dX3_come_77 (by decide) ?_
        refine lv_aload_n hx hb dX3_come_78 rfl (lv_at hl 1 rfl) ?_
        have hP9 := hP
        have hP : zMP G a (nI 0) K σ H := zP_left hP9
        refine zgM C hP 8 (by decide) q818 rfl rfl dX3_come_79 ?_
        refine lv_bipush (v := nI 6) hx hb dX3_come_82 (by decide) ?_
        refine lv_aload_n hx hb dX3_come_84 rfl (lv_at hl 1 rfl) ?_
        refine zgM C hP 2 (by decide) q812 rfl rfl dX3_come_85 ?_
        refine zn_mul C dX3_come_88 ?_
        refine lv_bipush (v := nI 6) hx hb dX3_come_89 (by decide) ?_
        refine zn_copy C hl.1 q863 q458 q457 q59 hP9 hD hS 8 5 rfl rfl (by decide) (by omega) (by decide) (by decide) (Nat.le_of_ble_eq_true rfl) (Nat.le_of_ble_eq_true rfl) dX3_come_91 (fun H locs hP hS => ?_)
        rw [zM_newp (f := (upd (upd (upd (upd (upd (upd (fun _ => nI 0) 0 pu) 1 te) 2 (-1)) 3 (nI 0)) 4 (nI 0)) 5 (nI 0))) (pu := pu) (te := te) (fun w hw => by rcases (show w = 0 ∨ w = 1 ∨ w = 2 ∨ w = 3 ∨ w = 4 ∨ w = 5 by omega) with rfl | rfl | rfl | rfl | rfl | rfl <;> rfl)] at hP
        have hP : zMP G a (nI 0) K (zNewP σ (zkP K) pu te) H := zP_left hP
        refine lv_aload_n hx hb dX3_come_94 rfl (lv_at hl 1 rfl) ?_
        refine lv_dup hx hb dX3_come_95 rfl ?_
        refine zgM C hP 2 (by decide) q812 rfl rfl dX3_come_96 ?_
        refine lv_iconst (v := nI 1) hx hb dX3_come_99 (by decide) ?_
        refine zn_add C dX3_come_100 ?_
        refine zpM (th' := (nI 0)) (K' := (zKp K)) C hI zAs.in hP hS 2 (by decide) q812 rfl rfl (zpd 2 (by decide)) rfl ⟨rfl, rfl⟩ dX3_come_101 (fun H locs hP hS => ?_)
        refine lv_aload_n hx hb dX3_come_104 rfl (lv_at hl 1 rfl) ?_
        refine zgM C hP 2 (by decide) q812 rfl rfl dX3_come_105 ?_
        refine lv_iconst (v := nI 1) hx hb dX3_come_108 (by decide) ?_
        refine lv_isub hx hb dX3_come_109 ?_
        rw [pk_sub (show 1 ≤ zkP K + 1 by omega), show zkP K + 1 - 1 = zkP K by omega]
        exact zw_iretE C (by unfold oCome; rw [if_pos c_1, if_pos c_2, if_neg c_3]; try rfl) (by unfold oCome; rw [if_pos c_1, if_pos c_2, if_neg c_3]; exact hP) hS dX3_come_110
      · refine lv_aload_n hx hb dX3_come_41 rfl (lv_at hl 0 rfl) ?_
        refine lv_iconst (v := nI 2) hx hb dX3_come_42 (by decide) ?_
        refine zwV1 (As := [.int (nI 2)]) (rest := []) C (mo_fail l G a (nI 0) K σ hI (nI 2)) (lw_V q855 q857 qs12 q48 q858) hdX3_fail ⟨Nat.le_of_ble_eq_true rfl, Nat.le_of_ble_eq_true rfl⟩ (zrM hE hP) (hP) hl.1 rfl (Nat.le_of_ble_eq_true rfl) ⟨Nat.le_of_ble_eq_true rfl, Nat.le_of_ble_eq_true rfl⟩ dX3_come_43 hS zAs.in (fun H locs hP _ hS => ?_)
        refine W.widen (k := 1) (n := 6) (by decide) (by decide) ?_
        exact zw_iretE C (by unfold oCome; rw [if_pos c_1, if_pos c_2, if_pos c_3]; try rfl) (by unfold oCome; rw [if_pos c_1, if_pos c_2, if_pos c_3]; exact hP) hS dX3_come_46
    · refine lv_aload_n hx hb dX3_come_26 rfl (lv_at hl 0 rfl) ?_
      refine lv_iconst (v := nI 1) hx hb dX3_come_27 (by decide) ?_
      refine zwV1 (As := [.int (nI 1)]) (rest := []) C (mo_fail l G a (nI 0) K σ hI (nI 1)) (lw_V q855 q857 qs12 q48 q858) hdX3_fail ⟨Nat.le_of_ble_eq_true rfl, Nat.le_of_ble_eq_true rfl⟩ (zrM hE hP) (hP) hl.1 rfl (Nat.le_of_ble_eq_true rfl) ⟨Nat.le_of_ble_eq_true rfl, Nat.le_of_ble_eq_true rfl⟩ dX3_come_28 hS zAs.in (fun H locs hP _ hS => ?_)
      refine W.widen (k := 1) (n := 6) (by decide) (by decide) ?_
      exact zw_iretE C (by unfold oCome; rw [if_pos c_1, if_neg c_2]; try rfl) (by unfold oCome; rw [if_pos c_1, if_neg c_2]; exact hP) hS dX3_come_31

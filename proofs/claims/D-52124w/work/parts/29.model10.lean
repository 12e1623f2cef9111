/-! the model: dead columns, the digest (printed by gen/m29.py) -/
set_option maxRecDepth 100000
set_option maxHeartbeats 4000000 in
theorem mo_bits (l : Launch) (G : zG) (v : Int32) : zMro l yJ16_bitCount cJ16_bitCount 1 (some .int) 0 G [.int v] (fun _ => True) (some (.int (zBits v))) := by
  refine zMk [(0, .int v)] (by decide) (Nat.le_of_ble_eq_true rfl) rfl ?_
  intro p e s m below meth c ls C hP hl _
  generalize ([.int v] : List Value).toArray = av at C ⊢
  have hx := C.1
  have hb := C.2.1
  have hml := C.2.2.1
  have hown := C.2.2.2.1
  have hts := C.2.2.2.2.1
  have hE := C.2.2.2.2.2.2.2
  refine lv_iload_n hx hb dJ16_bitCount_0 rfl (lv_at hl 0 rfl) ?_
  refine lv_iload_n hx hb dJ16_bitCount_1 rfl (lv_at hl 0 rfl) ?_
  refine lv_iconst (v := nI 1) hx hb dJ16_bitCount_2 (by decide) ?_
  refine lv_iushr (v := zUsr v 1) hx hb dJ16_bitCount_3 rfl ?_
  refine lv_ldcw hx hb hown (hts _ q626) dJ16_bitCount_4 ?_
  refine lv_iand hx hb dJ16_bitCount_7 ?_
  refine lv_isub hx hb dJ16_bitCount_8 ?_
  refine lv_topi (fun x1 ex1 => ?_)
  refine lv_istore_n (lv' := [(0, .int x1)]) hx hb dJ16_bitCount_9 rfl hl (by decide) rfl (fun ls hl => ?_)
  refine lv_iload_n hx hb dJ16_bitCount_10 rfl (lv_at hl 0 rfl) ?_
  refine lv_ldcw hx hb hown (hts _ q627) dJ16_bitCount_11 ?_
  refine lv_iand hx hb dJ16_bitCount_14 ?_
  refine lv_iload_n hx hb dJ16_bitCount_15 rfl (lv_at hl 0 rfl) ?_
  refine lv_iconst (v := nI 2) hx hb dJ16_bitCount_16 (by decide) ?_
  refine lv_iushr (v := zUsr x1 2) hx hb dJ16_bitCount_17 rfl ?_
  refine lv_ldcw hx hb hown (hts _ q627) dJ16_bitCount_18 ?_
  refine lv_iand hx hb dJ16_bitCount_21 ?_
  refine lv_iadd hx hb dJ16_bitCount_22 ?_
  refine lv_topi (fun x2 ex2 => ?_)
  refine lv_istore_n (lv' := [(0, .int x2)]) hx hb dJ16_bitCount_23 rfl hl (by decide) rfl (fun ls hl => ?_)
  refine lv_iload_n hx hb dJ16_bitCount_24 rfl (lv_at hl 0 rfl) ?_
  refine lv_iload_n hx hb dJ16_bitCount_25 rfl (lv_at hl 0 rfl) ?_
  refine lv_iconst (v := nI 4) hx hb dJ16_bitCount_26 (by decide) ?_
  refine lv_iushr (v := zUsr x2 4) hx hb dJ16_bitCount_27 rfl ?_
  refine lv_iadd hx hb dJ16_bitCount_28 ?_
  refine lv_ldcw hx hb hown (hts _ q628) dJ16_bitCount_29 ?_
  refine lv_iand hx hb dJ16_bitCount_32 ?_
  refine lv_topi (fun x3 ex3 => ?_)
  refine lv_istore_n (lv' := [(0, .int x3)]) hx hb dJ16_bitCount_33 rfl hl (by decide) rfl (fun ls hl => ?_)
  refine lv_iload_n hx hb dJ16_bitCount_34 rfl (lv_at hl 0 rfl) ?_
  refine lv_iload_n hx hb dJ16_bitCount_35 rfl (lv_at hl 0 rfl) ?_
  refine lv_bipush (v := nI 8) hx hb dJ16_bitCount_36 (by decide) ?_
  refine lv_iushr (v := zUsr x3 8) hx hb dJ16_bitCount_38 rfl ?_
  refine lv_iadd hx hb dJ16_bitCount_39 ?_
  refine lv_topi (fun x4 ex4 => ?_)
  refine lv_istore_n (lv' := [(0, .int x4)]) hx hb dJ16_bitCount_40 rfl hl (by decide) rfl (fun ls hl => ?_)
  refine lv_iload_n hx hb dJ16_bitCount_41 rfl (lv_at hl 0 rfl) ?_
  refine lv_iload_n hx hb dJ16_bitCount_42 rfl (lv_at hl 0 rfl) ?_
  refine lv_bipush (v := nI 16) hx hb dJ16_bitCount_43 (by decide) ?_
  refine lv_iushr (v := zUsr x4 16) hx hb dJ16_bitCount_45 rfl ?_
  refine lv_iadd hx hb dJ16_bitCount_46 ?_
  refine lv_topi (fun x5 ex5 => ?_)
  refine lv_istore_n (lv' := [(0, .int x5)]) hx hb dJ16_bitCount_47 rfl hl (by decide) rfl (fun ls hl => ?_)
  refine lv_iload_n hx hb dJ16_bitCount_48 rfl (lv_at hl 0 rfl) ?_
  refine lv_bipush (v := nI 63) hx hb dJ16_bitCount_49 (by decide) ?_
  refine lv_iand hx hb dJ16_bitCount_51 ?_
  exact ze_iretE C (by rw [ex5, ex4, ex3, ex2, ex1]; rfl) dJ16_bitCount_52
set_option maxHeartbeats 4000000 in
theorem mo_dead (l : Launch) (G : zG) (a : Nat → Nat) (th : Int32) (K : zKt) (σ : zSt) (hI : zInj a 8) (mv : Int32) (hO : zOk K σ) : zMrw l yX3_dead cX3_dead 5 (some .int) 2 0 0 G [.ref (a 0), .int mv] (zMP G a th K σ) (some (.int (oDead K σ mv).2.1)) (zMP G a (oDead K σ mv).1 (oDead K σ mv).2.2.1 (oDead K σ mv).2.2.2) (zA a 8) := by
  refine zMk [(0, .ref (a 0)), (1, .int mv)] (by decide) (Nat.le_of_ble_eq_true rfl) rfl ?_
  intro p e s m below meth c ls C hP hl _
  generalize ([.ref (a 0), .int mv] : List Value).toArray = av at C ⊢
  have hx := C.1
  have hb := C.2.1
  have hml := C.2.2.1
  have hown := C.2.2.2.1
  have hts := C.2.2.2.2.1
  have hE := C.2.2.2.2.2.2.2
  have hS : va_S (zA a 8) s.heap s.heap [] := va_S.rf
  refine lv_aload_n hx hb dX3_dead_0 rfl (lv_at hl 0 rfl) ?_
  refine lv_iconst (v := nI 0) hx hb dX3_dead_1 (by decide) ?_
  refine zpM (th' := (nI 0)) (K' := K) C hI (fun _ h => h) hP hS 0 (by decide) q810 rfl rfl (zpd 0 (by decide)) rfl ⟨rfl, rfl⟩ dX3_dead_2 (fun H locs hP hS => ?_)
  refine lv_aload_n hx hb dX3_dead_5 rfl (lv_at hl 0 rfl) ?_
  refine lv_iload_n hx hb dX3_dead_6 rfl (lv_at hl 1 rfl) ?_
  refine zcV1 (As := [.int mv]) (rest := []) C (mo_isMachine l G a (nI 0) K σ mv) (lw_V q872 q874 qs14 q48 q875) hdX3_isMachine ⟨Nat.le_of_ble_eq_true rfl, Nat.le_of_ble_eq_true rfl⟩ (zrM hE hP) (hP) hl.1 rfl (Nat.le_of_ble_eq_true rfl) ⟨Nat.le_of_ble_eq_true rfl, Nat.le_of_ble_eq_true rfl⟩ dX3_dead_7 ?_
  refine zb_ifn (zMac K mv) (tgt := 19) C rfl dX3_dead_10 (by decide) (fun c_1 => ?_) (fun c_1 => ?_)
  · obtain ⟨i, hi, rfl⟩ := zIdx (n := zkM K) (by have := hO.1; have := hO.2.1; omega) c_1
    have hci : (nI i).toNatClampNeg = i := nI_clamp (by have := hO.1; have := hO.2.1; omega)
    have hi9 : i < 8 := by have := hO.1; have := hO.2.1; omega
    refine lv_aload_n hx hb dX3_dead_19 rfl (lv_at hl 0 rfl) ?_
    refine lv_iload_n hx hb dX3_dead_20 rfl (lv_at hl 1 rfl) ?_
    refine zcV1 (As := [.int (nI i)]) (rest := []) C (mo_isTable l G a (nI 0) K σ i (by omega)) (lw_V q880 q882 qs16 q48 q883) hdX3_isTable ⟨Nat.le_of_ble_eq_true rfl, Nat.le_of_ble_eq_true rfl⟩ (zrM hE hP) (hP) hl.1 rfl (Nat.le_of_ble_eq_true rfl) ⟨Nat.le_of_ble_eq_true rfl, Nat.le_of_ble_eq_true rfl⟩ dX3_dead_21 ?_
    refine zb_ifn (σ 0 i = 0) (tgt := 33) C rfl dX3_dead_24 (by decide) (fun c_2 => ?_) (fun c_2 => ?_)
    · have hT : zTab σ i := by
        rcases hO.2.2.1 i (by omega) with h | h
        · exact h
        · exact absurd (h.1.symm.trans c_2) (by decide)
      have hw9 := hT.2.2.1
      refine lv_iconst (v := nI 0) hx hb dX3_dead_33 (by decide) ?_
      refine lv_istore_n (lv' := [(2, .int (nI 0)), (0, .ref (a 0)), (1, .int (nI i))]) hx hb dX3_dead_34 rfl hl (by decide) rfl (fun ls hl => ?_)
      refine lv_iconst (v := nI 0) hx hb dX3_dead_35 (by decide) ?_
      refine lv_istore_n (lv' := [(3, .int (nI 0)), (2, .int (nI 0)), (0, .ref (a 0)), (1, .int (nI i))]) hx hb dX3_dead_36 rfl hl (by decide) rfl (fun ls hl => ?_)
      have loop : ∀ (n : Nat) (k : Nat), (k ≤ zWd σ i) → (zWd σ i + 1 ≤ k + n) → ∀ (ls : Array Slot), lv_has ls 5 [(3, .int (nI k)), (2, .int (zRc K σ i k)), (0, .ref (a 0)), (1, .int (nI i))] → W p l e (zRm 2 0 0) s m av below meth c H locs 0 0 (MQ below (zRW (some (.int (oDead K σ (nI i)).2.1)) (zMP G a (oDead K σ (nI i)).1 (oDead K σ (nI i)).2.2.1 (oDead K σ (nI i)).2.2.2) (zA a 8)) av s 0 0 (zA a 8)) (F0 m 37 ls []) := by
        intro n
        induction n with
        | zero =>
          intro k h8 h9
          exact absurd (And.intro h8 h9) (by omega)
        | succ n ih =>
          intro k h8 h9 ls hl
          refine lv_iload_n hx hb dX3_dead_37 rfl (lv_at hl 0 rfl) ?_
          refine lv_aload_n hx hb dX3_dead_38 rfl (lv_at hl 2 rfl) ?_
          refine lv_iload_n hx hb dX3_dead_39 rfl (lv_at hl 3 rfl) ?_
          refine lv_iconst (v := nI 1) hx hb dX3_dead_40 (by decide) ?_
          refine zcV1 (As := [.int (nI i), .int (nI 1)]) (rest := [.int (nI k)]) C (mo_ma l G a (nI 0) K σ i 1 (nI (zWd σ i)) (by omega) (by omega) hT.2.2.2.2.2.1) (lw_V q884 q886 qs17 q48 q887) hdX3_ma ⟨Nat.le_of_ble_eq_true rfl, Nat.le_of_ble_eq_true rfl⟩ (zrM hE hP) (hP) hl.1 rfl (Nat.le_of_ble_eq_true rfl) ⟨Nat.le_of_ble_eq_true rfl, Nat.le_of_ble_eq_true rfl⟩ dX3_dead_41 ?_
          refine zn_ge (tgt := 81) C (by omega) (by omega) dX3_dead_44 (by decide) (fun c_3 => ?_) (fun c_3 => ?_)
          · have hk9 : k = zWd σ i := by omega
            subst hk9
            refine lv_aload_n hx hb dX3_dead_81 rfl (lv_at hl 2 rfl) ?_
            refine lv_iload_n hx hb dX3_dead_82 rfl (lv_at hl 3 rfl) ?_
            refine lv_iconst (v := nI 1) hx hb dX3_dead_83 (by decide) ?_
            refine zcV1 (As := [.int (nI i), .int (nI 1)]) (rest := []) C (mo_ma l G a (nI 0) K σ i 1 (nI (zWd σ i)) (by omega) (by omega) hT.2.2.2.2.2.1) (lw_V q884 q886 qs17 q48 q887) hdX3_ma ⟨Nat.le_of_ble_eq_true rfl, Nat.le_of_ble_eq_true rfl⟩ (zrM hE hP) (hP) hl.1 rfl (Nat.le_of_ble_eq_true rfl) ⟨Nat.le_of_ble_eq_true rfl, Nat.le_of_ble_eq_true rfl⟩ dX3_dead_84 ?_
            refine lv_iload_n hx hb dX3_dead_87 rfl (lv_at hl 1 rfl) ?_
            refine zcS1 (As := [.int (zRc K σ i (zWd σ i))]) (rest := [.int (nI (zWd σ i))]) C (mo_bits l G (zRc K σ i (zWd σ i))) (lw_S q937 q624 q66 q625) hdJ16_bitCount.2 ⟨Nat.le_of_ble_eq_true rfl, Nat.le_of_ble_eq_true rfl⟩ (trivial) hl.1 rfl (Nat.le_of_ble_eq_true rfl) ⟨Nat.le_of_ble_eq_true rfl, Nat.le_of_ble_eq_true rfl⟩ dX3_dead_88 ?_
            refine lv_isub hx hb dX3_dead_91 ?_
            exact zw_iretE C (by unfold oDead; rw [if_pos c_1, hci, if_pos c_2]; try rfl) (by unfold oDead; rw [if_pos c_1, hci, if_pos c_2]; exact hP) hS dX3_dead_92
          · refine lv_iconst (v := (-1)) hx hb dX3_dead_47 (by decide) ?_
            refine lv_istore (lv' := [(4, .int (-1)), (3, .int (nI k)), (2, .int (zRc K σ i k)), (0, .ref (a 0)), (1, .int (nI i))]) hx hb dX3_dead_48 hl (by decide) rfl (fun ls hl => ?_)
            refine lv_iload hx hb dX3_dead_50 (lv_at hl 0 rfl) ?_
            refine lv_iconst (v := nI 2) hx hb dX3_dead_52 (by decide) ?_
            refine lv_icmp_ge (tgt := 75) hx hb dX3_dead_53 (by decide) (fun c_4 => ?_) (fun c_4 => ?_)
            · exact absurd c_4 (by decide)
            · refine lv_iload_n hx hb dX3_dead_56 rfl (lv_at hl 2 rfl) ?_
              refine lv_iconst (v := nI 1) hx hb dX3_dead_57 (by decide) ?_
              refine lv_aload_n hx hb dX3_dead_58 rfl (lv_at hl 3 rfl) ?_
              refine lv_iload_n hx hb dX3_dead_59 rfl (lv_at hl 4 rfl) ?_
              refine lv_iload_n hx hb dX3_dead_60 rfl (lv_at hl 1 rfl) ?_
              refine lv_iload hx hb dX3_dead_61 (lv_at hl 0 rfl) ?_
              refine zcV1 (As := [.int (nI i), .int (nI k), .int (-1)]) (rest := [.int (nI 1), .int (zRc K σ i k)]) C (mo_end l G a (nI 0) K σ i k (-1) (by omega) hT (by omega)) (lw_V q915 q917 qs21 q48 q918) hdX3_end ⟨Nat.le_of_ble_eq_true rfl, Nat.le_of_ble_eq_true rfl⟩ (zrM hE hP) (hP) hl.1 rfl (Nat.le_of_ble_eq_true rfl) ⟨Nat.le_of_ble_eq_true rfl, Nat.le_of_ble_eq_true rfl⟩ dX3_dead_63 ?_
              refine lv_ishl hx hb dX3_dead_66 ?_
              refine lv_ior hx hb dX3_dead_67 ?_
              refine lv_istore_n (lv' := [(2, .int ((zRc K σ i k) ||| ((nI 1) <<< ((nI (zEnd K σ i k (-1))) &&& 31)))), (4, .int (-1)), (3, .int (nI k)), (0, .ref (a 0)), (1, .int (nI i))]) hx hb dX3_dead_68 rfl hl (by decide) rfl (fun ls hl => ?_)
              refine lv_iinc (v := nI 0) (lv' := [(4, .int (nI 0)), (2, .int ((zRc K σ i k) ||| ((nI 1) <<< ((nI (zEnd K σ i k (-1))) &&& 31)))), (3, .int (nI k)), (0, .ref (a 0)), (1, .int (nI i))]) hx hb dX3_dead_69 hl (k := 1) rfl (by decide) (by decide) rfl (fun ls hl => ?_)
              refine lv_goto (tgt := 50) hx hb dX3_dead_72 (by decide) ?_
              refine lv_iload hx hb dX3_dead_50 (lv_at hl 0 rfl) ?_
              refine lv_iconst (v := nI 2) hx hb dX3_dead_52 (by decide) ?_
              refine zn_ge (tgt := 75) C (by decide) (by decide) dX3_dead_53 (by decide) (fun c_5 => ?_) (fun c_5 => ?_)
              · exact absurd c_5 (by decide)
              · refine lv_iload_n hx hb dX3_dead_56 rfl (lv_at hl 1 rfl) ?_
                refine lv_iconst (v := nI 1) hx hb dX3_dead_57 (by decide) ?_
                refine lv_aload_n hx hb dX3_dead_58 rfl (lv_at hl 3 rfl) ?_
                refine lv_iload_n hx hb dX3_dead_59 rfl (lv_at hl 4 rfl) ?_
                refine lv_iload_n hx hb dX3_dead_60 rfl (lv_at hl 2 rfl) ?_
                refine lv_iload hx hb dX3_dead_61 (lv_at hl 0 rfl) ?_
                refine zcV1 (As := [.int (nI i), .int (nI k), .int (nI 0)]) (rest := [.int (nI 1), .int ((zRc K σ i k) ||| ((nI 1) <<< ((nI (zEnd K σ i k (-1))) &&& 31)))]) C (mo_end l G a (nI 0) K σ i k (nI 0) (by omega) hT (by omega)) (lw_V q915 q917 qs21 q48 q918) hdX3_end ⟨Nat.le_of_ble_eq_true rfl, Nat.le_of_ble_eq_true rfl⟩ (zrM hE hP) (hP) hl.1 rfl (Nat.le_of_ble_eq_true rfl) ⟨Nat.le_of_ble_eq_true rfl, Nat.le_of_ble_eq_true rfl⟩ dX3_dead_63 ?_
                refine lv_ishl hx hb dX3_dead_66 ?_
                refine lv_ior hx hb dX3_dead_67 ?_
                refine lv_istore_n (lv' := [(2, .int (((zRc K σ i k) ||| ((nI 1) <<< ((nI (zEnd K σ i k (-1))) &&& 31))) ||| ((nI 1) <<< ((nI (zEnd K σ i k (nI 0))) &&& 31)))), (4, .int (nI 0)), (3, .int (nI k)), (0, .ref (a 0)), (1, .int (nI i))]) hx hb dX3_dead_68 rfl hl (by decide) rfl (fun ls hl => ?_)
                refine lv_iinc (v := nI 1) (lv' := [(4, .int (nI 1)), (2, .int (((zRc K σ i k) ||| ((nI 1) <<< ((nI (zEnd K σ i k (-1))) &&& 31))) ||| ((nI 1) <<< ((nI (zEnd K σ i k (nI 0))) &&& 31)))), (3, .int (nI k)), (0, .ref (a 0)), (1, .int (nI i))]) hx hb dX3_dead_69 hl (k := 1) rfl (by decide) (by decide) rfl (fun ls hl => ?_)
                refine lv_goto (tgt := 50) hx hb dX3_dead_72 (by decide) ?_
                refine lv_iload hx hb dX3_dead_50 (lv_at hl 0 rfl) ?_
                refine lv_iconst (v := nI 2) hx hb dX3_dead_52 (by decide) ?_
                refine zn_ge (tgt := 75) C (by decide) (by decide) dX3_dead_53 (by decide) (fun c_6 => ?_) (fun c_6 => ?_)
                · exact absurd c_6 (by decide)
                · refine lv_iload_n hx hb dX3_dead_56 rfl (lv_at hl 1 rfl) ?_
                  refine lv_iconst (v := nI 1) hx hb dX3_dead_57 (by decide) ?_
                  refine lv_aload_n hx hb dX3_dead_58 rfl (lv_at hl 3 rfl) ?_
                  refine lv_iload_n hx hb dX3_dead_59 rfl (lv_at hl 4 rfl) ?_
                  refine lv_iload_n hx hb dX3_dead_60 rfl (lv_at hl 2 rfl) ?_
                  refine lv_iload hx hb dX3_dead_61 (lv_at hl 0 rfl) ?_
                  refine zcV1 (As := [.int (nI i), .int (nI k), .int (nI 1)]) (rest := [.int (nI 1), .int (((zRc K σ i k) ||| ((nI 1) <<< ((nI (zEnd K σ i k (-1))) &&& 31))) ||| ((nI 1) <<< ((nI (zEnd K σ i k (nI 0))) &&& 31)))]) C (mo_end l G a (nI 0) K σ i k (nI 1) (by omega) hT (by omega)) (lw_V q915 q917 qs21 q48 q918) hdX3_end ⟨Nat.le_of_ble_eq_true rfl, Nat.le_of_ble_eq_true rfl⟩ (zrM hE hP) (hP) hl.1 rfl (Nat.le_of_ble_eq_true rfl) ⟨Nat.le_of_ble_eq_true rfl, Nat.le_of_ble_eq_true rfl⟩ dX3_dead_63 ?_
                  refine lv_ishl hx hb dX3_dead_66 ?_
                  refine lv_ior hx hb dX3_dead_67 ?_
                  refine lv_istore_n (lv' := [(2, .int ((((zRc K σ i k) ||| ((nI 1) <<< ((nI (zEnd K σ i k (-1))) &&& 31))) ||| ((nI 1) <<< ((nI (zEnd K σ i k (nI 0))) &&& 31))) ||| ((nI 1) <<< ((nI (zEnd K σ i k (nI 1))) &&& 31)))), (4, .int (nI 1)), (3, .int (nI k)), (0, .ref (a 0)), (1, .int (nI i))]) hx hb dX3_dead_68 rfl hl (by decide) rfl (fun ls hl => ?_)
                  refine lv_iinc (v := nI 2) (lv' := [(4, .int (nI 2)), (2, .int ((((zRc K σ i k) ||| ((nI 1) <<< ((nI (zEnd K σ i k (-1))) &&& 31))) ||| ((nI 1) <<< ((nI (zEnd K σ i k (nI 0))) &&& 31))) ||| ((nI 1) <<< ((nI (zEnd K σ i k (nI 1))) &&& 31)))), (3, .int (nI k)), (0, .ref (a 0)), (1, .int (nI i))]) hx hb dX3_dead_69 hl (k := 1) rfl (by decide) (by decide) rfl (fun ls hl => ?_)
                  refine lv_goto (tgt := 50) hx hb dX3_dead_72 (by decide) ?_
                  refine lv_iload hx hb dX3_dead_50 (lv_at hl 0 rfl) ?_
                  refine lv_iconst (v := nI 2) hx hb dX3_dead_52 (by decide) ?_
                  refine zn_ge (tgt := 75) C (by decide) (by decide) dX3_dead_53 (by decide) (fun c_7 => ?_) (fun c_7 => ?_)
                  · refine lv_iinc (v := nI (k + 1)) (lv' := [(3, .int (nI (k + 1))), (4, .int (nI 2)), (2, .int ((((zRc K σ i k) ||| ((nI 1) <<< ((nI (zEnd K σ i k (-1))) &&& 31))) ||| ((nI 1) <<< ((nI (zEnd K σ i k (nI 0))) &&& 31))) ||| ((nI 1) <<< ((nI (zEnd K σ i k (nI 1))) &&& 31)))), (0, .ref (a 0)), (1, .int (nI i))]) hx hb dX3_dead_75 hl (k := 2) rfl (nI_1 _) (by decide) rfl (fun ls hl => ?_)
                    refine lv_goto (tgt := 37) hx hb dX3_dead_78 (by decide) ?_
                    exact ih (k + 1) (by omega) (by omega) ls (lv_sub hl [0, 2, 3, 4] rfl)
                  · exact absurd c_7 (by decide)
      exact loop (zWd σ i + 1) 0 (by omega) (by omega) ls (lv_sub hl [0, 1, 2, 3] rfl)
    · refine lv_aload_n hx hb dX3_dead_27 rfl (lv_at hl 0 rfl) ?_
      refine lv_iconst (v := nI 2) hx hb dX3_dead_28 (by decide) ?_
      refine zwV1 (As := [.int (nI 2)]) (rest := []) C (mo_fail l G a (nI 0) K σ hI (nI 2)) (lw_V q855 q857 qs12 q48 q858) hdX3_fail ⟨Nat.le_of_ble_eq_true rfl, Nat.le_of_ble_eq_true rfl⟩ (zrM hE hP) (hP) hl.1 rfl (Nat.le_of_ble_eq_true rfl) ⟨Nat.le_of_ble_eq_true rfl, Nat.le_of_ble_eq_true rfl⟩ dX3_dead_29 hS (fun _ h => h) (fun H locs hP _ hS => ?_)
      exact zw_iretE C (by unfold oDead; rw [if_pos c_1, hci, if_neg c_2]; try rfl) (by unfold oDead; rw [if_pos c_1, hci, if_neg c_2]; exact hP) hS dX3_dead_32
  · refine lv_aload_n hx hb dX3_dead_13 rfl (lv_at hl 0 rfl) ?_
    refine lv_iconst (v := nI 1) hx hb dX3_dead_14 (by decide) ?_
    refine zwV1 (As := [.int (nI 1)]) (rest := []) C (mo_fail l G a (nI 0) K σ hI (nI 1)) (lw_V q855 q857 qs12 q48 q858) hdX3_fail ⟨Nat.le_of_ble_eq_true rfl, Nat.le_of_ble_eq_true rfl⟩ (zrM hE hP) (hP) hl.1 rfl (Nat.le_of_ble_eq_true rfl) ⟨Nat.le_of_ble_eq_true rfl, Nat.le_of_ble_eq_true rfl⟩ dX3_dead_15 hS (fun _ h => h) (fun H locs hP _ hS => ?_)
    exact zw_iretE C (by unfold oDead; rw [if_neg c_1]; try rfl) (by unfold oDead; rw [if_neg c_1]; exact hP) hS dX3_dead_18
set_option maxHeartbeats 4000000 in
theorem mo_digest (l : Launch) (G : zG) (a : Nat → Nat) (th : Int32) (K : zKt) (σ : zSt) (hI : zInj a 8) (hO : zOk K σ) : zMrw l yX3_digest cX3_digest 6 (some .long) 3 0 0 G [.ref (a 0)] (zMP G a th K σ) (some (.long (zDig K σ))) (zMP G a (nI 0) K σ) (zA a 8) := by
  refine zMk [(0, .ref (a 0))] (by decide) (Nat.le_of_ble_eq_true rfl) rfl ?_
  intro p e s m below meth c ls C hP hl _
  generalize ([.ref (a 0)] : List Value).toArray = av at C ⊢
  have hx := C.1
  have hb := C.2.1
  have hml := C.2.2.1
  have hown := C.2.2.2.1
  have hts := C.2.2.2.2.1
  have hE := C.2.2.2.2.2.2.2
  have hS : va_S (zA a 8) s.heap s.heap [] := va_S.rf
  have hM8 := hO.1
  have hP10 := hO.2.1
  obtain ⟨q, hqM, hq, hrow⟩ := hO.2.2.2.2
  have hcq : (nI q).toNatClampNeg = q := nI_clamp (by omega)
  refine lv_aload_n hx hb dX3_digest_0 rfl (lv_at hl 0 rfl) ?_
  refine lv_iconst (v := nI 0) hx hb dX3_digest_1 (by decide) ?_
  refine zpM (th' := (nI 0)) (K' := K) C hI (fun _ h => h) hP hS 0 (by decide) q810 rfl rfl (zpd 0 (by decide)) rfl ⟨rfl, rfl⟩ dX3_digest_2 (fun H locs hP hS => ?_)
  refine lv_ldc2 hx hb hown (hts _ q1074) dX3_digest_5 ?_
  refine lv_lstore_n (lv' := [(1, .long 631), (0, .ref (a 0))]) hx hb dX3_digest_8 rfl hl (by decide) rfl (fun ls hl => ?_)
  refine lv_iconst (v := nI 0) hx hb dX3_digest_9 (by decide) ?_
  refine lv_istore_n (lv' := [(3, .int (nI 0)), (1, .long 631), (0, .ref (a 0))]) hx hb dX3_digest_10 rfl hl (by decide) rfl (fun ls hl => ?_)
  have eD : zDig K σ = zHs (zDps σ (zDms K σ (zHs 631 (zCnt K σ) 10) (zkM K)) (zkP K)) (σ 21) q := by unfold zDig; rw [hq, hcq]
  rw [eD]
  have loop4 : ∀ (n : Nat) (k : Nat), (k ≤ q) → (q + 1 ≤ k + n) → ∀ (ls : Array Slot), lv_has ls 6 [(3, .int (nI k)), (1, .long (zHs (zDps σ (zDms K σ (zHs 631 (zCnt K σ) 10) (zkM K)) (zkP K)) (σ 21) k)), (0, .ref (a 0))] → W p l e (zRm 3 0 0) s m av below meth c H locs 0 0 (MQ below (zRW (some (.long (zHs (zDps σ (zDms K σ (zHs 631 (zCnt K σ) 10) (zkM K)) (zkP K)) (σ 21) q))) (zMP G a (nI 0) K σ) (zA a 8)) av s 0 0 (zA a 8)) (F0 m 275 ls []) := by
    intro n
    induction n with
    | zero =>
      intro k h1 h2
      exact absurd (And.intro h1 h2) (by omega)
    | succ n ih =>
      intro k h1 h2 ls hl
      refine lv_iload_n hx hb dX3_digest_275 rfl (lv_at hl 0 rfl) ?_
      refine lv_aload_n hx hb dX3_digest_276 rfl (lv_at hl 2 rfl) ?_
      refine zgM C hP 10 (by decide) q820 rfl rfl dX3_digest_277 ?_
      refine lv_iconst (v := nI 1) hx hb dX3_digest_280 (by decide) ?_
      refine zn_ald C hP 7 rfl (by decide) (Nat.le_of_ble_eq_true rfl) dX3_digest_281 ?_
      rw [hq]
      refine zn_ge (tgt := 305) C (by omega) (by omega) dX3_digest_282 (by decide) (fun c_1 => ?_) (fun c_1 => ?_)
      · have hk9 : k = q := by omega
        subst hk9
        refine lv_lload_n hx hb dX3_digest_305 rfl (lv_at hl 1 rfl) ?_
        exact zw_lretE C rfl hP hS dX3_digest_306
      · refine lv_lload_n hx hb dX3_digest_285 rfl (lv_at hl 1 rfl) ?_
        refine lv_ldc2 hx hb hown (hts _ q1075) dX3_digest_286 ?_
        refine lv_lmul hx hb dX3_digest_289 ?_
        refine lv_aload_n hx hb dX3_digest_290 rfl (lv_at hl 2 rfl) ?_
        refine zgM C hP 9 (by decide) q819 rfl rfl dX3_digest_291 ?_
        refine lv_iload_n hx hb dX3_digest_294 rfl (lv_at hl 0 rfl) ?_
        refine zn_ald C hP 6 rfl (by omega) (Nat.le_of_ble_eq_true rfl) dX3_digest_295 ?_
        refine lv_i2l hx hb dX3_digest_296 rfl ?_
        refine lv_ladd hx hb dX3_digest_297 ?_
        refine lv_lstore_n (lv' := [(1, .long (((zHs (zDps σ (zDms K σ (zHs 631 (zCnt K σ) 10) (zkM K)) (zkP K)) (σ 21) k) * 31) + ((σ 21 k).toInt64))), (3, .int (nI k)), (0, .ref (a 0))]) hx hb dX3_digest_298 rfl hl (by decide) rfl (fun ls hl => ?_)
        refine lv_iinc (v := nI (k + 1)) (lv' := [(3, .int (nI (k + 1))), (1, .long (((zHs (zDps σ (zDms K σ (zHs 631 (zCnt K σ) 10) (zkM K)) (zkP K)) (σ 21) k) * 31) + ((σ 21 k).toInt64))), (0, .ref (a 0))]) hx hb dX3_digest_299 hl (k := 1) rfl (nI_1 _) (by decide) rfl (fun ls hl => ?_)
        refine lv_goto (tgt := 275) hx hb dX3_digest_302 (by decide) ?_
        exact ih (k + 1) (by omega) (by omega) ls (lv_sub hl [0, 1, 2] rfl)
  have loop3 : ∀ (n : Nat) (u : Nat), (u ≤ zkP K) → (zkP K + 1 ≤ u + n) → ∀ (ls : Array Slot), lv_has ls 6 [(3, .int (nI u)), (1, .long (zDps σ (zDms K σ (zHs 631 (zCnt K σ) 10) (zkM K)) u)), (0, .ref (a 0))] → W p l e (zRm 3 0 0) s m av below meth c H locs 0 0 (MQ below (zRW (some (.long (zHs (zDps σ (zDms K σ (zHs 631 (zCnt K σ) 10) (zkM K)) (zkP K)) (σ 21) q))) (zMP G a (nI 0) K σ) (zA a 8)) av s 0 0 (zA a 8)) (F0 m 228 ls []) := by
    intro n
    induction n with
    | zero =>
      intro u h1 h2
      exact absurd (And.intro h1 h2) (by omega)
    | succ n ih =>
      intro u h1 h2 ls hl
      refine lv_iload_n hx hb dX3_digest_228 rfl (lv_at hl 0 rfl) ?_
      refine lv_aload_n hx hb dX3_digest_229 rfl (lv_at hl 2 rfl) ?_
      refine zgM C hP 2 (by decide) q812 rfl rfl dX3_digest_230 ?_
      refine zn_ge (tgt := 273) C (by omega) (by omega) dX3_digest_233 (by decide) (fun c_2 => ?_) (fun c_2 => ?_)
      · have hk9 : u = zkP K := by omega
        subst hk9
        refine lv_iconst (v := nI 0) hx hb dX3_digest_273 (by decide) ?_
        refine lv_istore_n (lv' := [(3, .int (nI 0)), (1, .long (zDps σ (zDms K σ (zHs 631 (zCnt K σ) 10) (zkM K)) (zkP K))), (0, .ref (a 0))]) hx hb dX3_digest_274 rfl hl (by decide) rfl (fun ls hl => ?_)
        exact loop4 (q + 1) 0 (by omega) (by omega) ls (lv_sub hl [0, 1, 2] rfl)
      · refine lv_iconst (v := nI 0) hx hb dX3_digest_236 (by decide) ?_
        refine lv_istore (lv' := [(4, .int (nI 0)), (3, .int (nI u)), (1, .long (zDps σ (zDms K σ (zHs 631 (zCnt K σ) 10) (zkM K)) u)), (0, .ref (a 0))]) hx hb dX3_digest_237 hl (by decide) rfl (fun ls hl => ?_)
        have loopi : ∀ (n2 : Nat) (w : Nat), (w ≤ 6) → (7 ≤ w + n2) → ∀ (ls : Array Slot), lv_has ls 6 [(4, .int (nI w)), (1, .long (zHs (zDps σ (zDms K σ (zHs 631 (zCnt K σ) 10) (zkM K)) u) (fun j => σ (10 + j) u) w)), (3, .int (nI u)), (0, .ref (a 0))] → W p l e (zRm 3 0 0) s m av below meth c H locs 0 0 (MQ below (zRW (some (.long (zHs (zDps σ (zDms K σ (zHs 631 (zCnt K σ) 10) (zkM K)) (zkP K)) (σ 21) q))) (zMP G a (nI 0) K σ) (zA a 8)) av s 0 0 (zA a 8)) (F0 m 239 ls []) := by
          intro n2
          induction n2 with
          | zero =>
            intro w h3 h4
            exact absurd (And.intro h3 h4) (by omega)
          | succ n2 ih2 =>
            intro w h3 h4 ls hl
            refine lv_iload hx hb dX3_digest_239 (lv_at hl 0 rfl) ?_
            refine lv_bipush (v := nI 6) hx hb dX3_digest_241 (by decide) ?_
            refine zn_ge (tgt := 267) C (by omega) (by omega) dX3_digest_243 (by decide) (fun c_3 => ?_) (fun c_3 => ?_)
            · have hk9 : w = 6 := by omega
              subst hk9
              refine lv_iinc (v := nI (u + 1)) (lv' := [(3, .int (nI (u + 1))), (4, .int (nI 6)), (1, .long (zHs (zDps σ (zDms K σ (zHs 631 (zCnt K σ) 10) (zkM K)) u) (fun j => σ (10 + j) u) 6)), (0, .ref (a 0))]) hx hb dX3_digest_267 hl (k := 2) rfl (nI_1 _) (by decide) rfl (fun ls hl => ?_)
              refine lv_goto (tgt := 228) hx hb dX3_digest_270 (by decide) ?_
              exact ih (u + 1) (by omega) (by omega) ls (lv_sub hl [0, 2, 3] rfl)
            · refine lv_lload_n hx hb dX3_digest_246 rfl (lv_at hl 1 rfl) ?_
              refine lv_ldc2 hx hb hown (hts _ q1075) dX3_digest_247 ?_
              refine lv_lmul hx hb dX3_digest_250 ?_
              refine lv_aload_n hx hb dX3_digest_251 rfl (lv_at hl 3 rfl) ?_
              refine lv_iload_n hx hb dX3_digest_252 rfl (lv_at hl 2 rfl) ?_
              refine lv_iload hx hb dX3_digest_253 (lv_at hl 0 rfl) ?_
              refine zcV1 (As := [.int (nI u), .int (nI w)]) (rest := [.long ((zHs (zDps σ (zDms K σ (zHs 631 (zCnt K σ) 10) (zkM K)) u) (fun j => σ (10 + j) u) w) * 31)]) C (mo_pl l G a (nI 0) K σ u w (σ (10 + w) u) (by omega) (by omega) rfl) (lw_V q903 q905 qs19 q48 q906) hdX3_pl ⟨Nat.le_of_ble_eq_true rfl, Nat.le_of_ble_eq_true rfl⟩ (zrM hE hP) (hP) hl.1 rfl (Nat.le_of_ble_eq_true rfl) ⟨Nat.le_of_ble_eq_true rfl, Nat.le_of_ble_eq_true rfl⟩ dX3_digest_255 ?_
              refine lv_i2l hx hb dX3_digest_258 rfl ?_
              refine lv_ladd hx hb dX3_digest_259 ?_
              refine lv_lstore_n (lv' := [(1, .long (((zHs (zDps σ (zDms K σ (zHs 631 (zCnt K σ) 10) (zkM K)) u) (fun j => σ (10 + j) u) w) * 31) + ((σ (10 + w) u).toInt64))), (4, .int (nI w)), (3, .int (nI u)), (0, .ref (a 0))]) hx hb dX3_digest_260 rfl hl (by decide) rfl (fun ls hl => ?_)
              refine lv_iinc (v := nI (w + 1)) (lv' := [(4, .int (nI (w + 1))), (1, .long (((zHs (zDps σ (zDms K σ (zHs 631 (zCnt K σ) 10) (zkM K)) u) (fun j => σ (10 + j) u) w) * 31) + ((σ (10 + w) u).toInt64))), (3, .int (nI u)), (0, .ref (a 0))]) hx hb dX3_digest_261 hl (k := 1) rfl (nI_1 _) (by decide) rfl (fun ls hl => ?_)
              refine lv_goto (tgt := 239) hx hb dX3_digest_264 (by decide) ?_
              exact ih2 (w + 1) (by omega) (by omega) ls (lv_sub hl [0, 1, 2, 3] rfl)
        exact loopi 7 0 (by omega) (by omega) ls (lv_sub hl [0, 2, 1, 3] rfl)
  have loop2 : ∀ (n : Nat) (i : Nat), (i ≤ zkM K) → (zkM K + 1 ≤ i + n) → ∀ (ls : Array Slot), lv_has ls 6 [(3, .int (nI i)), (1, .long (zDms K σ (zHs 631 (zCnt K σ) 10) i)), (0, .ref (a 0))] → W p l e (zRm 3 0 0) s m av below meth c H locs 0 0 (MQ below (zRW (some (.long (zHs (zDps σ (zDms K σ (zHs 631 (zCnt K σ) 10) (zkM K)) (zkP K)) (σ 21) q))) (zMP G a (nI 0) K σ) (zA a 8)) av s 0 0 (zA a 8)) (F0 m 38 ls []) := by
    intro n
    induction n with
    | zero =>
      intro i h1 h2
      exact absurd (And.intro h1 h2) (by omega)
    | succ n ih =>
      intro i h1 h2 ls hl
      refine lv_iload_n hx hb dX3_digest_38 rfl (lv_at hl 0 rfl) ?_
      refine lv_aload_n hx hb dX3_digest_39 rfl (lv_at hl 2 rfl) ?_
      refine zgM C hP 1 (by decide) q811 rfl rfl dX3_digest_40 ?_
      refine zn_ge (tgt := 226) C (by omega) (by omega) dX3_digest_43 (by decide) (fun c_4 => ?_) (fun c_4 => ?_)
      · have hk9 : i = zkM K := by omega
        subst hk9
        refine lv_iconst (v := nI 0) hx hb dX3_digest_226 (by decide) ?_
        refine lv_istore_n (lv' := [(3, .int (nI 0)), (1, .long (zDms K σ (zHs 631 (zCnt K σ) 10) (zkM K))), (0, .ref (a 0))]) hx hb dX3_digest_227 rfl hl (by decide) rfl (fun ls hl => ?_)
        exact loop3 (zkP K + 1) 0 (by omega) (by omega) ls (lv_sub hl [0, 1, 2] rfl)
      · refine lv_iconst (v := nI 0) hx hb dX3_digest_46 (by decide) ?_
        refine lv_istore (lv' := [(4, .int (nI 0)), (3, .int (nI i)), (1, .long (zDms K σ (zHs 631 (zCnt K σ) 10) i)), (0, .ref (a 0))]) hx hb dX3_digest_47 hl (by decide) rfl (fun ls hl => ?_)
        have loopi : ∀ (n2 : Nat) (w : Nat), (w ≤ 11) → (12 ≤ w + n2) → ∀ (ls : Array Slot), lv_has ls 6 [(4, .int (nI w)), (1, .long (zHs (zDms K σ (zHs 631 (zCnt K σ) 10) i) (zTold K σ i) w)), (3, .int (nI i)), (0, .ref (a 0))] → W p l e (zRm 3 0 0) s m av below meth c H locs 0 0 (MQ below (zRW (some (.long (zHs (zDps σ (zDms K σ (zHs 631 (zCnt K σ) 10) (zkM K)) (zkP K)) (σ 21) q))) (zMP G a (nI 0) K σ) (zA a 8)) av s 0 0 (zA a 8)) (F0 m 49 ls []) := by
          intro n2
          induction n2 with
          | zero =>
            intro w h3 h4
            exact absurd (And.intro h3 h4) (by omega)
          | succ n2 ih2 =>
            intro w h3 h4 ls hl
            refine lv_iload hx hb dX3_digest_49 (lv_at hl 0 rfl) ?_
            refine lv_bipush (v := nI 11) hx hb dX3_digest_51 (by decide) ?_
            refine zn_ge (tgt := 77) C (by omega) (by omega) dX3_digest_53 (by decide) (fun c_5 => ?_) (fun c_5 => ?_)
            · have hk9 : w = 11 := by omega
              subst hk9
              refine lv_iconst (v := nI 0) hx hb dX3_digest_77 (by decide) ?_
              refine lv_istore (lv' := [(4, .int (nI 0)), (1, .long (zHs (zDms K σ (zHs 631 (zCnt K σ) 10) i) (zTold K σ i) 11)), (3, .int (nI i)), (0, .ref (a 0))]) hx hb dX3_digest_78 hl (by decide) rfl (fun ls hl => ?_)
              rcases hO.2.2.1 i (by omega) with hT | hPs
              · have h0 : σ 0 i = 0 := hT.1
                have hw9 := hT.2.2.1
                have hd12 := hT.2.2.2.2.1
                have eM : zDms K σ (zHs 631 (zCnt K σ) 10) (i + 1) = zHs2 (zHs (zHs (zDms K σ (zHs 631 (zCnt K σ) 10) i) (zTold K σ i) 11) (zkC K i) (zWd σ i)) (zkN K i) (zWd σ i) (zDp σ i) := by show zDm K σ _ i = _; unfold zDm; rw [if_pos h0]
                have loopr : ∀ (n3 : Nat) (r : Nat), (r ≤ zDp σ i) → (zDp σ i + 1 ≤ r + n3) → ∀ (ls : Array Slot), lv_has ls 6 [(4, .int (nI r)), (1, .long (zHs2 (zHs (zHs (zDms K σ (zHs 631 (zCnt K σ) 10) i) (zTold K σ i) 11) (zkC K i) (zWd σ i)) (zkN K i) (zWd σ i) r)), (3, .int (nI i)), (0, .ref (a 0))] → W p l e (zRm 3 0 0) s m av below meth c H locs 0 0 (MQ below (zRW (some (.long (zHs (zDps σ (zDms K σ (zHs 631 (zCnt K σ) 10) (zkM K)) (zkP K)) (σ 21) q))) (zMP G a (nI 0) K σ) (zA a 8)) av s 0 0 (zA a 8)) (F0 m 120 ls []) := by
                  intro n3
                  induction n3 with
                  | zero =>
                    intro r h5 h6
                    exact absurd (And.intro h5 h6) (by omega)
                  | succ n3 ih3 =>
                    intro r h5 h6 ls hl
                    refine lv_iload hx hb dX3_digest_120 (lv_at hl 0 rfl) ?_
                    refine lv_aload_n hx hb dX3_digest_122 rfl (lv_at hl 3 rfl) ?_
                    refine lv_iload_n hx hb dX3_digest_123 rfl (lv_at hl 2 rfl) ?_
                    refine lv_iconst (v := nI 2) hx hb dX3_digest_124 (by decide) ?_
                    refine zcV1 (As := [.int (nI i), .int (nI 2)]) (rest := [.int (nI r)]) C (mo_ma l G a (nI 0) K σ i 2 (nI (zDp σ i)) (by omega) (by omega) hT.2.2.2.2.2.2) (lw_V q884 q886 qs17 q48 q887) hdX3_ma ⟨Nat.le_of_ble_eq_true rfl, Nat.le_of_ble_eq_true rfl⟩ (zrM hE hP) (hP) hl.1 rfl (Nat.le_of_ble_eq_true rfl) ⟨Nat.le_of_ble_eq_true rfl, Nat.le_of_ble_eq_true rfl⟩ dX3_digest_125 ?_
                    refine zn_ge (tgt := 178) C (by omega) (by omega) dX3_digest_128 (by decide) (fun c_6 => ?_) (fun c_6 => ?_)
                    · have hk9 : r = zDp σ i := by omega
                      subst hk9
                      refine lv_iconst (v := nI 0) hx hb dX3_digest_178 (by decide) ?_
                      refine lv_istore (lv' := [(4, .int (nI 0)), (1, .long (zHs2 (zHs (zHs (zDms K σ (zHs 631 (zCnt K σ) 10) i) (zTold K σ i) 11) (zkC K i) (zWd σ i)) (zkN K i) (zWd σ i) (zDp σ i))), (3, .int (nI i)), (0, .ref (a 0))]) hx hb dX3_digest_179 hl (by decide) rfl (fun ls hl => ?_)
                      refine lv_iload hx hb dX3_digest_181 (lv_at hl 0 rfl) ?_
                      refine lv_iconst (v := nI 5) hx hb dX3_digest_183 (by decide) ?_
                      refine zn_ge (tgt := 220) C (by decide) (by decide) dX3_digest_184 (by decide) (fun c_7 => ?_) (fun c_7 => ?_)
                      · exact absurd c_7 (by decide)
                      · refine lv_aload_n hx hb dX3_digest_187 rfl (lv_at hl 3 rfl) ?_
                        refine lv_iload_n hx hb dX3_digest_188 rfl (lv_at hl 2 rfl) ?_
                        refine zcV1 (As := [.int (nI i)]) (rest := []) C (mo_isTable l G a (nI 0) K σ i (by omega)) (lw_V q880 q882 qs16 q48 q883) hdX3_isTable ⟨Nat.le_of_ble_eq_true rfl, Nat.le_of_ble_eq_true rfl⟩ (zrM hE hP) (hP) hl.1 rfl (Nat.le_of_ble_eq_true rfl) ⟨Nat.le_of_ble_eq_true rfl, Nat.le_of_ble_eq_true rfl⟩ dX3_digest_189 ?_
                        refine zb_ifn (σ 0 i = 0) (tgt := 220) C rfl dX3_digest_192 (by decide) (fun c_8 => ?_) (fun c_8 => ?_)
                        · refine lv_iinc (v := nI (i + 1)) (lv' := [(3, .int (nI (i + 1))), (4, .int (nI 0)), (1, .long (zHs2 (zHs (zHs (zDms K σ (zHs 631 (zCnt K σ) 10) i) (zTold K σ i) 11) (zkC K i) (zWd σ i)) (zkN K i) (zWd σ i) (zDp σ i))), (0, .ref (a 0))]) hx hb dX3_digest_220 hl (k := 2) rfl (nI_1 _) (by decide) rfl (fun ls hl => ?_)
                          refine lv_goto (tgt := 38) hx hb dX3_digest_223 (by decide) ?_
                          exact ih (i + 1) (by omega) (by omega) ls (by rw [eM]; exact (lv_sub hl [0, 2, 3] rfl))
                        · exact absurd h0 c_8
                    · refine lv_iconst (v := nI 0) hx hb dX3_digest_131 (by decide) ?_
                      refine lv_istore (lv' := [(5, .int (nI 0)), (4, .int (nI r)), (1, .long (zHs2 (zHs (zHs (zDms K σ (zHs 631 (zCnt K σ) 10) i) (zTold K σ i) 11) (zkC K i) (zWd σ i)) (zkN K i) (zWd σ i) r)), (3, .int (nI i)), (0, .ref (a 0))]) hx hb dX3_digest_132 hl (by decide) rfl (fun ls hl => ?_)
                      have loopk : ∀ (n4 : Nat) (k : Nat), (k ≤ zWd σ i) → (zWd σ i + 1 ≤ k + n4) → ∀ (ls : Array Slot), lv_has ls 6 [(5, .int (nI k)), (1, .long (zHs (zHs2 (zHs (zHs (zDms K σ (zHs 631 (zCnt K σ) 10) i) (zTold K σ i) 11) (zkC K i) (zWd σ i)) (zkN K i) (zWd σ i) r) (zkN K i r) k)), (4, .int (nI r)), (3, .int (nI i)), (0, .ref (a 0))] → W p l e (zRm 3 0 0) s m av below meth c H locs 0 0 (MQ below (zRW (some (.long (zHs (zDps σ (zDms K σ (zHs 631 (zCnt K σ) 10) (zkM K)) (zkP K)) (σ 21) q))) (zMP G a (nI 0) K σ) (zA a 8)) av s 0 0 (zA a 8)) (F0 m 134 ls []) := by
                        intro n4
                        induction n4 with
                        | zero =>
                          intro k h7 h8
                          exact absurd (And.intro h7 h8) (by omega)
                        | succ n4 ih4 =>
                          intro k h7 h8 ls hl
                          refine lv_iload hx hb dX3_digest_134 (lv_at hl 0 rfl) ?_
                          refine lv_aload_n hx hb dX3_digest_136 rfl (lv_at hl 4 rfl) ?_
                          refine lv_iload_n hx hb dX3_digest_137 rfl (lv_at hl 3 rfl) ?_
                          refine lv_iconst (v := nI 1) hx hb dX3_digest_138 (by decide) ?_
                          refine zcV1 (As := [.int (nI i), .int (nI 1)]) (rest := [.int (nI k)]) C (mo_ma l G a (nI 0) K σ i 1 (nI (zWd σ i)) (by omega) (by omega) hT.2.2.2.2.2.1) (lw_V q884 q886 qs17 q48 q887) hdX3_ma ⟨Nat.le_of_ble_eq_true rfl, Nat.le_of_ble_eq_true rfl⟩ (zrM hE hP) (hP) hl.1 rfl (Nat.le_of_ble_eq_true rfl) ⟨Nat.le_of_ble_eq_true rfl, Nat.le_of_ble_eq_true rfl⟩ dX3_digest_139 ?_
                          refine zn_ge (tgt := 172) C (by omega) (by omega) dX3_digest_142 (by decide) (fun c_9 => ?_) (fun c_9 => ?_)
                          · have hk9 : k = zWd σ i := by omega
                            subst hk9
                            refine lv_iinc (v := nI (r + 1)) (lv' := [(4, .int (nI (r + 1))), (5, .int (nI (zWd σ i))), (1, .long (zHs (zHs2 (zHs (zHs (zDms K σ (zHs 631 (zCnt K σ) 10) i) (zTold K σ i) 11) (zkC K i) (zWd σ i)) (zkN K i) (zWd σ i) r) (zkN K i r) (zWd σ i))), (3, .int (nI i)), (0, .ref (a 0))]) hx hb dX3_digest_172 hl (k := 2) rfl (nI_1 _) (by decide) rfl (fun ls hl => ?_)
                            refine lv_goto (tgt := 120) hx hb dX3_digest_175 (by decide) ?_
                            exact ih3 (r + 1) (by omega) (by omega) ls (lv_sub hl [0, 2, 3, 4] rfl)
                          · refine lv_lload_n hx hb dX3_digest_145 rfl (lv_at hl 1 rfl) ?_
                            refine lv_ldc2 hx hb hown (hts _ q1075) dX3_digest_146 ?_
                            refine lv_lmul hx hb dX3_digest_149 ?_
                            refine lv_aload_n hx hb dX3_digest_150 rfl (lv_at hl 4 rfl) ?_
                            refine zgM C hP 5 (by decide) q815 rfl rfl dX3_digest_151 ?_
                            refine lv_iload_n hx hb dX3_digest_154 rfl (lv_at hl 3 rfl) ?_
                            refine lv_iload hx hb dX3_digest_155 (lv_at hl 2 rfl) ?_
                            refine lv_iload hx hb dX3_digest_157 (lv_at hl 0 rfl) ?_
                            refine zcS1 (As := [.int (nI i), .int (nI r), .int (nI k)]) (rest := [.ref (a 2), .long ((zHs (zHs2 (zHs (zHs (zDms K σ (zHs 631 (zCnt K σ) 10) i) (zTold K σ i) 11) (zkC K i) (zWd σ i)) (zkN K i) (zWd σ i) r) (zkN K i r) k) * 31)]) C (mo_pin l G i r k) (lw_S q888 q889 q48 q890) hdX3_pin.2 ⟨Nat.le_of_ble_eq_true rfl, Nat.le_of_ble_eq_true rfl⟩ (trivial) hl.1 rfl (Nat.le_of_ble_eq_true rfl) ⟨Nat.le_of_ble_eq_true rfl, Nat.le_of_ble_eq_true rfl⟩ dX3_digest_159 ?_
                            refine zn_ald C hP 2 rfl (by omega) (Nat.le_of_ble_eq_true rfl) dX3_digest_162 ?_
                            rw [show (9 * (12 * i + r) + k) / 108 = i by omega, show (9 * (12 * i + r) + k) % 108 / 9 = r by omega, show (9 * (12 * i + r) + k) % 9 = k by omega]
                            refine lv_i2l hx hb dX3_digest_163 rfl ?_
                            refine lv_ladd hx hb dX3_digest_164 ?_
                            refine lv_lstore_n (lv' := [(1, .long (((zHs (zHs2 (zHs (zHs (zDms K σ (zHs 631 (zCnt K σ) 10) i) (zTold K σ i) 11) (zkC K i) (zWd σ i)) (zkN K i) (zWd σ i) r) (zkN K i r) k) * 31) + ((zkN K i r k).toInt64))), (5, .int (nI k)), (4, .int (nI r)), (3, .int (nI i)), (0, .ref (a 0))]) hx hb dX3_digest_165 rfl hl (by decide) rfl (fun ls hl => ?_)
                            refine lv_iinc (v := nI (k + 1)) (lv' := [(5, .int (nI (k + 1))), (1, .long (((zHs (zHs2 (zHs (zHs (zDms K σ (zHs 631 (zCnt K σ) 10) i) (zTold K σ i) 11) (zkC K i) (zWd σ i)) (zkN K i) (zWd σ i) r) (zkN K i r) k) * 31) + ((zkN K i r k).toInt64))), (4, .int (nI r)), (3, .int (nI i)), (0, .ref (a 0))]) hx hb dX3_digest_166 hl (k := 1) rfl (nI_1 _) (by decide) rfl (fun ls hl => ?_)
                            refine lv_goto (tgt := 134) hx hb dX3_digest_169 (by decide) ?_
                            exact ih4 (k + 1) (by omega) (by omega) ls (lv_sub hl [0, 1, 2, 3, 4] rfl)
                      exact loopk (zWd σ i + 1) 0 (by omega) (by omega) ls (lv_sub hl [0, 2, 1, 3, 4] rfl)
                have loopc : ∀ (n5 : Nat) (k : Nat), (k ≤ zWd σ i) → (zWd σ i + 1 ≤ k + n5) → ∀ (ls : Array Slot), lv_has ls 6 [(4, .int (nI k)), (1, .long (zHs (zHs (zDms K σ (zHs 631 (zCnt K σ) 10) i) (zTold K σ i) 11) (zkC K i) k)), (3, .int (nI i)), (0, .ref (a 0))] → W p l e (zRm 3 0 0) s m av below meth c H locs 0 0 (MQ below (zRW (some (.long (zHs (zDps σ (zDms K σ (zHs 631 (zCnt K σ) 10) (zkM K)) (zkP K)) (σ 21) q))) (zMP G a (nI 0) K σ) (zA a 8)) av s 0 0 (zA a 8)) (F0 m 80 ls []) := by
                  intro n5
                  induction n5 with
                  | zero =>
                    intro k h5 h6
                    exact absurd (And.intro h5 h6) (by omega)
                  | succ n5 ih5 =>
                    intro k h5 h6 ls hl
                    refine lv_iload hx hb dX3_digest_80 (lv_at hl 0 rfl) ?_
                    refine lv_aload_n hx hb dX3_digest_82 rfl (lv_at hl 3 rfl) ?_
                    refine lv_iload_n hx hb dX3_digest_83 rfl (lv_at hl 2 rfl) ?_
                    refine lv_iconst (v := nI 1) hx hb dX3_digest_84 (by decide) ?_
                    refine zcV1 (As := [.int (nI i), .int (nI 1)]) (rest := [.int (nI k)]) C (mo_ma l G a (nI 0) K σ i 1 (nI (zWd σ i)) (by omega) (by omega) hT.2.2.2.2.2.1) (lw_V q884 q886 qs17 q48 q887) hdX3_ma ⟨Nat.le_of_ble_eq_true rfl, Nat.le_of_ble_eq_true rfl⟩ (zrM hE hP) (hP) hl.1 rfl (Nat.le_of_ble_eq_true rfl) ⟨Nat.le_of_ble_eq_true rfl, Nat.le_of_ble_eq_true rfl⟩ dX3_digest_85 ?_
                    refine zn_ge (tgt := 117) C (by omega) (by omega) dX3_digest_88 (by decide) (fun c_10 => ?_) (fun c_10 => ?_)
                    · have hk9 : k = zWd σ i := by omega
                      subst hk9
                      refine lv_iconst (v := nI 0) hx hb dX3_digest_117 (by decide) ?_
                      refine lv_istore (lv' := [(4, .int (nI 0)), (1, .long (zHs (zHs (zDms K σ (zHs 631 (zCnt K σ) 10) i) (zTold K σ i) 11) (zkC K i) (zWd σ i))), (3, .int (nI i)), (0, .ref (a 0))]) hx hb dX3_digest_118 hl (by decide) rfl (fun ls hl => ?_)
                      exact loopr (zDp σ i + 1) 0 (by omega) (by omega) ls (lv_sub hl [0, 1, 2, 3] rfl)
                    · refine lv_lload_n hx hb dX3_digest_91 rfl (lv_at hl 1 rfl) ?_
                      refine lv_ldc2 hx hb hown (hts _ q1075) dX3_digest_92 ?_
                      refine lv_lmul hx hb dX3_digest_95 ?_
                      refine lv_aload_n hx hb dX3_digest_96 rfl (lv_at hl 3 rfl) ?_
                      refine zgM C hP 4 (by decide) q814 rfl rfl dX3_digest_97 ?_
                      refine lv_bipush (v := nI 9) hx hb dX3_digest_100 (by decide) ?_
                      refine lv_iload_n hx hb dX3_digest_102 rfl (lv_at hl 2 rfl) ?_
                      refine zn_mul C dX3_digest_103 ?_
                      refine lv_iload hx hb dX3_digest_104 (lv_at hl 0 rfl) ?_
                      refine zn_add C dX3_digest_106 ?_
                      refine zn_ald C hP 1 rfl (by omega) (Nat.le_of_ble_eq_true rfl) dX3_digest_107 ?_
                      rw [show (9 * i + k) / 9 = i by omega, show (9 * i + k) % 9 = k by omega]
                      refine lv_i2l hx hb dX3_digest_108 rfl ?_
                      refine lv_ladd hx hb dX3_digest_109 ?_
                      refine lv_lstore_n (lv' := [(1, .long (((zHs (zHs (zDms K σ (zHs 631 (zCnt K σ) 10) i) (zTold K σ i) 11) (zkC K i) k) * 31) + ((zkC K i k).toInt64))), (4, .int (nI k)), (3, .int (nI i)), (0, .ref (a 0))]) hx hb dX3_digest_110 rfl hl (by decide) rfl (fun ls hl => ?_)
                      refine lv_iinc (v := nI (k + 1)) (lv' := [(4, .int (nI (k + 1))), (1, .long (((zHs (zHs (zDms K σ (zHs 631 (zCnt K σ) 10) i) (zTold K σ i) 11) (zkC K i) k) * 31) + ((zkC K i k).toInt64))), (3, .int (nI i)), (0, .ref (a 0))]) hx hb dX3_digest_111 hl (k := 1) rfl (nI_1 _) (by decide) rfl (fun ls hl => ?_)
                      refine lv_goto (tgt := 80) hx hb dX3_digest_114 (by decide) ?_
                      exact ih5 (k + 1) (by omega) (by omega) ls (lv_sub hl [0, 1, 2, 3] rfl)
                exact loopc (zWd σ i + 1) 0 (by omega) (by omega) ls (lv_sub hl [0, 1, 2, 3] rfl)
              · have h0 : ¬ σ 0 i = 0 := by rw [hPs.1]; decide
                have eM : zDms K σ (zHs 631 (zCnt K σ) 10) (i + 1) = zHs (zHs (zDms K σ (zHs 631 (zCnt K σ) 10) i) (zTold K σ i) 11) (fun j => σ 20 (5 * i + j)) 5 := by show zDm K σ _ i = _; unfold zDm; rw [if_neg h0]
                refine lv_iload hx hb dX3_digest_80 (lv_at hl 0 rfl) ?_
                refine lv_aload_n hx hb dX3_digest_82 rfl (lv_at hl 3 rfl) ?_
                refine lv_iload_n hx hb dX3_digest_83 rfl (lv_at hl 2 rfl) ?_
                refine lv_iconst (v := nI 1) hx hb dX3_digest_84 (by decide) ?_
                refine zcV1 (As := [.int (nI i), .int (nI 1)]) (rest := [.int (nI 0)]) C (mo_ma l G a (nI 0) K σ i 1 (nI 0) (by omega) (by omega) hPs.2.1) (lw_V q884 q886 qs17 q48 q887) hdX3_ma ⟨Nat.le_of_ble_eq_true rfl, Nat.le_of_ble_eq_true rfl⟩ (zrM hE hP) (hP) hl.1 rfl (Nat.le_of_ble_eq_true rfl) ⟨Nat.le_of_ble_eq_true rfl, Nat.le_of_ble_eq_true rfl⟩ dX3_digest_85 ?_
                refine zn_ge (tgt := 117) C (by decide) (by decide) dX3_digest_88 (by decide) (fun c_11 => ?_) (fun c_11 => ?_)
                · refine lv_iconst (v := nI 0) hx hb dX3_digest_117 (by decide) ?_
                  refine lv_istore (lv' := [(4, .int (nI 0)), (1, .long (zHs (zDms K σ (zHs 631 (zCnt K σ) 10) i) (zTold K σ i) 11)), (3, .int (nI i)), (0, .ref (a 0))]) hx hb dX3_digest_118 hl (by decide) rfl (fun ls hl => ?_)
                  refine lv_iload hx hb dX3_digest_120 (lv_at hl 0 rfl) ?_
                  refine lv_aload_n hx hb dX3_digest_122 rfl (lv_at hl 3 rfl) ?_
                  refine lv_iload_n hx hb dX3_digest_123 rfl (lv_at hl 2 rfl) ?_
                  refine lv_iconst (v := nI 2) hx hb dX3_digest_124 (by decide) ?_
                  refine zcV1 (As := [.int (nI i), .int (nI 2)]) (rest := [.int (nI 0)]) C (mo_ma l G a (nI 0) K σ i 2 (nI 0) (by omega) (by omega) hPs.2.2) (lw_V q884 q886 qs17 q48 q887) hdX3_ma ⟨Nat.le_of_ble_eq_true rfl, Nat.le_of_ble_eq_true rfl⟩ (zrM hE hP) (hP) hl.1 rfl (Nat.le_of_ble_eq_true rfl) ⟨Nat.le_of_ble_eq_true rfl, Nat.le_of_ble_eq_true rfl⟩ dX3_digest_125 ?_
                  refine zn_ge (tgt := 178) C (by decide) (by decide) dX3_digest_128 (by decide) (fun c_12 => ?_) (fun c_12 => ?_)
                  · refine lv_iconst (v := nI 0) hx hb dX3_digest_178 (by decide) ?_
                    refine lv_istore (lv' := [(4, .int (nI 0)), (1, .long (zHs (zDms K σ (zHs 631 (zCnt K σ) 10) i) (zTold K σ i) 11)), (3, .int (nI i)), (0, .ref (a 0))]) hx hb dX3_digest_179 hl (by decide) rfl (fun ls hl => ?_)
                    have loopp : ∀ (n6 : Nat) (k : Nat), (k ≤ 5) → (6 ≤ k + n6) → ∀ (ls : Array Slot), lv_has ls 6 [(4, .int (nI k)), (1, .long (zHs (zHs (zDms K σ (zHs 631 (zCnt K σ) 10) i) (zTold K σ i) 11) (fun j => σ 20 (5 * i + j)) k)), (3, .int (nI i)), (0, .ref (a 0))] → W p l e (zRm 3 0 0) s m av below meth c H locs 0 0 (MQ below (zRW (some (.long (zHs (zDps σ (zDms K σ (zHs 631 (zCnt K σ) 10) (zkM K)) (zkP K)) (σ 21) q))) (zMP G a (nI 0) K σ) (zA a 8)) av s 0 0 (zA a 8)) (F0 m 181 ls []) := by
                      intro n6
                      induction n6 with
                      | zero =>
                        intro k h5 h6
                        exact absurd (And.intro h5 h6) (by omega)
                      | succ n6 ih6 =>
                        intro k h5 h6 ls hl
                        refine lv_iload hx hb dX3_digest_181 (lv_at hl 0 rfl) ?_
                        refine lv_iconst (v := nI 5) hx hb dX3_digest_183 (by decide) ?_
                        refine zn_ge (tgt := 220) C (by omega) (by omega) dX3_digest_184 (by decide) (fun c_13 => ?_) (fun c_13 => ?_)
                        · have hk9 : k = 5 := by omega
                          subst hk9
                          refine lv_iinc (v := nI (i + 1)) (lv' := [(3, .int (nI (i + 1))), (4, .int (nI 5)), (1, .long (zHs (zHs (zDms K σ (zHs 631 (zCnt K σ) 10) i) (zTold K σ i) 11) (fun j => σ 20 (5 * i + j)) 5)), (0, .ref (a 0))]) hx hb dX3_digest_220 hl (k := 2) rfl (nI_1 _) (by decide) rfl (fun ls hl => ?_)
                          refine lv_goto (tgt := 38) hx hb dX3_digest_223 (by decide) ?_
                          exact ih (i + 1) (by omega) (by omega) ls (by rw [eM]; exact (lv_sub hl [0, 2, 3] rfl))
                        · refine lv_aload_n hx hb dX3_digest_187 rfl (lv_at hl 3 rfl) ?_
                          refine lv_iload_n hx hb dX3_digest_188 rfl (lv_at hl 2 rfl) ?_
                          refine zcV1 (As := [.int (nI i)]) (rest := []) C (mo_isTable l G a (nI 0) K σ i (by omega)) (lw_V q880 q882 qs16 q48 q883) hdX3_isTable ⟨Nat.le_of_ble_eq_true rfl, Nat.le_of_ble_eq_true rfl⟩ (zrM hE hP) (hP) hl.1 rfl (Nat.le_of_ble_eq_true rfl) ⟨Nat.le_of_ble_eq_true rfl, Nat.le_of_ble_eq_true rfl⟩ dX3_digest_189 ?_
                          refine zb_ifn (σ 0 i = 0) (tgt := 220) C rfl dX3_digest_192 (by decide) (fun c_14 => ?_) (fun c_14 => ?_)
                          · exact absurd c_14 h0
                          · refine lv_lload_n hx hb dX3_digest_195 rfl (lv_at hl 1 rfl) ?_
                            refine lv_ldc2 hx hb hown (hts _ q1075) dX3_digest_196 ?_
                            refine lv_lmul hx hb dX3_digest_199 ?_
                            refine lv_aload_n hx hb dX3_digest_200 rfl (lv_at hl 3 rfl) ?_
                            refine zgM C hP 7 (by decide) q817 rfl rfl dX3_digest_201 ?_
                            refine lv_iconst (v := nI 5) hx hb dX3_digest_204 (by decide) ?_
                            refine lv_iload_n hx hb dX3_digest_205 rfl (lv_at hl 2 rfl) ?_
                            refine zn_mul C dX3_digest_206 ?_
                            refine lv_iload hx hb dX3_digest_207 (lv_at hl 0 rfl) ?_
                            refine zn_add C dX3_digest_209 ?_
                            refine zn_ald C hP 4 rfl (by omega) (Nat.le_of_ble_eq_true rfl) dX3_digest_210 ?_
                            refine lv_i2l hx hb dX3_digest_211 rfl ?_
                            refine lv_ladd hx hb dX3_digest_212 ?_
                            refine lv_lstore_n (lv' := [(1, .long (((zHs (zHs (zDms K σ (zHs 631 (zCnt K σ) 10) i) (zTold K σ i) 11) (fun j => σ 20 (5 * i + j)) k) * 31) + ((σ 20 (5 * i + k)).toInt64))), (4, .int (nI k)), (3, .int (nI i)), (0, .ref (a 0))]) hx hb dX3_digest_213 rfl hl (by decide) rfl (fun ls hl => ?_)
                            refine lv_iinc (v := nI (k + 1)) (lv' := [(4, .int (nI (k + 1))), (1, .long (((zHs (zHs (zDms K σ (zHs 631 (zCnt K σ) 10) i) (zTold K σ i) 11) (fun j => σ 20 (5 * i + j)) k) * 31) + ((σ 20 (5 * i + k)).toInt64))), (3, .int (nI i)), (0, .ref (a 0))]) hx hb dX3_digest_214 hl (k := 1) rfl (nI_1 _) (by decide) rfl (fun ls hl => ?_)
                            refine lv_goto (tgt := 181) hx hb dX3_digest_217 (by decide) ?_
                            exact ih6 (k + 1) (by omega) (by omega) ls (lv_sub hl [0, 1, 2, 3] rfl)
                    exact loopp 6 0 (by omega) (by omega) ls (lv_sub hl [0, 1, 2, 3] rfl)
                  · exact absurd c_12 (by decide)
                · exact absurd c_11 (by decide)
            · refine lv_lload_n hx hb dX3_digest_56 rfl (lv_at hl 1 rfl) ?_
              refine lv_ldc2 hx hb hown (hts _ q1075) dX3_digest_57 ?_
              refine lv_lmul hx hb dX3_digest_60 ?_
              refine lv_aload_n hx hb dX3_digest_61 rfl (lv_at hl 3 rfl) ?_
              refine lv_iload_n hx hb dX3_digest_62 rfl (lv_at hl 2 rfl) ?_
              refine lv_iload hx hb dX3_digest_63 (lv_at hl 0 rfl) ?_
              refine zcV1 (As := [.int (nI i), .int (nI w)]) (rest := [.long ((zHs (zDms K σ (zHs 631 (zCnt K σ) 10) i) (zTold K σ i) w) * 31)]) C (mo_machineTold l G a (nI 0) K σ i w (by omega) (by omega) hP10) (lw_V q899 q901 qs18 q48 q902) hdX3_machineTold ⟨Nat.le_of_ble_eq_true rfl, Nat.le_of_ble_eq_true rfl⟩ (zrM hE hP) (hP) hl.1 rfl (Nat.le_of_ble_eq_true rfl) ⟨Nat.le_of_ble_eq_true rfl, Nat.le_of_ble_eq_true rfl⟩ dX3_digest_65 ?_
              refine lv_i2l hx hb dX3_digest_68 rfl ?_
              refine lv_ladd hx hb dX3_digest_69 ?_
              refine lv_lstore_n (lv' := [(1, .long (((zHs (zDms K σ (zHs 631 (zCnt K σ) 10) i) (zTold K σ i) w) * 31) + ((zTold K σ i w).toInt64))), (4, .int (nI w)), (3, .int (nI i)), (0, .ref (a 0))]) hx hb dX3_digest_70 rfl hl (by decide) rfl (fun ls hl => ?_)
              refine lv_iinc (v := nI (w + 1)) (lv' := [(4, .int (nI (w + 1))), (1, .long (((zHs (zDms K σ (zHs 631 (zCnt K σ) 10) i) (zTold K σ i) w) * 31) + ((zTold K σ i w).toInt64))), (3, .int (nI i)), (0, .ref (a 0))]) hx hb dX3_digest_71 hl (k := 1) rfl (nI_1 _) (by decide) rfl (fun ls hl => ?_)
              refine lv_goto (tgt := 49) hx hb dX3_digest_74 (by decide) ?_
              exact ih2 (w + 1) (by omega) (by omega) ls (lv_sub hl [0, 1, 2, 3] rfl)
        exact loopi 12 0 (by omega) (by omega) ls (lv_sub hl [0, 2, 1, 3] rfl)
  have loop1 : ∀ (n : Nat) (w : Nat), (w ≤ 10) → (11 ≤ w + n) → ∀ (ls : Array Slot), lv_has ls 6 [(3, .int (nI w)), (1, .long (zHs 631 (zCnt K σ) w)), (0, .ref (a 0))] → W p l e (zRm 3 0 0) s m av below meth c H locs 0 0 (MQ below (zRW (some (.long (zHs (zDps σ (zDms K σ (zHs 631 (zCnt K σ) 10) (zkM K)) (zkP K)) (σ 21) q))) (zMP G a (nI 0) K σ) (zA a 8)) av s 0 0 (zA a 8)) (F0 m 11 ls []) := by
    intro n
    induction n with
    | zero =>
      intro w h1 h2
      exact absurd (And.intro h1 h2) (by omega)
    | succ n ih =>
      intro w h1 h2 ls hl
      refine lv_iload_n hx hb dX3_digest_11 rfl (lv_at hl 0 rfl) ?_
      refine lv_bipush (v := nI 10) hx hb dX3_digest_12 (by decide) ?_
      refine zn_ge (tgt := 36) C (by omega) (by omega) dX3_digest_14 (by decide) (fun c_15 => ?_) (fun c_15 => ?_)
      · have hk9 : w = 10 := by omega
        subst hk9
        refine lv_iconst (v := nI 0) hx hb dX3_digest_36 (by decide) ?_
        refine lv_istore_n (lv' := [(3, .int (nI 0)), (1, .long (zHs 631 (zCnt K σ) 10)), (0, .ref (a 0))]) hx hb dX3_digest_37 rfl hl (by decide) rfl (fun ls hl => ?_)
        exact loop2 (zkM K + 1) 0 (by omega) (by omega) ls (lv_sub hl [0, 1, 2] rfl)
      · refine lv_lload_n hx hb dX3_digest_17 rfl (lv_at hl 1 rfl) ?_
        refine lv_ldc2 hx hb hown (hts _ q1075) dX3_digest_18 ?_
        refine lv_lmul hx hb dX3_digest_21 ?_
        refine lv_aload_n hx hb dX3_digest_22 rfl (lv_at hl 2 rfl) ?_
        refine lv_iload_n hx hb dX3_digest_23 rfl (lv_at hl 0 rfl) ?_
        refine zcV1 (As := [.int (nI w)]) (rest := [.long ((zHs 631 (zCnt K σ) w) * 31)]) C (mo_counted l G a (nI 0) K σ w (by omega) hM8 hP10) (lw_V q1030 q1032 qs37 q48 q1033) hdX3_counted ⟨Nat.le_of_ble_eq_true rfl, Nat.le_of_ble_eq_true rfl⟩ (zrM hE hP) (hP) hl.1 rfl (Nat.le_of_ble_eq_true rfl) ⟨Nat.le_of_ble_eq_true rfl, Nat.le_of_ble_eq_true rfl⟩ dX3_digest_24 ?_
        refine lv_i2l hx hb dX3_digest_27 rfl ?_
        refine lv_ladd hx hb dX3_digest_28 ?_
        refine lv_lstore_n (lv' := [(1, .long (((zHs 631 (zCnt K σ) w) * 31) + ((zCnt K σ w).toInt64))), (3, .int (nI w)), (0, .ref (a 0))]) hx hb dX3_digest_29 rfl hl (by decide) rfl (fun ls hl => ?_)
        refine lv_iinc (v := nI (w + 1)) (lv' := [(3, .int (nI (w + 1))), (1, .long (((zHs 631 (zCnt K σ) w) * 31) + ((zCnt K σ w).toInt64))), (0, .ref (a 0))]) hx hb dX3_digest_30 hl (k := 1) rfl (nI_1 _) (by decide) rfl (fun ls hl => ?_)
        refine lv_goto (tgt := 11) hx hb dX3_digest_33 (by decide) ?_
        exact ih (w + 1) (by omega) (by omega) ls (lv_sub hl [0, 1, 2] rfl)
  exact loop1 11 0 (by omega) (by omega) ls (lv_sub hl [0, 1, 2] rfl)

/-! the model: a token played (printed by gen/m19.py) -/
set_option maxRecDepth 100000
set_option maxHeartbeats 4000000 in
theorem mo_push (l : Launch) (G : zG) (a : Nat → Nat) (th : Int32) (K : zKt) (σ : zSt) (hI : zInj a 8) (i : Nat) (hi : i < 8) : zMrw l yX3_push cX3_push 5 (some .int) 1 0 0 G [.ref (a 0), .int (nI i)] (zMP G a th K σ) (some (.int (zPush σ i).2)) (zMP G a th K (zPush σ i).1) (zA a 8) := by
  refine zMk [(0, .ref (a 0)), (1, .int (nI i))] (by decide) (Nat.le_of_ble_eq_true rfl) rfl ?_
  intro p e s m below meth c ls C hP hl _
  generalize ([.ref (a 0), .int (nI i)] : List Value).toArray = av at C ⊢
  have hx := C.1
  have hb := C.2.1
  have hml := C.2.2.1
  have hown := C.2.2.2.1
  have hts := C.2.2.2.2.1
  have hE := C.2.2.2.2.2.2.2
  have hS : va_S (zA a 8) s.heap s.heap [] := va_S.rf
  refine lv_iconst (v := nI 0) hx hb dX3_push_0 (by decide) ?_
  refine lv_istore_n (lv' := [(2, .int (nI 0)), (0, .ref (a 0)), (1, .int (nI i))]) hx hb dX3_push_1 rfl hl (by decide) rfl (fun ls hl => ?_)
  refine lv_aload_n hx hb dX3_push_2 rfl (lv_at hl 1 rfl) ?_
  refine zgM C hP 7 (by decide) q817 rfl rfl dX3_push_3 ?_
  refine lv_iconst (v := nI 5) hx hb dX3_push_6 (by decide) ?_
  refine lv_iload_n hx hb dX3_push_7 rfl (lv_at hl 2 rfl) ?_
  refine zn_mul C dX3_push_8 ?_
  refine lv_dup2_11 hx hb dX3_push_9 rfl rfl ?_
  refine zn_ald C hP 4 rfl (by omega) (Nat.le_of_ble_eq_true rfl) dX3_push_10 ?_
  refine lv_iconst (v := nI 1) hx hb dX3_push_11 (by decide) ?_
  refine lv_iadd hx hb dX3_push_12 ?_
  refine zn_ast C hP (zM_D hI (fun _ h => h)) hS 4 rfl (by omega) (Nat.le_of_ble_eq_true rfl) dX3_push_13 (fun H locs hP hS => ?_)
  rw [zM_lg] at hP
  have hP : zMP G a th K (zup σ 20 (5 * i) ((σ 20 (5 * i)) + (nI 1))) H := hP
  refine lv_iconst (v := nI 0) hx hb dX3_push_14 (by decide) ?_
  refine lv_istore_n (lv' := [(3, .int (nI 0)), (2, .int (nI 0)), (0, .ref (a 0)), (1, .int (nI i))]) hx hb dX3_push_15 rfl hl (by decide) rfl (fun ls hl => ?_)
  have zx3 : ∀ {k : Nat}, (zPsR (σ 3 i) i (zup σ 20 (5 * i) (σ 20 (5 * i) + nI 1), nI 0) k).1 3 i = σ 3 i := fun {k} => by rw [zPsR_k (by decide)]; simp [zup]
  have loop : ∀ (n : Nat) (k : Nat), (k ≤ 5) → (6 ≤ k + n) → ∀ (H : Heap) (locs : List Loc), zMP G a th K (zPsR (σ 3 i) i (zup σ 20 (5 * i) (σ 20 (5 * i) + nI 1), nI 0) k).1 H → va_S (zA a 8) s.heap H locs → ∀ (ls : Array Slot), lv_has ls 5 [(3, .int (nI k)), (2, .int ((zPsR (σ 3 i) i (zup σ 20 (5 * i) (σ 20 (5 * i) + nI 1), nI 0) k).2)), (0, .ref (a 0)), (1, .int (nI i))] → W p l e (zRm 1 0 0) s m av below meth c H locs 0 0 (MQ below (zRW (some (.int (zPush σ i).2)) (zMP G a th K (zPush σ i).1) (zA a 8)) av s 0 0 (zA a 8)) (F0 m 16 ls []) := by
    intro n
    induction n with
    | zero =>
      intro k h1 h2
      exact absurd (And.intro h1 h2) (by omega)
    | succ n ih =>
      intro k h1 h2 H locs hP hS ls hl
      generalize hX : zPsR (σ 3 i) i (zup σ 20 (5 * i) (σ 20 (5 * i) + nI 1), nI 0) k = x at hP hl
      refine lv_iload_n hx hb dX3_push_16 rfl (lv_at hl 0 rfl) ?_
      refine lv_iconst (v := nI 5) hx hb dX3_push_17 (by decide) ?_
      refine zn_ge (tgt := 102) C (by omega) (by omega) dX3_push_18 (by decide) (fun c_1 => ?_) (fun c_1 => ?_)
      · have hk : k = 5 := by omega
        subst hk
        refine lv_iload_n hx hb dX3_push_102 rfl (lv_at hl 1 rfl) ?_
        exact zw_iretE C (by rw [← hX]; rfl) (by rw [← hX] at hP; exact hP) hS dX3_push_103
      · refine lv_aload_n hx hb dX3_push_21 rfl (lv_at hl 2 rfl) ?_
        refine zgM C hP 7 (by decide) q817 rfl rfl dX3_push_22 ?_
        refine lv_iconst (v := nI 5) hx hb dX3_push_25 (by decide) ?_
        refine lv_iload_n hx hb dX3_push_26 rfl (lv_at hl 3 rfl) ?_
        refine zn_mul C dX3_push_27 ?_
        refine lv_iload_n hx hb dX3_push_28 rfl (lv_at hl 0 rfl) ?_
        refine zn_add C dX3_push_29 ?_
        refine zn_ald C hP 4 rfl (by omega) (Nat.le_of_ble_eq_true rfl) dX3_push_30 ?_
        refine lv_istore (lv' := [(4, .int (x.1 20 (5 * i + k))), (3, .int (nI k)), (2, .int x.2), (0, .ref (a 0)), (1, .int (nI i))]) hx hb dX3_push_31 hl (by decide) rfl (fun ls hl => ?_)
        refine lv_iload hx hb dX3_push_33 (lv_at hl 0 rfl) ?_
        refine lv_aload_n hx hb dX3_push_35 rfl (lv_at hl 3 rfl) ?_
        refine lv_iload_n hx hb dX3_push_36 rfl (lv_at hl 4 rfl) ?_
        refine lv_iconst (v := nI 3) hx hb dX3_push_37 (by decide) ?_
        refine zcV1 (As := [.int (nI i), .int (nI 3)]) (rest := [.int (x.1 20 (5 * i + k))]) C (mo_ma l G a th K x.1 i 3 (σ 3 i) (by omega) (by omega) (by rw [← hX]; exact zx3)) (lw_V q884 q886 qs17 q48 q887) hdX3_ma ⟨Nat.le_of_ble_eq_true rfl, Nat.le_of_ble_eq_true rfl⟩ (zrM hE hP) (hP) hl.1 rfl (Nat.le_of_ble_eq_true rfl) ⟨Nat.le_of_ble_eq_true rfl, Nat.le_of_ble_eq_true rfl⟩ dX3_push_38 ?_
        refine lv_icmp_gt (tgt := 47) hx hb dX3_push_41 (by decide) (fun c_2 => ?_) (fun c_2 => ?_)
        · refine lv_aload_n hx hb dX3_push_47 rfl (lv_at hl 3 rfl) ?_
          refine zgM C hP 7 (by decide) q817 rfl rfl dX3_push_48 ?_
          refine lv_iconst (v := nI 5) hx hb dX3_push_51 (by decide) ?_
          refine lv_iload_n hx hb dX3_push_52 rfl (lv_at hl 4 rfl) ?_
          refine zn_mul C dX3_push_53 ?_
          refine lv_iload_n hx hb dX3_push_54 rfl (lv_at hl 1 rfl) ?_
          refine zn_add C dX3_push_55 ?_
          refine lv_dup2_11 hx hb dX3_push_56 rfl rfl ?_
          refine zn_ald C hP 4 rfl (by omega) (Nat.le_of_ble_eq_true rfl) dX3_push_57 ?_
          refine lv_iload hx hb dX3_push_58 (lv_at hl 0 rfl) ?_
          refine lv_iconst (v := nI 2) hx hb dX3_push_60 (by decide) ?_
          refine lv_idiv hx hb dX3_push_61 (by decide) ?_
          refine lv_isub hx hb dX3_push_62 ?_
          refine zn_ast C hP (zM_D hI (fun _ h => h)) hS 4 rfl (by omega) (Nat.le_of_ble_eq_true rfl) dX3_push_63 (fun H locs hP hS => ?_)
          rw [zM_lg] at hP
          have hP : zMP G a th K (zup x.1 20 ((5 * i) + k) ((x.1 20 (5 * i + k)) - ((x.1 20 (5 * i + k)) / (nI 2)))) H := hP
          refine lv_iload_n hx hb dX3_push_64 rfl (lv_at hl 1 rfl) ?_
          refine lv_iconst (v := nI 4) hx hb dX3_push_65 (by decide) ?_
          refine zn_ne (tgt := 77) C (by omega) (by omega) dX3_push_66 (by decide) (fun c_3 => ?_) (fun c_3 => ?_)
          · refine lv_aload_n hx hb dX3_push_77 rfl (lv_at hl 3 rfl) ?_
            refine zgM C hP 7 (by decide) q817 rfl rfl dX3_push_78 ?_
            refine lv_iconst (v := nI 5) hx hb dX3_push_81 (by decide) ?_
            refine lv_iload_n hx hb dX3_push_82 rfl (lv_at hl 4 rfl) ?_
            refine zn_mul C dX3_push_83 ?_
            refine lv_iload_n hx hb dX3_push_84 rfl (lv_at hl 1 rfl) ?_
            refine zn_add C dX3_push_85 ?_
            refine lv_iconst (v := nI 1) hx hb dX3_push_86 (by decide) ?_
            refine zn_add C dX3_push_87 ?_
            refine lv_dup2_11 hx hb dX3_push_88 rfl rfl ?_
            refine zn_ald C hP 4 rfl (by omega) (Nat.le_of_ble_eq_true rfl) dX3_push_89 ?_
            refine lv_iload hx hb dX3_push_90 (lv_at hl 0 rfl) ?_
            refine lv_iconst (v := nI 2) hx hb dX3_push_92 (by decide) ?_
            refine lv_idiv hx hb dX3_push_93 (by decide) ?_
            refine lv_iadd hx hb dX3_push_94 ?_
            refine zn_ast C hP (zM_D hI (fun _ h => h)) hS 4 rfl (by omega) (Nat.le_of_ble_eq_true rfl) dX3_push_95 (fun H locs hP hS => ?_)
            rw [zM_lg] at hP
            have hP : zMP G a th K (zup (zup x.1 20 ((5 * i) + k) ((x.1 20 (5 * i + k)) - ((x.1 20 (5 * i + k)) / (nI 2)))) 20 (((5 * i) + k) + 1) (((zup x.1 20 ((5 * i) + k) ((x.1 20 (5 * i + k)) - ((x.1 20 (5 * i + k)) / (nI 2)))) 20 (5 * i + k + 1)) + ((x.1 20 (5 * i + k)) / (nI 2)))) H := hP
            refine lv_iinc (v := nI (k + 1)) (lv' := [(3, .int (nI (k + 1))), (4, .int (x.1 20 (5 * i + k))), (2, .int x.2), (0, .ref (a 0)), (1, .int (nI i))]) hx hb dX3_push_96 hl (k := 1) rfl (nI_1 _) (by decide) rfl (fun ls hl => ?_)
            refine lv_goto (tgt := 16) hx hb dX3_push_99 (by decide) ?_
            have e9 : zPsR (σ 3 i) i (zup σ 20 (5 * i) (σ 20 (5 * i) + nI 1), nI 0) (k + 1) = (zup (zup x.1 20 ((5 * i) + k) ((x.1 20 (5 * i + k)) - ((x.1 20 (5 * i + k)) / (nI 2)))) 20 (((5 * i) + k) + 1) (((zup x.1 20 ((5 * i) + k) ((x.1 20 (5 * i + k)) - ((x.1 20 (5 * i + k)) / (nI 2)))) 20 (5 * i + k + 1)) + ((x.1 20 (5 * i + k)) / (nI 2))), x.2) := by show zPs _ _ _ (zPsR (σ 3 i) i (zup σ 20 (5 * i) (σ 20 (5 * i) + nI 1), nI 0) k) = _; rw [hX]; unfold zPs; rw [if_neg (Int32.not_le.mpr c_2), if_neg c_3]
            exact ih (k + 1) (by omega) (by omega) H locs (by rw [e9]; exact hP) hS ls (by rw [e9]; exact (lv_sub hl [0, 2, 3, 4] rfl))
          · refine lv_iload hx hb dX3_push_69 (lv_at hl 0 rfl) ?_
            refine lv_iconst (v := nI 2) hx hb dX3_push_71 (by decide) ?_
            refine lv_idiv hx hb dX3_push_72 (by decide) ?_
            refine lv_istore_n (lv' := [(2, .int ((x.1 20 (5 * i + k)) / (nI 2))), (4, .int (x.1 20 (5 * i + k))), (3, .int (nI k)), (0, .ref (a 0)), (1, .int (nI i))]) hx hb dX3_push_73 rfl hl (by decide) rfl (fun ls hl => ?_)
            refine lv_goto (tgt := 96) hx hb dX3_push_74 (by decide) ?_
            refine lv_iinc (v := nI (k + 1)) (lv' := [(3, .int (nI (k + 1))), (2, .int ((x.1 20 (5 * i + k)) / (nI 2))), (4, .int (x.1 20 (5 * i + k))), (0, .ref (a 0)), (1, .int (nI i))]) hx hb dX3_push_96 hl (k := 2) rfl (nI_1 _) (by decide) rfl (fun ls hl => ?_)
            refine lv_goto (tgt := 16) hx hb dX3_push_99 (by decide) ?_
            have e9 : zPsR (σ 3 i) i (zup σ 20 (5 * i) (σ 20 (5 * i) + nI 1), nI 0) (k + 1) = (zup x.1 20 ((5 * i) + k) ((x.1 20 (5 * i + k)) - ((x.1 20 (5 * i + k)) / (nI 2))), (x.1 20 (5 * i + k)) / (nI 2)) := by show zPs _ _ _ (zPsR (σ 3 i) i (zup σ 20 (5 * i) (σ 20 (5 * i) + nI 1), nI 0) k) = _; rw [hX]; unfold zPs; rw [if_neg (Int32.not_le.mpr c_2), if_pos c_3]
            exact ih (k + 1) (by omega) (by omega) H locs (by rw [e9]; exact hP) hS ls (by rw [e9]; exact (lv_sub hl [0, 1, 3, 4] rfl))
        · refine lv_goto (tgt := 96) hx hb dX3_push_44 (by decide) ?_
          refine lv_iinc (v := nI (k + 1)) (lv' := [(3, .int (nI (k + 1))), (4, .int (x.1 20 (5 * i + k))), (2, .int x.2), (0, .ref (a 0)), (1, .int (nI i))]) hx hb dX3_push_96 hl (k := 1) rfl (nI_1 _) (by decide) rfl (fun ls hl => ?_)
          refine lv_goto (tgt := 16) hx hb dX3_push_99 (by decide) ?_
          have e9 : zPsR (σ 3 i) i (zup σ 20 (5 * i) (σ 20 (5 * i) + nI 1), nI 0) (k + 1) = x := by show zPs _ _ _ (zPsR (σ 3 i) i (zup σ 20 (5 * i) (σ 20 (5 * i) + nI 1), nI 0) k) = _; rw [hX]; unfold zPs; rw [if_pos (Int32.not_lt.mp c_2)]
          exact ih (k + 1) (by omega) (by omega) H locs (by rw [e9]; exact hP) hS ls (by rw [e9]; exact (lv_sub hl [0, 2, 3, 4] rfl))
  exact loop 6 0 (by omega) (by omega) H locs hP hS ls (lv_sub hl [0, 1, 2, 3] rfl)
set_option maxHeartbeats 4000000 in
theorem mo_playAt (l : Launch) (G : zG) (a : Nat → Nat) (th : Int32) (K : zKt) (σ : zSt) (hI : zInj a 8) (u i : Nat) (cv tilt : Int32) (col : Nat) (hu : u < 10) (hi : i < 8) (hTP : zTab σ i ∨ zPsh σ i) (hc : zTab σ i → cv = nI col ∧ col < zWd σ i) : zMrw l yX3_playAt cX3_playAt 6 (some .int) 3 0 0 G [.ref (a 0), .int (nI u), .int (nI i), .int cv, .int tilt] (zMP G a th K σ) (some (.int (zPlA K σ u i col tilt).2)) (zMP G a th K (zPlA K σ u i col tilt).1) (zA a 8) := by
  refine zMk [(0, .ref (a 0)), (1, .int (nI u)), (2, .int (nI i)), (3, .int cv), (4, .int tilt)] (by decide) (Nat.le_of_ble_eq_true rfl) rfl ?_
  intro p e s m below meth c ls C hP hl _
  generalize ([.ref (a 0), .int (nI u), .int (nI i), .int cv, .int tilt] : List Value).toArray = av at C ⊢
  have hx := C.1
  have hb := C.2.1
  have hml := C.2.2.1
  have hown := C.2.2.2.1
  have hts := C.2.2.2.2.1
  have hE := C.2.2.2.2.2.2.2
  have hS : va_S (zA a 8) s.heap s.heap [] := va_S.rf
  have join : ∀ (σ1 : zSt) (pay : Int32), zTk K σ i col tilt = (σ1, pay) → ∀ (H : Heap) (locs : List Loc), zMP G a th K σ1 H → va_S (zA a 8) s.heap H locs → ∀ (ls : Array Slot), lv_has ls 6 [(5, .int pay), (0, .ref (a 0)), (1, .int (nI u)), (2, .int (nI i)), (3, .int cv), (4, .int tilt)] → W p l e (zRm 3 0 0) s m av below meth c H locs 0 0 (MQ below (zRW (some (.int (zPlA K σ u i col tilt).2)) (zMP G a th K (zPlA K σ u i col tilt).1) (zA a 8)) av s 0 0 (zA a 8)) (F0 m 66 ls []) := by
    intro σ1 pay hTk H locs hP hS ls hl
    refine lv_aload_n hx hb dX3_playAt_66 rfl (lv_at hl 1 rfl) ?_
    refine lv_iload_n hx hb dX3_playAt_67 rfl (lv_at hl 3 rfl) ?_
    refine lv_bipush (v := nI 7) hx hb dX3_playAt_68 (by decide) ?_
    refine lv_aload_n hx hb dX3_playAt_70 rfl (lv_at hl 1 rfl) ?_
    refine lv_iload_n hx hb dX3_playAt_71 rfl (lv_at hl 3 rfl) ?_
    refine lv_bipush (v := nI 7) hx hb dX3_playAt_72 (by decide) ?_
    refine zcV1 (As := [.int (nI i), .int (nI 7)]) (rest := [.int (nI 7), .int (nI i), .ref (a 0)]) C (mo_ma l G a th K σ1 i 7 (σ1 7 i) (by omega) (by omega) rfl) (lw_V q884 q886 qs17 q48 q887) hdX3_ma ⟨Nat.le_of_ble_eq_true rfl, Nat.le_of_ble_eq_true rfl⟩ (zrM hE hP) (hP) hl.1 rfl (Nat.le_of_ble_eq_true rfl) ⟨Nat.le_of_ble_eq_true rfl, Nat.le_of_ble_eq_true rfl⟩ dX3_playAt_74 ?_
    refine lv_iconst (v := nI 1) hx hb dX3_playAt_77 (by decide) ?_
    refine lv_iadd hx hb dX3_playAt_78 ?_
    refine zwV0 (As := [.int (nI i), .int (nI 7), .int ((σ1 7 i) + (nI 1))]) (rest := []) C (mo_setMa l G a th K σ1 hI i 7 ((σ1 7 i) + (nI 1)) (by omega) (by omega)) (lw_V q974 q976 qs29 q48 q977) hdX3_setMa ⟨Nat.le_of_ble_eq_true rfl, Nat.le_of_ble_eq_true rfl⟩ (zrM hE hP) (hP) hl.1 rfl (Nat.le_of_ble_eq_true rfl) ⟨Nat.le_of_ble_eq_true rfl, Nat.le_of_ble_eq_true rfl⟩ dX3_playAt_79 hS (fun _ h => h) (fun H locs hP _ hS => ?_)
    have hP : zMP G a th K (zF1 σ1 i) H := hP
    generalize e_s2 : zF1 σ1 i = s2 at hP
    refine lv_aload_n hx hb dX3_playAt_82 rfl (lv_at hl 1 rfl) ?_
    refine lv_iload_n hx hb dX3_playAt_83 rfl (lv_at hl 3 rfl) ?_
    refine lv_bipush (v := nI 8) hx hb dX3_playAt_84 (by decide) ?_
    refine lv_aload_n hx hb dX3_playAt_86 rfl (lv_at hl 1 rfl) ?_
    refine lv_iload_n hx hb dX3_playAt_87 rfl (lv_at hl 3 rfl) ?_
    refine lv_bipush (v := nI 8) hx hb dX3_playAt_88 (by decide) ?_
    refine zcV1 (As := [.int (nI i), .int (nI 8)]) (rest := [.int (nI 8), .int (nI i), .ref (a 0)]) C (mo_ma l G a th K s2 i 8 (s2 8 i) (by omega) (by omega) rfl) (lw_V q884 q886 qs17 q48 q887) hdX3_ma ⟨Nat.le_of_ble_eq_true rfl, Nat.le_of_ble_eq_true rfl⟩ (zrM hE hP) (hP) hl.1 rfl (Nat.le_of_ble_eq_true rfl) ⟨Nat.le_of_ble_eq_true rfl, Nat.le_of_ble_eq_true rfl⟩ dX3_playAt_90 ?_
    refine lv_iload hx hb dX3_playAt_93 (lv_at hl 0 rfl) ?_
    refine lv_iadd hx hb dX3_playAt_95 ?_
    refine zwV0 (As := [.int (nI i), .int (nI 8), .int ((s2 8 i) + pay)]) (rest := []) C (mo_setMa l G a th K s2 hI i 8 ((s2 8 i) + pay) (by omega) (by omega)) (lw_V q974 q976 qs29 q48 q977) hdX3_setMa ⟨Nat.le_of_ble_eq_true rfl, Nat.le_of_ble_eq_true rfl⟩ (zrM hE hP) (hP) hl.1 rfl (Nat.le_of_ble_eq_true rfl) ⟨Nat.le_of_ble_eq_true rfl, Nat.le_of_ble_eq_true rfl⟩ dX3_playAt_96 hS (fun _ h => h) (fun H locs hP _ hS => ?_)
    have hP : zMP G a th K (zF2 s2 i pay) H := hP
    generalize e_s3 : zF2 s2 i pay = s3 at hP
    refine lv_aload_n hx hb dX3_playAt_99 rfl (lv_at hl 1 rfl) ?_
    refine lv_iload_n hx hb dX3_playAt_100 rfl (lv_at hl 2 rfl) ?_
    refine lv_iconst (v := nI 0) hx hb dX3_playAt_101 (by decide) ?_
    refine lv_aload_n hx hb dX3_playAt_102 rfl (lv_at hl 1 rfl) ?_
    refine lv_iload_n hx hb dX3_playAt_103 rfl (lv_at hl 2 rfl) ?_
    refine lv_iconst (v := nI 0) hx hb dX3_playAt_104 (by decide) ?_
    refine zcV1 (As := [.int (nI u), .int (nI 0)]) (rest := [.int (nI 0), .int (nI u), .ref (a 0)]) C (mo_pl l G a th K s3 u 0 (s3 10 u) (by omega) (by omega) rfl) (lw_V q903 q905 qs19 q48 q906) hdX3_pl ⟨Nat.le_of_ble_eq_true rfl, Nat.le_of_ble_eq_true rfl⟩ (zrM hE hP) (hP) hl.1 rfl (Nat.le_of_ble_eq_true rfl) ⟨Nat.le_of_ble_eq_true rfl, Nat.le_of_ble_eq_true rfl⟩ dX3_playAt_105 ?_
    refine lv_iconst (v := nI 1) hx hb dX3_playAt_108 (by decide) ?_
    refine lv_isub hx hb dX3_playAt_109 ?_
    refine lv_iload hx hb dX3_playAt_110 (lv_at hl 0 rfl) ?_
    refine lv_iadd hx hb dX3_playAt_112 ?_
    refine zwV0 (As := [.int (nI u), .int (nI 0), .int (((s3 10 u) - (nI 1)) + pay)]) (rest := []) C (mo_setPl l G a th K s3 hI u 0 (((s3 10 u) - (nI 1)) + pay) (by omega) (by omega)) (lw_V q958 q960 qs26 q48 q961) hdX3_setPl ⟨Nat.le_of_ble_eq_true rfl, Nat.le_of_ble_eq_true rfl⟩ (zrM hE hP) (hP) hl.1 rfl (Nat.le_of_ble_eq_true rfl) ⟨Nat.le_of_ble_eq_true rfl, Nat.le_of_ble_eq_true rfl⟩ dX3_playAt_113 hS (fun _ h => h) (fun H locs hP _ hS => ?_)
    have hP : zMP G a th K (zup s3 10 u (((s3 10 u) - (nI 1)) + pay)) H := hP
    have hP : zMP G a th K (zF3 s3 u pay) H := hP
    generalize e_s4 : zF3 s3 u pay = s4 at hP
    refine lv_aload_n hx hb dX3_playAt_116 rfl (lv_at hl 1 rfl) ?_
    refine lv_iload_n hx hb dX3_playAt_117 rfl (lv_at hl 2 rfl) ?_
    refine lv_iconst (v := nI 4) hx hb dX3_playAt_118 (by decide) ?_
    refine lv_aload_n hx hb dX3_playAt_119 rfl (lv_at hl 1 rfl) ?_
    refine lv_iload_n hx hb dX3_playAt_120 rfl (lv_at hl 2 rfl) ?_
    refine lv_iconst (v := nI 4) hx hb dX3_playAt_121 (by decide) ?_
    refine zcV1 (As := [.int (nI u), .int (nI 4)]) (rest := [.int (nI 4), .int (nI u), .ref (a 0)]) C (mo_pl l G a th K s4 u 4 (s4 14 u) (by omega) (by omega) rfl) (lw_V q903 q905 qs19 q48 q906) hdX3_pl ⟨Nat.le_of_ble_eq_true rfl, Nat.le_of_ble_eq_true rfl⟩ (zrM hE hP) (hP) hl.1 rfl (Nat.le_of_ble_eq_true rfl) ⟨Nat.le_of_ble_eq_true rfl, Nat.le_of_ble_eq_true rfl⟩ dX3_playAt_122 ?_
    refine lv_iconst (v := nI 1) hx hb dX3_playAt_125 (by decide) ?_
    refine lv_iadd hx hb dX3_playAt_126 ?_
    refine zwV0 (As := [.int (nI u), .int (nI 4), .int ((s4 14 u) + (nI 1))]) (rest := []) C (mo_setPl l G a th K s4 hI u 4 ((s4 14 u) + (nI 1)) (by omega) (by omega)) (lw_V q958 q960 qs26 q48 q961) hdX3_setPl ⟨Nat.le_of_ble_eq_true rfl, Nat.le_of_ble_eq_true rfl⟩ (zrM hE hP) (hP) hl.1 rfl (Nat.le_of_ble_eq_true rfl) ⟨Nat.le_of_ble_eq_true rfl, Nat.le_of_ble_eq_true rfl⟩ dX3_playAt_127 hS (fun _ h => h) (fun H locs hP _ hS => ?_)
    have hP : zMP G a th K (zup s4 14 u ((s4 14 u) + (nI 1))) H := hP
    have hP : zMP G a th K (zF4 s4 u) H := hP
    generalize e_s5 : zF4 s4 u = s5 at hP
    refine lv_aload_n hx hb dX3_playAt_130 rfl (lv_at hl 1 rfl) ?_
    refine lv_iload_n hx hb dX3_playAt_131 rfl (lv_at hl 2 rfl) ?_
    refine lv_iconst (v := nI 5) hx hb dX3_playAt_132 (by decide) ?_
    refine lv_aload_n hx hb dX3_playAt_133 rfl (lv_at hl 1 rfl) ?_
    refine lv_iload_n hx hb dX3_playAt_134 rfl (lv_at hl 2 rfl) ?_
    refine lv_iconst (v := nI 5) hx hb dX3_playAt_135 (by decide) ?_
    refine zcV1 (As := [.int (nI u), .int (nI 5)]) (rest := [.int (nI 5), .int (nI u), .ref (a 0)]) C (mo_pl l G a th K s5 u 5 (s5 15 u) (by omega) (by omega) rfl) (lw_V q903 q905 qs19 q48 q906) hdX3_pl ⟨Nat.le_of_ble_eq_true rfl, Nat.le_of_ble_eq_true rfl⟩ (zrM hE hP) (hP) hl.1 rfl (Nat.le_of_ble_eq_true rfl) ⟨Nat.le_of_ble_eq_true rfl, Nat.le_of_ble_eq_true rfl⟩ dX3_playAt_136 ?_
    refine lv_iload hx hb dX3_playAt_139 (lv_at hl 0 rfl) ?_
    refine lv_iadd hx hb dX3_playAt_141 ?_
    refine zwV0 (As := [.int (nI u), .int (nI 5), .int ((s5 15 u) + pay)]) (rest := []) C (mo_setPl l G a th K s5 hI u 5 ((s5 15 u) + pay) (by omega) (by omega)) (lw_V q958 q960 qs26 q48 q961) hdX3_setPl ⟨Nat.le_of_ble_eq_true rfl, Nat.le_of_ble_eq_true rfl⟩ (zrM hE hP) (hP) hl.1 rfl (Nat.le_of_ble_eq_true rfl) ⟨Nat.le_of_ble_eq_true rfl, Nat.le_of_ble_eq_true rfl⟩ dX3_playAt_142 hS (fun _ h => h) (fun H locs hP _ hS => ?_)
    have hP : zMP G a th K (zup s5 15 u ((s5 15 u) + pay)) H := hP
    have hP : zMP G a th K (zF5 s5 u pay) H := hP
    generalize e_s6 : zF5 s5 u pay = s6 at hP
    refine lv_aload_n hx hb dX3_playAt_145 rfl (lv_at hl 1 rfl) ?_
    refine lv_iload_n hx hb dX3_playAt_146 rfl (lv_at hl 3 rfl) ?_
    refine lv_iconst (v := nI 5) hx hb dX3_playAt_147 (by decide) ?_
    refine lv_bipush (v := nI 100) hx hb dX3_playAt_148 (by decide) ?_
    refine lv_aload_n hx hb dX3_playAt_150 rfl (lv_at hl 1 rfl) ?_
    refine lv_iload_n hx hb dX3_playAt_151 rfl (lv_at hl 3 rfl) ?_
    refine lv_iconst (v := nI 5) hx hb dX3_playAt_152 (by decide) ?_
    refine zcV1 (As := [.int (nI i), .int (nI 5)]) (rest := [.int (nI 100), .int (nI 5), .int (nI i), .ref (a 0)]) C (mo_ma l G a th K s6 i 5 (s6 5 i) (by omega) (by omega) rfl) (lw_V q884 q886 qs17 q48 q887) hdX3_ma ⟨Nat.le_of_ble_eq_true rfl, Nat.le_of_ble_eq_true rfl⟩ (zrM hE hP) (hP) hl.1 rfl (Nat.le_of_ble_eq_true rfl) ⟨Nat.le_of_ble_eq_true rfl, Nat.le_of_ble_eq_true rfl⟩ dX3_playAt_153 ?_
    refine lv_iconst (v := nI 1) hx hb dX3_playAt_156 (by decide) ?_
    refine lv_iadd hx hb dX3_playAt_157 ?_
    refine va_mmin hx hb (hml.trans hl.1.symm) hown (hts _ q919) (hts _ q454) (hts _ q57) (hts _ q455) (Nat.le_of_ble_eq_true rfl) (Nat.le_of_ble_eq_true rfl) (Nat.le_of_ble_eq_true rfl) (Nat.le_of_ble_eq_true rfl) dX3_playAt_158 ?_
    refine zwV0 (As := [.int (nI i), .int (nI 5), .int (if ((s6 5 i) + (nI 1)) < (nI 100) then ((s6 5 i) + (nI 1)) else (nI 100))]) (rest := []) C (mo_setMa l G a th K s6 hI i 5 (if ((s6 5 i) + (nI 1)) < (nI 100) then ((s6 5 i) + (nI 1)) else (nI 100)) (by omega) (by omega)) (lw_V q974 q976 qs29 q48 q977) hdX3_setMa ⟨Nat.le_of_ble_eq_true rfl, Nat.le_of_ble_eq_true rfl⟩ (zrM hE hP) (hP) hl.1 rfl (Nat.le_of_ble_eq_true rfl) ⟨Nat.le_of_ble_eq_true rfl, Nat.le_of_ble_eq_true rfl⟩ dX3_playAt_161 hS (fun _ h => h) (fun H locs hP _ hS => ?_)
    have hP : zMP G a th K (zWr s6 i) H := hP
    generalize e_s7 : zWr s6 i = s7 at hP
    refine lv_aload_n hx hb dX3_playAt_164 rfl (lv_at hl 1 rfl) ?_
    refine lv_iload_n hx hb dX3_playAt_165 rfl (lv_at hl 3 rfl) ?_
    refine lv_iconst (v := nI 5) hx hb dX3_playAt_166 (by decide) ?_
    refine zcV1 (As := [.int (nI i), .int (nI 5)]) (rest := []) C (mo_ma l G a th K s7 i 5 (s7 5 i) (by omega) (by omega) rfl) (lw_V q884 q886 qs17 q48 q887) hdX3_ma ⟨Nat.le_of_ble_eq_true rfl, Nat.le_of_ble_eq_true rfl⟩ (zrM hE hP) (hP) hl.1 rfl (Nat.le_of_ble_eq_true rfl) ⟨Nat.le_of_ble_eq_true rfl, Nat.le_of_ble_eq_true rfl⟩ dX3_playAt_167 ?_
    refine lv_bipush (v := nI 20) hx hb dX3_playAt_170 (by decide) ?_
    refine lv_icmp_lt (tgt := 195) hx hb dX3_playAt_172 (by decide) (fun c_1 => ?_) (fun c_1 => ?_)
    · refine lv_iload hx hb dX3_playAt_195 (lv_at hl 0 rfl) ?_
      exact zw_iretE C (by unfold zPlA; rw [hTk]) (by unfold zPlA; rw [hTk]; show zMP G a th K (zFin σ1 u i pay) H; unfold zFin; rw [e_s2, e_s3, e_s4, e_s5, e_s6, e_s7]; unfold zJm; rw [if_pos c_1]; exact hP) hS dX3_playAt_197
    · refine lv_aload_n hx hb dX3_playAt_175 rfl (lv_at hl 1 rfl) ?_
      refine lv_iload_n hx hb dX3_playAt_176 rfl (lv_at hl 3 rfl) ?_
      refine lv_iconst (v := nI 5) hx hb dX3_playAt_177 (by decide) ?_
      refine zcV1 (As := [.int (nI i), .int (nI 5)]) (rest := []) C (mo_ma l G a th K s7 i 5 (s7 5 i) (by omega) (by omega) rfl) (lw_V q884 q886 qs17 q48 q887) hdX3_ma ⟨Nat.le_of_ble_eq_true rfl, Nat.le_of_ble_eq_true rfl⟩ (zrM hE hP) (hP) hl.1 rfl (Nat.le_of_ble_eq_true rfl) ⟨Nat.le_of_ble_eq_true rfl, Nat.le_of_ble_eq_true rfl⟩ dX3_playAt_178 ?_
      refine lv_bipush (v := nI 10) hx hb dX3_playAt_181 (by decide) ?_
      refine lv_irem hx hb dX3_playAt_183 (by decide) ?_
      refine lv_if_ne (tgt := 195) hx hb dX3_playAt_184 (by decide) (fun c_2 => ?_) (fun c_2 => ?_)
      · refine lv_iload hx hb dX3_playAt_195 (lv_at hl 0 rfl) ?_
        exact zw_iretE C (by unfold zPlA; rw [hTk]) (by unfold zPlA; rw [hTk]; show zMP G a th K (zFin σ1 u i pay) H; unfold zFin; rw [e_s2, e_s3, e_s4, e_s5, e_s6, e_s7]; unfold zJm; rw [if_neg c_1, if_neg c_2]; exact hP) hS dX3_playAt_197
      · refine lv_aload_n hx hb dX3_playAt_187 rfl (lv_at hl 1 rfl) ?_
        refine lv_iload_n hx hb dX3_playAt_188 rfl (lv_at hl 3 rfl) ?_
        refine lv_bipush (v := nI 6) hx hb dX3_playAt_189 (by decide) ?_
        refine lv_iconst (v := nI 1) hx hb dX3_playAt_191 (by decide) ?_
        refine zwV0 (As := [.int (nI i), .int (nI 6), .int (nI 1)]) (rest := []) C (mo_setMa l G a th K s7 hI i 6 (nI 1) (by omega) (by omega)) (lw_V q974 q976 qs29 q48 q977) hdX3_setMa ⟨Nat.le_of_ble_eq_true rfl, Nat.le_of_ble_eq_true rfl⟩ (zrM hE hP) (hP) hl.1 rfl (Nat.le_of_ble_eq_true rfl) ⟨Nat.le_of_ble_eq_true rfl, Nat.le_of_ble_eq_true rfl⟩ dX3_playAt_192 hS (fun _ h => h) (fun H locs hP _ hS => ?_)
        refine lv_iload hx hb dX3_playAt_195 (lv_at hl 0 rfl) ?_
        exact zw_iretE C (by unfold zPlA; rw [hTk]) (by unfold zPlA; rw [hTk]; show zMP G a th K (zFin σ1 u i pay) H; unfold zFin; rw [e_s2, e_s3, e_s4, e_s5, e_s6, e_s7]; unfold zJm; rw [if_neg c_1, if_pos c_2]; exact hP) hS dX3_playAt_197
  refine lv_aload_n hx hb dX3_playAt_0 rfl (lv_at hl 0 rfl) ?_
  refine lv_iload_n hx hb dX3_playAt_1 rfl (lv_at hl 2 rfl) ?_
  refine zcV1 (As := [.int (nI i)]) (rest := []) C (mo_isTable l G a th K σ i (by omega)) (lw_V q880 q882 qs16 q48 q883) hdX3_isTable ⟨Nat.le_of_ble_eq_true rfl, Nat.le_of_ble_eq_true rfl⟩ (zrM hE hP) (hP) hl.1 rfl (Nat.le_of_ble_eq_true rfl) ⟨Nat.le_of_ble_eq_true rfl, Nat.le_of_ble_eq_true rfl⟩ dX3_playAt_2 ?_
  refine zb_if (σ 0 i = 0) (tgt := 59) C rfl dX3_playAt_5 (by decide) (fun c_3 => ?_) (fun c_3 => ?_)
  · refine lv_aload_n hx hb dX3_playAt_59 rfl (lv_at hl 0 rfl) ?_
    refine lv_iload_n hx hb dX3_playAt_60 rfl (lv_at hl 2 rfl) ?_
    refine zwV1 (As := [.int (nI i)]) (rest := []) C (mo_push l G a th K σ hI i (by omega)) (lw_V q978 q980 qs30 q48 q981) hdX3_push ⟨Nat.le_of_ble_eq_true rfl, Nat.le_of_ble_eq_true rfl⟩ (zrM hE hP) (hP) hl.1 rfl (Nat.le_of_ble_eq_true rfl) ⟨Nat.le_of_ble_eq_true rfl, Nat.le_of_ble_eq_true rfl⟩ dX3_playAt_61 hS (fun _ h => h) (fun H locs hP _ hS => ?_)
    refine lv_istore (lv' := [(5, .int ((zPush σ i).2)), (0, .ref (a 0)), (1, .int (nI u)), (2, .int (nI i)), (3, .int cv), (4, .int tilt)]) hx hb dX3_playAt_64 hl (by decide) rfl (fun ls hl => ?_)
    exact join _ _ (by unfold zTk; rw [if_neg c_3]) H locs hP hS ls (lv_sub hl [0, 1, 2, 3, 4, 5] rfl)
  · have hT : zTab σ i := by
      rcases hTP with h | h
      · exact h
      · exact absurd (h.1.symm.trans c_3) (by decide)
    obtain ⟨hcv, hc2⟩ := hc hT
    subst hcv
    refine lv_aload_n hx hb dX3_playAt_8 rfl (lv_at hl 0 rfl) ?_
    refine lv_iload_n hx hb dX3_playAt_9 rfl (lv_at hl 2 rfl) ?_
    refine lv_iconst (v := nI 4) hx hb dX3_playAt_10 (by decide) ?_
    refine lv_aload_n hx hb dX3_playAt_11 rfl (lv_at hl 0 rfl) ?_
    refine lv_iload_n hx hb dX3_playAt_12 rfl (lv_at hl 2 rfl) ?_
    refine lv_iconst (v := nI 4) hx hb dX3_playAt_13 (by decide) ?_
    refine zcV1 (As := [.int (nI i), .int (nI 4)]) (rest := [.int (nI 4), .int (nI i), .ref (a 0)]) C (mo_ma l G a th K σ i 4 (σ 4 i) (by omega) (by omega) rfl) (lw_V q884 q886 qs17 q48 q887) hdX3_ma ⟨Nat.le_of_ble_eq_true rfl, Nat.le_of_ble_eq_true rfl⟩ (zrM hE hP) (hP) hl.1 rfl (Nat.le_of_ble_eq_true rfl) ⟨Nat.le_of_ble_eq_true rfl, Nat.le_of_ble_eq_true rfl⟩ dX3_playAt_14 ?_
    refine lv_iconst (v := nI 1) hx hb dX3_playAt_17 (by decide) ?_
    refine lv_iadd hx hb dX3_playAt_18 ?_
    refine zwV0 (As := [.int (nI i), .int (nI 4), .int ((σ 4 i) + (nI 1))]) (rest := []) C (mo_setMa l G a th K σ hI i 4 ((σ 4 i) + (nI 1)) (by omega) (by omega)) (lw_V q974 q976 qs29 q48 q977) hdX3_setMa ⟨Nat.le_of_ble_eq_true rfl, Nat.le_of_ble_eq_true rfl⟩ (zrM hE hP) (hP) hl.1 rfl (Nat.le_of_ble_eq_true rfl) ⟨Nat.le_of_ble_eq_true rfl, Nat.le_of_ble_eq_true rfl⟩ dX3_playAt_19 hS (fun _ h => h) (fun H locs hP _ hS => ?_)
    refine lv_aload_n hx hb dX3_playAt_22 rfl (lv_at hl 0 rfl) ?_
    refine lv_iload_n hx hb dX3_playAt_23 rfl (lv_at hl 2 rfl) ?_
    refine lv_iconst (v := nI 4) hx hb dX3_playAt_24 (by decide) ?_
    refine zcV1 (As := [.int (nI i), .int (nI 4)]) (rest := []) C (mo_ma l G a th K (zup σ 4 i ((σ 4 i) + (nI 1))) i 4 (σ 4 i + nI 1) (by omega) (by omega) zup_s) (lw_V q884 q886 qs17 q48 q887) hdX3_ma ⟨Nat.le_of_ble_eq_true rfl, Nat.le_of_ble_eq_true rfl⟩ (zrM hE hP) (hP) hl.1 rfl (Nat.le_of_ble_eq_true rfl) ⟨Nat.le_of_ble_eq_true rfl, Nat.le_of_ble_eq_true rfl⟩ dX3_playAt_25 ?_
    refine lv_aload_n hx hb dX3_playAt_28 rfl (lv_at hl 0 rfl) ?_
    refine lv_iload_n hx hb dX3_playAt_29 rfl (lv_at hl 2 rfl) ?_
    refine lv_iload_n hx hb dX3_playAt_30 rfl (lv_at hl 3 rfl) ?_
    refine lv_iload hx hb dX3_playAt_31 (lv_at hl 4 rfl) ?_
    refine zcV1 (As := [.int (nI i), .int (nI col), .int tilt]) (rest := [.int (σ 4 i + nI 1)]) C (mo_cupOf l G a th K (zup σ 4 i ((σ 4 i) + (nI 1))) i col tilt (by omega) (hT.cong (zup_kf (by decide)) (zup_kf (by decide)) (zup_kf (by decide))) (by show col < zWd _ i; unfold zWd; rw [zup_k (by decide)]; exact hc2)) (lw_V q929 q931 qs23 q48 q932) hdX3_cupOf ⟨Nat.le_of_ble_eq_true rfl, Nat.le_of_ble_eq_true rfl⟩ (zrM hE hP) (hP) hl.1 rfl (Nat.le_of_ble_eq_true rfl) ⟨Nat.le_of_ble_eq_true rfl, Nat.le_of_ble_eq_true rfl⟩ dX3_playAt_33 ?_
    rw [zCup_cong (σ := σ) (τ := zup σ 4 i ((σ 4 i) + (nI 1))) (zup_kf (by decide)) (zup_kf (by decide))]
    refine va_mmin hx hb (hml.trans hl.1.symm) hown (hts _ q919) (hts _ q454) (hts _ q57) (hts _ q455) (Nat.le_of_ble_eq_true rfl) (Nat.le_of_ble_eq_true rfl) (Nat.le_of_ble_eq_true rfl) (Nat.le_of_ble_eq_true rfl) dX3_playAt_36 ?_
    rw [show (if (zCup K σ i col tilt) < (σ 4 i + nI 1) then (zCup K σ i col tilt) else (σ 4 i + nI 1)) = zPay K σ i col tilt from rfl]
    refine lv_istore (lv' := [(5, .int (zPay K σ i col tilt)), (0, .ref (a 0)), (1, .int (nI u)), (2, .int (nI i)), (3, .int (nI col)), (4, .int tilt)]) hx hb dX3_playAt_39 hl (by decide) rfl (fun ls hl => ?_)
    refine lv_aload_n hx hb dX3_playAt_41 rfl (lv_at hl 1 rfl) ?_
    refine lv_iload_n hx hb dX3_playAt_42 rfl (lv_at hl 3 rfl) ?_
    refine lv_iconst (v := nI 4) hx hb dX3_playAt_43 (by decide) ?_
    refine lv_aload_n hx hb dX3_playAt_44 rfl (lv_at hl 1 rfl) ?_
    refine lv_iload_n hx hb dX3_playAt_45 rfl (lv_at hl 3 rfl) ?_
    refine lv_iconst (v := nI 4) hx hb dX3_playAt_46 (by decide) ?_
    refine zcV1 (As := [.int (nI i), .int (nI 4)]) (rest := [.int (nI 4), .int (nI i), .ref (a 0)]) C (mo_ma l G a th K (zup σ 4 i ((σ 4 i) + (nI 1))) i 4 (σ 4 i + nI 1) (by omega) (by omega) zup_s) (lw_V q884 q886 qs17 q48 q887) hdX3_ma ⟨Nat.le_of_ble_eq_true rfl, Nat.le_of_ble_eq_true rfl⟩ (zrM hE hP) (hP) hl.1 rfl (Nat.le_of_ble_eq_true rfl) ⟨Nat.le_of_ble_eq_true rfl, Nat.le_of_ble_eq_true rfl⟩ dX3_playAt_47 ?_
    refine lv_iload hx hb dX3_playAt_50 (lv_at hl 0 rfl) ?_
    refine lv_isub hx hb dX3_playAt_52 ?_
    refine zwV0 (As := [.int (nI i), .int (nI 4), .int ((σ 4 i + nI 1) - (zPay K σ i col tilt))]) (rest := []) C (mo_setMa l G a th K (zup σ 4 i ((σ 4 i) + (nI 1))) hI i 4 ((σ 4 i + nI 1) - (zPay K σ i col tilt)) (by omega) (by omega)) (lw_V q974 q976 qs29 q48 q977) hdX3_setMa ⟨Nat.le_of_ble_eq_true rfl, Nat.le_of_ble_eq_true rfl⟩ (zrM hE hP) (hP) hl.1 rfl (Nat.le_of_ble_eq_true rfl) ⟨Nat.le_of_ble_eq_true rfl, Nat.le_of_ble_eq_true rfl⟩ dX3_playAt_53 hS (fun _ h => h) (fun H locs hP _ hS => ?_)
    rw [zup_zup] at hP
    refine lv_goto (tgt := 66) hx hb dX3_playAt_56 (by decide) ?_
    exact join _ _ (by unfold zTk; rw [if_pos c_3]) H locs hP hS ls (lv_sub hl [0, 1, 2, 3, 4, 5] rfl)

/-! the model: told and counted (printed by gen/m22.py) -/
set_option maxRecDepth 100000
set_option maxHeartbeats 4000000 in
theorem mo_machineTold (l : Launch) (G : zG) (a : Nat → Nat) (th : Int32) (K : zKt) (σ : zSt) (i w : Nat) (hi : i < 8) (hw : w < 11) (hP10 : zkP K ≤ 10) : zMro l yX3_machineTold cX3_machineTold 5 (some .int) 1 G [.ref (a 0), .int (nI i), .int (nI w)] (zMP G a th K σ) (some (.int (zTold K σ i w))) := by
  refine zMk [(0, .ref (a 0)), (1, .int (nI i)), (2, .int (nI w))] (by decide) (Nat.le_of_ble_eq_true rfl) rfl ?_
  intro p e s m below meth c ls C hP hl _
  generalize ([.ref (a 0), .int (nI i), .int (nI w)] : List Value).toArray = av at C ⊢
  have hx := C.1
  have hb := C.2.1
  have hml := C.2.2.1
  have hown := C.2.2.2.1
  have hts := C.2.2.2.2.1
  have hE := C.2.2.2.2.2.2.2
  refine lv_iconst (v := nI 0) hx hb dX3_machineTold_0 (by decide) ?_
  refine lv_istore_n (lv' := [(3, .int (nI 0)), (0, .ref (a 0)), (1, .int (nI i)), (2, .int (nI w))]) hx hb dX3_machineTold_1 rfl hl (by decide) rfl (fun ls hl => ?_)
  refine lv_iload_n hx hb dX3_machineTold_2 rfl (lv_at hl 3 rfl) ?_
  rcases (show w < 7 ∨ w = 7 ∨ w = 8 ∨ w = 9 ∨ w = 10 by omega) with hw7 | rfl | rfl | rfl | rfl
  · refine lv_tableOut (tgt := 86) hx hb dX3_machineTold_3 (Or.inl (by rw [nI_toInt (by omega)]; omega)) (by decide) ?_
    refine lv_aload_n hx hb dX3_machineTold_86 rfl (lv_at hl 1 rfl) ?_
    refine lv_iload_n hx hb dX3_machineTold_87 rfl (lv_at hl 2 rfl) ?_
    refine lv_iload_n hx hb dX3_machineTold_88 rfl (lv_at hl 3 rfl) ?_
    refine zcV1 (As := [.int (nI i), .int (nI w)]) (rest := []) C (mo_ma l G a th K σ i w (σ w i) (by omega) (by omega) rfl) (lw_V q884 q886 qs17 q48 q887) hdX3_ma ⟨Nat.le_of_ble_eq_true rfl, Nat.le_of_ble_eq_true rfl⟩ (zrM hE hP) (hP) hl.1 rfl (Nat.le_of_ble_eq_true rfl) ⟨Nat.le_of_ble_eq_true rfl, Nat.le_of_ble_eq_true rfl⟩ dX3_machineTold_89 ?_
    exact ze_iretE C (by unfold zTold; rw [if_neg (by omega), if_neg (by omega), if_neg (by omega), if_neg (by omega)]) dX3_machineTold_92
  · refine lv_tableIn (off := 29) (tgt := 32) hx hb dX3_machineTold_3 (by decide) (by decide) (by decide) (by decide) ?_
    refine lv_iconst (v := nI 0) hx hb dX3_machineTold_32 (by decide) ?_
    refine lv_istore (lv' := [(4, .int (nI 0)), (3, .int (nI 0)), (0, .ref (a 0)), (1, .int (nI i)), (2, .int (nI 7))]) hx hb dX3_machineTold_33 hl (by decide) rfl (fun ls hl => ?_)
    have loop : ∀ (n : Nat) (u : Nat), (u ≤ zkP K) → (zkP K + 1 ≤ u + n) → ∀ (ls : Array Slot), lv_has ls 5 [(4, .int (nI u)), (3, .int (zSum (fun u => if σ 12 u = nI i then nI 1 else nI 0) u)), (0, .ref (a 0)), (1, .int (nI i)), (2, .int (nI 7))] → W p l e (zRm 1 0 0) s m av below meth c s.heap [] 0 0 (MQ below (zRO (some (.int (zTold K σ i 7)))) av s 0 0 (fun _ => False)) (F0 m 35 ls []) := by
      intro n
      induction n with
      | zero =>
        intro u h1 h2
        exact absurd (And.intro h1 h2) (by omega)
      | succ n ih =>
        intro u h1 h2 ls hl
        refine lv_iload hx hb dX3_machineTold_35 (lv_at hl 0 rfl) ?_
        refine lv_aload_n hx hb dX3_machineTold_37 rfl (lv_at hl 2 rfl) ?_
        refine zgM C hP 2 (by decide) q812 rfl rfl dX3_machineTold_38 ?_
        refine zn_ge (tgt := 69) C (by omega) (by omega) dX3_machineTold_41 (by decide) (fun c_1 => ?_) (fun c_1 => ?_)
        · have hk : u = zkP K := by omega
          subst hk
          refine lv_iload_n hx hb dX3_machineTold_69 rfl (lv_at hl 1 rfl) ?_
          exact ze_iretE C (rfl) dX3_machineTold_70
        · refine lv_iload_n hx hb dX3_machineTold_44 rfl (lv_at hl 1 rfl) ?_
          refine lv_aload_n hx hb dX3_machineTold_45 rfl (lv_at hl 2 rfl) ?_
          refine lv_iload hx hb dX3_machineTold_46 (lv_at hl 0 rfl) ?_
          refine lv_iconst (v := nI 2) hx hb dX3_machineTold_48 (by decide) ?_
          refine zcV1 (As := [.int (nI u), .int (nI 2)]) (rest := [.int (zSum (fun u => if σ 12 u = nI i then nI 1 else nI 0) u)]) C (mo_pl l G a th K σ u 2 (σ 12 u) (by omega) (by omega) rfl) (lw_V q903 q905 qs19 q48 q906) hdX3_pl ⟨Nat.le_of_ble_eq_true rfl, Nat.le_of_ble_eq_true rfl⟩ (zrM hE hP) (hP) hl.1 rfl (Nat.le_of_ble_eq_true rfl) ⟨Nat.le_of_ble_eq_true rfl, Nat.le_of_ble_eq_true rfl⟩ dX3_machineTold_49 ?_
          refine lv_iload_n hx hb dX3_machineTold_52 rfl (lv_at hl 3 rfl) ?_
          refine lv_icmp_ne (tgt := 60) hx hb dX3_machineTold_53 (by decide) (fun c_2 => ?_) (fun c_2 => ?_)
          · refine lv_iconst (v := nI 0) hx hb dX3_machineTold_60 (by decide) ?_
            refine lv_iadd hx hb dX3_machineTold_61 ?_
            refine lv_istore_n (lv' := [(3, .int ((zSum (fun u => if σ 12 u = nI i then nI 1 else nI 0) u) + (nI 0))), (4, .int (nI u)), (0, .ref (a 0)), (1, .int (nI i)), (2, .int (nI 7))]) hx hb dX3_machineTold_62 rfl hl (by decide) rfl (fun ls hl => ?_)
            refine lv_iinc (v := nI (u + 1)) (lv' := [(4, .int (nI (u + 1))), (3, .int ((zSum (fun u => if σ 12 u = nI i then nI 1 else nI 0) u) + (nI 0))), (0, .ref (a 0)), (1, .int (nI i)), (2, .int (nI 7))]) hx hb dX3_machineTold_63 hl (k := 1) rfl (nI_1 _) (by decide) rfl (fun ls hl => ?_)
            refine lv_goto (tgt := 35) hx hb dX3_machineTold_66 (by decide) ?_
            exact ih (u + 1) (by omega) (by omega) ls (by rw [show zSum (fun u => if σ 12 u = nI i then nI 1 else nI 0) (u + 1) = zSum (fun u => if σ 12 u = nI i then nI 1 else nI 0) u + nI 0 by show zSum (fun u => if σ 12 u = nI i then nI 1 else nI 0) u + (if σ 12 u = nI i then nI 1 else nI 0) = _; rw [if_neg c_2]]; exact (lv_sub hl [0, 1, 2, 3, 4] rfl))
          · refine lv_iconst (v := nI 1) hx hb dX3_machineTold_56 (by decide) ?_
            refine lv_goto (tgt := 61) hx hb dX3_machineTold_57 (by decide) ?_
            refine lv_iadd hx hb dX3_machineTold_61 ?_
            refine lv_istore_n (lv' := [(3, .int ((zSum (fun u => if σ 12 u = nI i then nI 1 else nI 0) u) + (nI 1))), (4, .int (nI u)), (0, .ref (a 0)), (1, .int (nI i)), (2, .int (nI 7))]) hx hb dX3_machineTold_62 rfl hl (by decide) rfl (fun ls hl => ?_)
            refine lv_iinc (v := nI (u + 1)) (lv' := [(4, .int (nI (u + 1))), (3, .int ((zSum (fun u => if σ 12 u = nI i then nI 1 else nI 0) u) + (nI 1))), (0, .ref (a 0)), (1, .int (nI i)), (2, .int (nI 7))]) hx hb dX3_machineTold_63 hl (k := 1) rfl (nI_1 _) (by decide) rfl (fun ls hl => ?_)
            refine lv_goto (tgt := 35) hx hb dX3_machineTold_66 (by decide) ?_
            exact ih (u + 1) (by omega) (by omega) ls (by rw [show zSum (fun u => if σ 12 u = nI i then nI 1 else nI 0) (u + 1) = zSum (fun u => if σ 12 u = nI i then nI 1 else nI 0) u + nI 1 by show zSum (fun u => if σ 12 u = nI i then nI 1 else nI 0) u + (if σ 12 u = nI i then nI 1 else nI 0) = _; rw [if_pos c_2]]; exact (lv_sub hl [0, 1, 2, 3, 4] rfl))
    exact loop (zkP K + 1) 0 (by omega) (by omega) ls (lv_sub hl [0, 1, 2, 3, 4] rfl)
  · refine lv_tableIn (off := 68) (tgt := 71) hx hb dX3_machineTold_3 (by decide) (by decide) (by decide) (by decide) ?_
    refine lv_aload_n hx hb dX3_machineTold_71 rfl (lv_at hl 1 rfl) ?_
    refine lv_iload_n hx hb dX3_machineTold_72 rfl (lv_at hl 2 rfl) ?_
    refine lv_iload_n hx hb dX3_machineTold_73 rfl (lv_at hl 3 rfl) ?_
    refine lv_iconst (v := nI 1) hx hb dX3_machineTold_74 (by decide) ?_
    refine lv_isub hx hb dX3_machineTold_75 ?_
    rw [show nI 8 - nI 1 = nI 7 from rfl]
    refine zcV1 (As := [.int (nI i), .int (nI 7)]) (rest := []) C (mo_ma l G a th K σ i 7 (σ 7 i) (by omega) (by omega) rfl) (lw_V q884 q886 qs17 q48 q887) hdX3_ma ⟨Nat.le_of_ble_eq_true rfl, Nat.le_of_ble_eq_true rfl⟩ (zrM hE hP) (hP) hl.1 rfl (Nat.le_of_ble_eq_true rfl) ⟨Nat.le_of_ble_eq_true rfl, Nat.le_of_ble_eq_true rfl⟩ dX3_machineTold_76 ?_
    exact ze_iretE C (rfl) dX3_machineTold_79
  · refine lv_tableIn (off := 68) (tgt := 71) hx hb dX3_machineTold_3 (by decide) (by decide) (by decide) (by decide) ?_
    refine lv_aload_n hx hb dX3_machineTold_71 rfl (lv_at hl 1 rfl) ?_
    refine lv_iload_n hx hb dX3_machineTold_72 rfl (lv_at hl 2 rfl) ?_
    refine lv_iload_n hx hb dX3_machineTold_73 rfl (lv_at hl 3 rfl) ?_
    refine lv_iconst (v := nI 1) hx hb dX3_machineTold_74 (by decide) ?_
    refine lv_isub hx hb dX3_machineTold_75 ?_
    rw [show nI 9 - nI 1 = nI 8 from rfl]
    refine zcV1 (As := [.int (nI i), .int (nI 8)]) (rest := []) C (mo_ma l G a th K σ i 8 (σ 8 i) (by omega) (by omega) rfl) (lw_V q884 q886 qs17 q48 q887) hdX3_ma ⟨Nat.le_of_ble_eq_true rfl, Nat.le_of_ble_eq_true rfl⟩ (zrM hE hP) (hP) hl.1 rfl (Nat.le_of_ble_eq_true rfl) ⟨Nat.le_of_ble_eq_true rfl, Nat.le_of_ble_eq_true rfl⟩ dX3_machineTold_76 ?_
    exact ze_iretE C (rfl) dX3_machineTold_79
  · refine lv_tableIn (off := 77) (tgt := 80) hx hb dX3_machineTold_3 (by decide) (by decide) (by decide) (by decide) ?_
    refine lv_aload_n hx hb dX3_machineTold_80 rfl (lv_at hl 1 rfl) ?_
    refine lv_iload_n hx hb dX3_machineTold_81 rfl (lv_at hl 2 rfl) ?_
    refine zcV1 (As := [.int (nI i)]) (rest := []) C (mo_onLedge l G a th K σ i (by omega)) (lw_V q907 q909 qs20 q48 q910) hdX3_onLedge ⟨Nat.le_of_ble_eq_true rfl, Nat.le_of_ble_eq_true rfl⟩ (zrM hE hP) (hP) hl.1 rfl (Nat.le_of_ble_eq_true rfl) ⟨Nat.le_of_ble_eq_true rfl, Nat.le_of_ble_eq_true rfl⟩ dX3_machineTold_82 ?_
    exact ze_iretE C (rfl) dX3_machineTold_85
set_option maxHeartbeats 4000000 in
theorem mo_counted (l : Launch) (G : zG) (a : Nat → Nat) (th : Int32) (K : zKt) (σ : zSt) (w : Nat) (hw : w < 10) (hM8 : zkM K ≤ 8) (hP10 : zkP K ≤ 10) : zMro l yX3_counted cX3_counted 4 (some .int) 2 G [.ref (a 0), .int (nI w)] (zMP G a th K σ) (some (.int (zCnt K σ w))) := by
  refine zMk [(0, .ref (a 0)), (1, .int (nI w))] (by decide) (Nat.le_of_ble_eq_true rfl) rfl ?_
  intro p e s m below meth c ls C hP hl _
  generalize ([.ref (a 0), .int (nI w)] : List Value).toArray = av at C ⊢
  have hx := C.1
  have hb := C.2.1
  have hml := C.2.2.1
  have hown := C.2.2.2.1
  have hts := C.2.2.2.2.1
  have hE := C.2.2.2.2.2.2.2
  refine lv_iconst (v := nI 0) hx hb dX3_counted_0 (by decide) ?_
  refine lv_istore_n (lv' := [(2, .int (nI 0)), (0, .ref (a 0)), (1, .int (nI w))]) hx hb dX3_counted_1 rfl hl (by decide) rfl (fun ls hl => ?_)
  refine lv_iload_n hx hb dX3_counted_2 rfl (lv_at hl 2 rfl) ?_
  rcases (show w = 0 ∨ w = 1 ∨ w = 2 ∨ w = 3 ∨ w = 4 ∨ w = 5 ∨ w = 6 ∨ w = 7 ∨ w = 8 ∨ w = 9 by omega) with rfl | rfl | rfl | rfl | rfl | rfl | rfl | rfl | rfl | rfl
  · refine lv_tableIn (off := 49) (tgt := 52) hx hb dX3_counted_3 (by decide) (by decide) (by decide) (by decide) ?_
    refine lv_aload_n hx hb dX3_counted_52 rfl (lv_at hl 1 rfl) ?_
    refine zgM C hP 10 (by decide) q820 rfl rfl dX3_counted_53 ?_
    refine lv_iconst (v := nI 0) hx hb dX3_counted_56 (by decide) ?_
    refine zn_ald C hP 7 rfl (by decide) (Nat.le_of_ble_eq_true rfl) dX3_counted_57 ?_
    exact ze_iretE C (rfl) dX3_counted_58
  · refine lv_tableIn (off := 56) (tgt := 59) hx hb dX3_counted_3 (by decide) (by decide) (by decide) (by decide) ?_
    refine lv_aload_n hx hb dX3_counted_59 rfl (lv_at hl 1 rfl) ?_
    refine zgM C hP 1 (by decide) q811 rfl rfl dX3_counted_60 ?_
    exact ze_iretE C (rfl) dX3_counted_63
  · refine lv_tableIn (off := 61) (tgt := 64) hx hb dX3_counted_3 (by decide) (by decide) (by decide) (by decide) ?_
    refine lv_aload_n hx hb dX3_counted_64 rfl (lv_at hl 1 rfl) ?_
    refine zcV1 (As := []) (rest := []) C (mo_jammed l G a th K σ hM8) (lw_V q1034 q1036 qs38 q48 q1037) hdX3_jammed ⟨Nat.le_of_ble_eq_true rfl, Nat.le_of_ble_eq_true rfl⟩ (zrM hE hP) (hP) hl.1 rfl (Nat.le_of_ble_eq_true rfl) ⟨Nat.le_of_ble_eq_true rfl, Nat.le_of_ble_eq_true rfl⟩ dX3_counted_65 ?_
    exact ze_iretE C (rfl) dX3_counted_68
  · refine lv_tableIn (off := 66) (tgt := 69) hx hb dX3_counted_3 (by decide) (by decide) (by decide) (by decide) ?_
    refine lv_aload_n hx hb dX3_counted_69 rfl (lv_at hl 1 rfl) ?_
    refine zgM C hP 2 (by decide) q812 rfl rfl dX3_counted_70 ?_
    exact ze_iretE C (rfl) dX3_counted_73
  · refine lv_tableIn (off := 71) (tgt := 74) hx hb dX3_counted_3 (by decide) (by decide) (by decide) (by decide) ?_
    refine lv_iconst (v := nI 0) hx hb dX3_counted_74 (by decide) ?_
    refine lv_istore_n (lv' := [(3, .int (nI 0)), (2, .int (nI 0)), (0, .ref (a 0)), (1, .int (nI 4))]) hx hb dX3_counted_75 rfl hl (by decide) rfl (fun ls hl => ?_)
    have loop : ∀ (n : Nat) (u : Nat), (u ≤ zkP K) → (zkP K + 1 ≤ u + n) → ∀ (ls : Array Slot), lv_has ls 4 [(3, .int (nI u)), (2, .int (zSum (fun u => if σ 12 u = -1 then nI 0 else nI 1) u)), (0, .ref (a 0)), (1, .int (nI 4))] → W p l e (zRm 2 0 0) s m av below meth c s.heap [] 0 0 (MQ below (zRO (some (.int (zCnt K σ 4)))) av s 0 0 (fun _ => False)) (F0 m 76 ls []) := by
      intro n
      induction n with
      | zero =>
        intro u h1 h2
        exact absurd (And.intro h1 h2) (by omega)
      | succ n ih =>
        intro u h1 h2 ls hl
        refine lv_iload_n hx hb dX3_counted_76 rfl (lv_at hl 0 rfl) ?_
        refine lv_aload_n hx hb dX3_counted_77 rfl (lv_at hl 2 rfl) ?_
        refine zgM C hP 2 (by decide) q812 rfl rfl dX3_counted_78 ?_
        refine zn_ge (tgt := 122) C (by omega) (by omega) dX3_counted_81 (by decide) (fun c_1 => ?_) (fun c_1 => ?_)
        · have hk : u = zkP K := by omega
          subst hk
          refine lv_iload_n hx hb dX3_counted_122 rfl (lv_at hl 1 rfl) ?_
          exact ze_iretE C (rfl) dX3_counted_123
        · refine lv_iload_n hx hb dX3_counted_84 rfl (lv_at hl 1 rfl) ?_
          refine lv_iload_n hx hb dX3_counted_85 rfl (lv_at hl 3 rfl) ?_
          refine lv_iconst (v := nI 5) hx hb dX3_counted_86 (by decide) ?_
          refine zn_ne (tgt := 99) C (by decide) (by decide) dX3_counted_87 (by decide) (fun c_2 => ?_) (fun c_2 => ?_)
          · refine lv_aload_n hx hb dX3_counted_99 rfl (lv_at hl 2 rfl) ?_
            refine lv_iload_n hx hb dX3_counted_100 rfl (lv_at hl 0 rfl) ?_
            refine lv_iconst (v := nI 2) hx hb dX3_counted_101 (by decide) ?_
            refine zcV1 (As := [.int (nI u), .int (nI 2)]) (rest := [.int (zSum (fun u => if σ 12 u = -1 then nI 0 else nI 1) u)]) C (mo_pl l G a th K σ u 2 (σ 12 u) (by omega) (by omega) rfl) (lw_V q903 q905 qs19 q48 q906) hdX3_pl ⟨Nat.le_of_ble_eq_true rfl, Nat.le_of_ble_eq_true rfl⟩ (zrM hE hP) (hP) hl.1 rfl (Nat.le_of_ble_eq_true rfl) ⟨Nat.le_of_ble_eq_true rfl, Nat.le_of_ble_eq_true rfl⟩ dX3_counted_102 ?_
            refine lv_iconst (v := (-1)) hx hb dX3_counted_105 (by decide) ?_
            refine lv_icmp_ne (tgt := 113) hx hb dX3_counted_106 (by decide) (fun c_3 => ?_) (fun c_3 => ?_)
            · refine lv_iconst (v := nI 1) hx hb dX3_counted_113 (by decide) ?_
              refine lv_iadd hx hb dX3_counted_114 ?_
              refine lv_istore_n (lv' := [(2, .int ((zSum (fun u => if σ 12 u = -1 then nI 0 else nI 1) u) + (nI 1))), (3, .int (nI u)), (0, .ref (a 0)), (1, .int (nI 4))]) hx hb dX3_counted_115 rfl hl (by decide) rfl (fun ls hl => ?_)
              refine lv_iinc (v := nI (u + 1)) (lv' := [(3, .int (nI (u + 1))), (2, .int ((zSum (fun u => if σ 12 u = -1 then nI 0 else nI 1) u) + (nI 1))), (0, .ref (a 0)), (1, .int (nI 4))]) hx hb dX3_counted_116 hl (k := 1) rfl (nI_1 _) (by decide) rfl (fun ls hl => ?_)
              refine lv_goto (tgt := 76) hx hb dX3_counted_119 (by decide) ?_
              exact ih (u + 1) (by omega) (by omega) ls (by rw [show zSum (fun u => if σ 12 u = -1 then nI 0 else nI 1) (u + 1) = zSum (fun u => if σ 12 u = -1 then nI 0 else nI 1) u + nI 1 by show zSum (fun u => if σ 12 u = -1 then nI 0 else nI 1) u + (if σ 12 u = -1 then nI 0 else nI 1) = _; rw [if_neg c_3]]; exact (lv_sub hl [0, 1, 2, 3] rfl))
            · refine lv_iconst (v := nI 0) hx hb dX3_counted_109 (by decide) ?_
              refine lv_goto (tgt := 114) hx hb dX3_counted_110 (by decide) ?_
              refine lv_iadd hx hb dX3_counted_114 ?_
              refine lv_istore_n (lv' := [(2, .int ((zSum (fun u => if σ 12 u = -1 then nI 0 else nI 1) u) + (nI 0))), (3, .int (nI u)), (0, .ref (a 0)), (1, .int (nI 4))]) hx hb dX3_counted_115 rfl hl (by decide) rfl (fun ls hl => ?_)
              refine lv_iinc (v := nI (u + 1)) (lv' := [(3, .int (nI (u + 1))), (2, .int ((zSum (fun u => if σ 12 u = -1 then nI 0 else nI 1) u) + (nI 0))), (0, .ref (a 0)), (1, .int (nI 4))]) hx hb dX3_counted_116 hl (k := 1) rfl (nI_1 _) (by decide) rfl (fun ls hl => ?_)
              refine lv_goto (tgt := 76) hx hb dX3_counted_119 (by decide) ?_
              exact ih (u + 1) (by omega) (by omega) ls (by rw [show zSum (fun u => if σ 12 u = -1 then nI 0 else nI 1) (u + 1) = zSum (fun u => if σ 12 u = -1 then nI 0 else nI 1) u + nI 0 by show zSum (fun u => if σ 12 u = -1 then nI 0 else nI 1) u + (if σ 12 u = -1 then nI 0 else nI 1) = _; rw [if_pos c_3]]; exact (lv_sub hl [0, 1, 2, 3] rfl))
          · exact absurd c_2 (by decide)
    exact loop (zkP K + 1) 0 (by omega) (by omega) ls (lv_sub hl [0, 1, 2, 3] rfl)
  · refine lv_tableIn (off := 71) (tgt := 74) hx hb dX3_counted_3 (by decide) (by decide) (by decide) (by decide) ?_
    refine lv_iconst (v := nI 0) hx hb dX3_counted_74 (by decide) ?_
    refine lv_istore_n (lv' := [(3, .int (nI 0)), (2, .int (nI 0)), (0, .ref (a 0)), (1, .int (nI 5))]) hx hb dX3_counted_75 rfl hl (by decide) rfl (fun ls hl => ?_)
    have loop : ∀ (n : Nat) (u : Nat), (u ≤ zkP K) → (zkP K + 1 ≤ u + n) → ∀ (ls : Array Slot), lv_has ls 4 [(3, .int (nI u)), (2, .int (zSum (σ 10) u)), (0, .ref (a 0)), (1, .int (nI 5))] → W p l e (zRm 2 0 0) s m av below meth c s.heap [] 0 0 (MQ below (zRO (some (.int (zCnt K σ 5)))) av s 0 0 (fun _ => False)) (F0 m 76 ls []) := by
      intro n
      induction n with
      | zero =>
        intro u h1 h2
        exact absurd (And.intro h1 h2) (by omega)
      | succ n ih =>
        intro u h1 h2 ls hl
        refine lv_iload_n hx hb dX3_counted_76 rfl (lv_at hl 0 rfl) ?_
        refine lv_aload_n hx hb dX3_counted_77 rfl (lv_at hl 2 rfl) ?_
        refine zgM C hP 2 (by decide) q812 rfl rfl dX3_counted_78 ?_
        refine zn_ge (tgt := 122) C (by omega) (by omega) dX3_counted_81 (by decide) (fun c_4 => ?_) (fun c_4 => ?_)
        · have hk : u = zkP K := by omega
          subst hk
          refine lv_iload_n hx hb dX3_counted_122 rfl (lv_at hl 1 rfl) ?_
          exact ze_iretE C (rfl) dX3_counted_123
        · refine lv_iload_n hx hb dX3_counted_84 rfl (lv_at hl 1 rfl) ?_
          refine lv_iload_n hx hb dX3_counted_85 rfl (lv_at hl 3 rfl) ?_
          refine lv_iconst (v := nI 5) hx hb dX3_counted_86 (by decide) ?_
          refine zn_ne (tgt := 99) C (by decide) (by decide) dX3_counted_87 (by decide) (fun c_5 => ?_) (fun c_5 => ?_)
          · exact absurd rfl c_5
          · refine lv_aload_n hx hb dX3_counted_90 rfl (lv_at hl 2 rfl) ?_
            refine lv_iload_n hx hb dX3_counted_91 rfl (lv_at hl 0 rfl) ?_
            refine lv_iconst (v := nI 0) hx hb dX3_counted_92 (by decide) ?_
            refine zcV1 (As := [.int (nI u), .int (nI 0)]) (rest := [.int (zSum (σ 10) u)]) C (mo_pl l G a th K σ u 0 (σ 10 u) (by omega) (by omega) rfl) (lw_V q903 q905 qs19 q48 q906) hdX3_pl ⟨Nat.le_of_ble_eq_true rfl, Nat.le_of_ble_eq_true rfl⟩ (zrM hE hP) (hP) hl.1 rfl (Nat.le_of_ble_eq_true rfl) ⟨Nat.le_of_ble_eq_true rfl, Nat.le_of_ble_eq_true rfl⟩ dX3_counted_93 ?_
            refine lv_goto (tgt := 114) hx hb dX3_counted_96 (by decide) ?_
            refine lv_iadd hx hb dX3_counted_114 ?_
            refine lv_istore_n (lv' := [(2, .int ((zSum (σ 10) u) + (σ 10 u))), (3, .int (nI u)), (0, .ref (a 0)), (1, .int (nI 5))]) hx hb dX3_counted_115 rfl hl (by decide) rfl (fun ls hl => ?_)
            refine lv_iinc (v := nI (u + 1)) (lv' := [(3, .int (nI (u + 1))), (2, .int ((zSum (σ 10) u) + (σ 10 u))), (0, .ref (a 0)), (1, .int (nI 5))]) hx hb dX3_counted_116 hl (k := 1) rfl (nI_1 _) (by decide) rfl (fun ls hl => ?_)
            refine lv_goto (tgt := 76) hx hb dX3_counted_119 (by decide) ?_
            exact ih (u + 1) (by omega) (by omega) ls (lv_sub hl [0, 1, 2, 3] rfl)
    exact loop (zkP K + 1) 0 (by omega) (by omega) ls (lv_sub hl [0, 1, 2, 3] rfl)
  · refine lv_tableIn (off := 121) (tgt := 124) hx hb dX3_counted_3 (by decide) (by decide) (by decide) (by decide) ?_
    refine lv_aload_n hx hb dX3_counted_124 rfl (lv_at hl 1 rfl) ?_
    refine zcV1 (As := []) (rest := []) C (mo_boxes l G a th K σ hM8) (lw_V q1038 q1040 qs39 q48 q1041) hdX3_boxes ⟨Nat.le_of_ble_eq_true rfl, Nat.le_of_ble_eq_true rfl⟩ (zrM hE hP) (hP) hl.1 rfl (Nat.le_of_ble_eq_true rfl) ⟨Nat.le_of_ble_eq_true rfl, Nat.le_of_ble_eq_true rfl⟩ dX3_counted_125 ?_
    exact ze_iretE C (rfl) dX3_counted_128
  · refine lv_tableIn (off := 126) (tgt := 129) hx hb dX3_counted_3 (by decide) (by decide) (by decide) (by decide) ?_
    refine lv_iconst (v := nI 0) hx hb dX3_counted_129 (by decide) ?_
    refine lv_istore_n (lv' := [(3, .int (nI 0)), (2, .int (nI 0)), (0, .ref (a 0)), (1, .int (nI 7))]) hx hb dX3_counted_130 rfl hl (by decide) rfl (fun ls hl => ?_)
    have loop : ∀ (n : Nat) (k : Nat), (k ≤ zkM K) → (zkM K + 1 ≤ k + n) → ∀ (ls : Array Slot), lv_has ls 4 [(3, .int (nI k)), (2, .int (zSum (fun i => zOnL σ i) k)), (0, .ref (a 0)), (1, .int (nI 7))] → W p l e (zRm 2 0 0) s m av below meth c s.heap [] 0 0 (MQ below (zRO (some (.int (zCnt K σ 7)))) av s 0 0 (fun _ => False)) (F0 m 131 ls []) := by
      intro n
      induction n with
      | zero =>
        intro k h1 h2
        exact absurd (And.intro h1 h2) (by omega)
      | succ n ih =>
        intro k h1 h2 ls hl
        refine lv_iload_n hx hb dX3_counted_131 rfl (lv_at hl 0 rfl) ?_
        refine lv_aload_n hx hb dX3_counted_132 rfl (lv_at hl 2 rfl) ?_
        refine zgM C hP 1 (by decide) q811 rfl rfl dX3_counted_133 ?_
        refine zn_ge (tgt := 153) C (by omega) (by omega) dX3_counted_136 (by decide) (fun c_6 => ?_) (fun c_6 => ?_)
        · have hk : k = zkM K := by omega
          subst hk
          refine lv_iload_n hx hb dX3_counted_153 rfl (lv_at hl 1 rfl) ?_
          exact ze_iretE C (rfl) dX3_counted_154
        · refine lv_iload_n hx hb dX3_counted_139 rfl (lv_at hl 1 rfl) ?_
          refine lv_aload_n hx hb dX3_counted_140 rfl (lv_at hl 2 rfl) ?_
          refine lv_iload_n hx hb dX3_counted_141 rfl (lv_at hl 0 rfl) ?_
          refine zcV1 (As := [.int (nI k)]) (rest := [.int (zSum (fun i => zOnL σ i) k)]) C (mo_onLedge l G a th K σ k (by omega)) (lw_V q907 q909 qs20 q48 q910) hdX3_onLedge ⟨Nat.le_of_ble_eq_true rfl, Nat.le_of_ble_eq_true rfl⟩ (zrM hE hP) (hP) hl.1 rfl (Nat.le_of_ble_eq_true rfl) ⟨Nat.le_of_ble_eq_true rfl, Nat.le_of_ble_eq_true rfl⟩ dX3_counted_142 ?_
          refine lv_iadd hx hb dX3_counted_145 ?_
          refine lv_istore_n (lv' := [(2, .int ((zSum (fun i => zOnL σ i) k) + (zOnL σ k))), (3, .int (nI k)), (0, .ref (a 0)), (1, .int (nI 7))]) hx hb dX3_counted_146 rfl hl (by decide) rfl (fun ls hl => ?_)
          refine lv_iinc (v := nI (k + 1)) (lv' := [(3, .int (nI (k + 1))), (2, .int ((zSum (fun i => zOnL σ i) k) + (zOnL σ k))), (0, .ref (a 0)), (1, .int (nI 7))]) hx hb dX3_counted_147 hl (k := 1) rfl (nI_1 _) (by decide) rfl (fun ls hl => ?_)
          refine lv_goto (tgt := 131) hx hb dX3_counted_150 (by decide) ?_
          exact ih (k + 1) (by omega) (by omega) ls (lv_sub hl [0, 1, 2, 3] rfl)
    exact loop (zkM K + 1) 0 (by omega) (by omega) ls (lv_sub hl [0, 1, 2, 3] rfl)
  · refine lv_tableIn (off := 152) (tgt := 155) hx hb dX3_counted_3 (by decide) (by decide) (by decide) (by decide) ?_
    refine lv_aload_n hx hb dX3_counted_155 rfl (lv_at hl 1 rfl) ?_
    refine zgM C hP 10 (by decide) q820 rfl rfl dX3_counted_156 ?_
    refine lv_iconst (v := nI 1) hx hb dX3_counted_159 (by decide) ?_
    refine zn_ald C hP 7 rfl (by decide) (Nat.le_of_ble_eq_true rfl) dX3_counted_160 ?_
    exact ze_iretE C (rfl) dX3_counted_161
  · refine lv_tableOut (tgt := 162) hx hb dX3_counted_3 (Or.inr (by decide)) (by decide) ?_
    refine lv_aload_n hx hb dX3_counted_162 rfl (lv_at hl 1 rfl) ?_
    refine zgM C hP 10 (by decide) q820 rfl rfl dX3_counted_163 ?_
    refine lv_iconst (v := nI 2) hx hb dX3_counted_166 (by decide) ?_
    refine zn_ald C hP 7 rfl (by decide) (Nat.le_of_ble_eq_true rfl) dX3_counted_167 ?_
    exact ze_iretE C (rfl) dX3_counted_168

/-! the model: a turn, a repair, a round (printed by gen/m20.py) -/
set_option maxRecDepth 100000
set_option maxHeartbeats 4000000 in
theorem mo_turn (l : Launch) (G : zG) (a : Nat → Nat) (th : Int32) (K : zKt) (σ : zSt) (hI : zInj a 8) (u r : Nat) (hO : zOk K σ) (hu : u < zkP K) (hr : σ 22 0 = nI r) (hr31 : r < 2 ^ 31) : zMrw l yX3_turn cX3_turn 5 (some .int) 4 0 0 G [.ref (a 0), .int (nI u)] (zMP G a th K σ) (some (.int (zTurn K σ u).2)) (zMP G a th K (zTurn K σ u).1) (zA a 8) := by
  refine zMk [(0, .ref (a 0)), (1, .int (nI u))] (by decide) (Nat.le_of_ble_eq_true rfl) rfl ?_
  intro p e s m below meth c ls C hP hl _
  generalize ([.ref (a 0), .int (nI u)] : List Value).toArray = av at C ⊢
  have hx := C.1
  have hb := C.2.1
  have hml := C.2.2.1
  have hown := C.2.2.2.1
  have hts := C.2.2.2.2.1
  have hE := C.2.2.2.2.2.2.2
  have hS : va_S (zA a 8) s.heap s.heap [] := va_S.rf
  have hu10 : u < 10 := by have := hO.2.1; omega
  have hM8 := hO.1
  refine lv_aload_n hx hb dX3_turn_0 rfl (lv_at hl 0 rfl) ?_
  refine lv_iload_n hx hb dX3_turn_1 rfl (lv_at hl 1 rfl) ?_
  refine lv_iconst (v := nI 2) hx hb dX3_turn_2 (by decide) ?_
  refine zcV1 (As := [.int (nI u), .int (nI 2)]) (rest := []) C (mo_pl l G a th K σ u 2 (σ 12 u) (by omega) (by omega) rfl) (lw_V q903 q905 qs19 q48 q906) hdX3_pl ⟨Nat.le_of_ble_eq_true rfl, Nat.le_of_ble_eq_true rfl⟩ (zrM hE hP) (hP) hl.1 rfl (Nat.le_of_ble_eq_true rfl) ⟨Nat.le_of_ble_eq_true rfl, Nat.le_of_ble_eq_true rfl⟩ dX3_turn_3 ?_
  refine lv_istore_n (lv' := [(2, .int (σ 12 u)), (0, .ref (a 0)), (1, .int (nI u))]) hx hb dX3_turn_6 rfl hl (by decide) rfl (fun ls hl => ?_)
  refine lv_iload_n hx hb dX3_turn_7 rfl (lv_at hl 0 rfl) ?_
  refine lv_iconst (v := (-1)) hx hb dX3_turn_8 (by decide) ?_
  refine lv_icmp_ne (tgt := 32) hx hb dX3_turn_9 (by decide) (fun c_1 => ?_) (fun c_1 => ?_)
  · obtain ⟨i, hi, hA⟩ : ∃ i, i < zkM K ∧ σ 12 u = nI i := by
      rcases hO.2.2.2.1 u hu with h | h
      · exact absurd h c_1
      · exact h
    have hcl : (σ 12 u).toNatClampNeg = i := by rw [hA, nI_clamp (by omega)]
    have hl : lv_has ls 5 [(2, .int (nI i)), (0, .ref (a 0)), (1, .int (nI u))] := by rw [hA] at hl; exact hl
    refine lv_aload_n hx hb dX3_turn_32 rfl (lv_at hl 1 rfl) ?_
    refine lv_iload_n hx hb dX3_turn_33 rfl (lv_at hl 0 rfl) ?_
    refine zcV1 (As := [.int (nI i)]) (rest := []) C (mo_works l G a th K σ i (by omega)) (lw_V q966 q968 qs27 q48 q969) hdX3_works ⟨Nat.le_of_ble_eq_true rfl, Nat.le_of_ble_eq_true rfl⟩ (zrM hE hP) (hP) hl.1 rfl (Nat.le_of_ble_eq_true rfl) ⟨Nat.le_of_ble_eq_true rfl, Nat.le_of_ble_eq_true rfl⟩ dX3_turn_34 ?_
    refine zb_if (σ 6 i = 0) (tgt := 49) C rfl dX3_turn_37 (by decide) (fun c_2 => ?_) (fun c_2 => ?_)
    · refine lv_aload_n hx hb dX3_turn_49 rfl (lv_at hl 1 rfl) ?_
      refine lv_iload_n hx hb dX3_turn_50 rfl (lv_at hl 2 rfl) ?_
      refine lv_iconst (v := (-1)) hx hb dX3_turn_51 (by decide) ?_
      refine zwV0 (As := [.int (nI u), .int (-1)]) (rest := []) C (mo_to l G a th K σ hI u (-1) (by omega)) (lw_V q954 q956 qs25 q48 q957) hdX3_to ⟨Nat.le_of_ble_eq_true rfl, Nat.le_of_ble_eq_true rfl⟩ (zrM hE hP) (hP) hl.1 rfl (Nat.le_of_ble_eq_true rfl) ⟨Nat.le_of_ble_eq_true rfl, Nat.le_of_ble_eq_true rfl⟩ dX3_turn_52 hS (fun _ h => h) (fun H locs hP _ hS => ?_)
      refine lv_iconst (v := nI 0) hx hb dX3_turn_55 (by decide) ?_
      exact zw_iretE C (by unfold zTurn; rw [if_neg c_1, hcl, if_neg c_2]) (by unfold zTurn; rw [if_neg c_1, hcl, if_neg c_2]; exact hP) hS dX3_turn_56
    · refine lv_aload_n hx hb dX3_turn_40 rfl (lv_at hl 1 rfl) ?_
      refine lv_iload_n hx hb dX3_turn_41 rfl (lv_at hl 2 rfl) ?_
      refine lv_iconst (v := nI 0) hx hb dX3_turn_42 (by decide) ?_
      refine zcV1 (As := [.int (nI u), .int (nI 0)]) (rest := []) C (mo_pl l G a th K σ u 0 (σ 10 u) (by omega) (by omega) rfl) (lw_V q903 q905 qs19 q48 q906) hdX3_pl ⟨Nat.le_of_ble_eq_true rfl, Nat.le_of_ble_eq_true rfl⟩ (zrM hE hP) (hP) hl.1 rfl (Nat.le_of_ble_eq_true rfl) ⟨Nat.le_of_ble_eq_true rfl, Nat.le_of_ble_eq_true rfl⟩ dX3_turn_43 ?_
      refine lv_if_ne (tgt := 57) hx hb dX3_turn_46 (by decide) (fun c_3 => ?_) (fun c_3 => ?_)
      · refine lv_aload_n hx hb dX3_turn_57 rfl (lv_at hl 1 rfl) ?_
        refine lv_iload_n hx hb dX3_turn_58 rfl (lv_at hl 0 rfl) ?_
        refine zcV1 (As := [.int (nI i)]) (rest := []) C (mo_isTable l G a th K σ i (by omega)) (lw_V q880 q882 qs16 q48 q883) hdX3_isTable ⟨Nat.le_of_ble_eq_true rfl, Nat.le_of_ble_eq_true rfl⟩ (zrM hE hP) (hP) hl.1 rfl (Nat.le_of_ble_eq_true rfl) ⟨Nat.le_of_ble_eq_true rfl, Nat.le_of_ble_eq_true rfl⟩ dX3_turn_59 ?_
        refine zb_if (σ 0 i = 0) (tgt := 81) C rfl dX3_turn_62 (by decide) (fun c_4 => ?_) (fun c_4 => ?_)
        · refine lv_iconst (v := nI 0) hx hb dX3_turn_81 (by decide) ?_
          refine lv_istore_n (lv' := [(3, .int (nI 0)), (2, .int (nI i)), (0, .ref (a 0)), (1, .int (nI u))]) hx hb dX3_turn_82 rfl hl (by decide) rfl (fun ls hl => ?_)
          refine lv_aload_n hx hb dX3_turn_83 rfl (lv_at hl 2 rfl) ?_
          refine lv_iload_n hx hb dX3_turn_84 rfl (lv_at hl 3 rfl) ?_
          refine lv_iload_n hx hb dX3_turn_85 rfl (lv_at hl 1 rfl) ?_
          refine lv_iload_n hx hb dX3_turn_86 rfl (lv_at hl 0 rfl) ?_
          refine lv_aload_n hx hb dX3_turn_87 rfl (lv_at hl 2 rfl) ?_
          refine lv_iload_n hx hb dX3_turn_88 rfl (lv_at hl 1 rfl) ?_
          refine zcV1 (As := [.int (nI i)]) (rest := [.int (nI 0), .int (nI i), .int (nI u), .ref (a 0)]) C (mo_isTable l G a th K σ i (by omega)) (lw_V q880 q882 qs16 q48 q883) hdX3_isTable ⟨Nat.le_of_ble_eq_true rfl, Nat.le_of_ble_eq_true rfl⟩ (zrM hE hP) (hP) hl.1 rfl (Nat.le_of_ble_eq_true rfl) ⟨Nat.le_of_ble_eq_true rfl, Nat.le_of_ble_eq_true rfl⟩ dX3_turn_89 ?_
          refine zb_if (σ 0 i = 0) (tgt := 104) C rfl dX3_turn_92 (by decide) (fun c_5 => ?_) (fun c_5 => ?_)
          · refine lv_iconst (v := nI 0) hx hb dX3_turn_104 (by decide) ?_
            refine zwV1 (As := [.int (nI u), .int (nI i), .int (nI 0), .int (nI 0)]) (rest := []) C (mo_playAt l G a th K σ hI u i (nI 0) (nI 0) 0 (by omega) (by omega) (hO.2.2.1 i hi) (fun h => absurd h.1 c_4)) (lw_V q970 q972 qs28 q48 q973) hdX3_playAt ⟨Nat.le_of_ble_eq_true rfl, Nat.le_of_ble_eq_true rfl⟩ (zrM hE hP) (hP) hl.1 rfl (Nat.le_of_ble_eq_true rfl) ⟨Nat.le_of_ble_eq_true rfl, Nat.le_of_ble_eq_true rfl⟩ dX3_turn_105 hS (fun _ h => h) (fun H locs hP _ hS => ?_)
            have eT : zTurn K σ u = (zLv (zLs (zPlA K σ u i 0 (nI 0)).1 u (zPlA K σ u i 0 (nI 0)).2) u, (zPlA K σ u i 0 (nI 0)).2) := by unfold zTurn; rw [if_neg c_1, hcl, if_pos c_2, if_neg c_3]; unfold zTnP; rw [show zTl K σ i = nI 0 by unfold zTl; rw [if_neg c_4], show zCol σ i = 0 by unfold zCol; rw [if_neg c_4]]
            generalize zPlA K σ u i 0 (nI 0) = x at hP eT ⊢
            refine lv_istore (lv' := [(4, .int x.2), (3, .int (nI 0)), (2, .int (nI i)), (0, .ref (a 0)), (1, .int (nI u))]) hx hb dX3_turn_108 hl (by decide) rfl (fun ls hl => ?_)
            have join : ∀ (H : Heap) (locs : List Loc), zMP G a th K (zLs x.1 u x.2) H → va_S (zA a 8) s.heap H locs → W p l e (zRm 4 0 0) s m av below meth c H locs 0 0 (MQ below (zRW (some (.int (zTurn K σ u).2)) (zMP G a th K (zTurn K σ u).1) (zA a 8)) av s 0 0 (zA a 8)) (F0 m 133 ls []) := by
              intro H locs hP hS
              generalize e_s2 : zLs x.1 u x.2 = s2 at hP eT
              refine lv_aload_n hx hb dX3_turn_133 rfl (lv_at hl 3 rfl) ?_
              refine lv_iload_n hx hb dX3_turn_134 rfl (lv_at hl 4 rfl) ?_
              refine lv_iconst (v := nI 3) hx hb dX3_turn_135 (by decide) ?_
              refine zcV1 (As := [.int (nI u), .int (nI 3)]) (rest := []) C (mo_pl l G a th K s2 u 3 (s2 13 u) (by omega) (by omega) rfl) (lw_V q903 q905 qs19 q48 q906) hdX3_pl ⟨Nat.le_of_ble_eq_true rfl, Nat.le_of_ble_eq_true rfl⟩ (zrM hE hP) (hP) hl.1 rfl (Nat.le_of_ble_eq_true rfl) ⟨Nat.le_of_ble_eq_true rfl, Nat.le_of_ble_eq_true rfl⟩ dX3_turn_136 ?_
              refine lv_aload_n hx hb dX3_turn_139 rfl (lv_at hl 3 rfl) ?_
              refine lv_iload_n hx hb dX3_turn_140 rfl (lv_at hl 4 rfl) ?_
              refine lv_iconst (v := nI 1) hx hb dX3_turn_141 (by decide) ?_
              refine zcV1 (As := [.int (nI u), .int (nI 1)]) (rest := [.int (s2 13 u)]) C (mo_pl l G a th K s2 u 1 (s2 11 u) (by omega) (by omega) rfl) (lw_V q903 q905 qs19 q48 q906) hdX3_pl ⟨Nat.le_of_ble_eq_true rfl, Nat.le_of_ble_eq_true rfl⟩ (zrM hE hP) (hP) hl.1 rfl (Nat.le_of_ble_eq_true rfl) ⟨Nat.le_of_ble_eq_true rfl, Nat.le_of_ble_eq_true rfl⟩ dX3_turn_142 ?_
              refine lv_icmp_lt (tgt := 154) hx hb dX3_turn_145 (by decide) (fun c_6 => ?_) (fun c_6 => ?_)
              · refine lv_iload hx hb dX3_turn_154 (lv_at hl 0 rfl) ?_
                exact zw_iretE C (by rw [eT]) (by rw [eT]; show zMP G a th K (zLv s2 u) H; unfold zLv; rw [if_pos c_6]; exact hP) hS dX3_turn_156
              · refine lv_aload_n hx hb dX3_turn_148 rfl (lv_at hl 3 rfl) ?_
                refine lv_iload_n hx hb dX3_turn_149 rfl (lv_at hl 4 rfl) ?_
                refine lv_iconst (v := (-1)) hx hb dX3_turn_150 (by decide) ?_
                refine zwV0 (As := [.int (nI u), .int (-1)]) (rest := []) C (mo_to l G a th K s2 hI u (-1) (by omega)) (lw_V q954 q956 qs25 q48 q957) hdX3_to ⟨Nat.le_of_ble_eq_true rfl, Nat.le_of_ble_eq_true rfl⟩ (zrM hE hP) (hP) hl.1 rfl (Nat.le_of_ble_eq_true rfl) ⟨Nat.le_of_ble_eq_true rfl, Nat.le_of_ble_eq_true rfl⟩ dX3_turn_151 hS (fun _ h => h) (fun H locs hP _ hS => ?_)
                refine lv_iload hx hb dX3_turn_154 (lv_at hl 0 rfl) ?_
                exact zw_iretE C (by rw [eT]) (by rw [eT]; show zMP G a th K (zLv s2 u) H; unfold zLv; rw [if_neg c_6]; exact hP) hS dX3_turn_156
            refine lv_aload_n hx hb dX3_turn_110 rfl (lv_at hl 3 rfl) ?_
            refine lv_iload_n hx hb dX3_turn_111 rfl (lv_at hl 4 rfl) ?_
            refine lv_iconst (v := nI 3) hx hb dX3_turn_112 (by decide) ?_
            refine lv_iload hx hb dX3_turn_113 (lv_at hl 0 rfl) ?_
            refine lv_if_ne (tgt := 129) hx hb dX3_turn_115 (by decide) (fun c_7 => ?_) (fun c_7 => ?_)
            · refine lv_iconst (v := nI 0) hx hb dX3_turn_129 (by decide) ?_
              refine zwV0 (As := [.int (nI u), .int (nI 3), .int (nI 0)]) (rest := []) C (mo_setPl l G a th K x.1 hI u 3 (nI 0) (by omega) (by omega)) (lw_V q958 q960 qs26 q48 q961) hdX3_setPl ⟨Nat.le_of_ble_eq_true rfl, Nat.le_of_ble_eq_true rfl⟩ (zrM hE hP) (hP) hl.1 rfl (Nat.le_of_ble_eq_true rfl) ⟨Nat.le_of_ble_eq_true rfl, Nat.le_of_ble_eq_true rfl⟩ dX3_turn_130 hS (fun _ h => h) (fun H locs hP _ hS => ?_)
              have hP : zMP G a th K (zup x.1 13 u (nI 0)) H := hP
              exact join H locs (by unfold zLs; rw [if_neg c_7]; exact hP) hS
            · refine lv_aload_n hx hb dX3_turn_118 rfl (lv_at hl 3 rfl) ?_
              refine lv_iload_n hx hb dX3_turn_119 rfl (lv_at hl 4 rfl) ?_
              refine lv_iconst (v := nI 3) hx hb dX3_turn_120 (by decide) ?_
              refine zcV1 (As := [.int (nI u), .int (nI 3)]) (rest := [.int (nI 3), .int (nI u), .ref (a 0)]) C (mo_pl l G a th K x.1 u 3 (x.1 13 u) (by omega) (by omega) rfl) (lw_V q903 q905 qs19 q48 q906) hdX3_pl ⟨Nat.le_of_ble_eq_true rfl, Nat.le_of_ble_eq_true rfl⟩ (zrM hE hP) (hP) hl.1 rfl (Nat.le_of_ble_eq_true rfl) ⟨Nat.le_of_ble_eq_true rfl, Nat.le_of_ble_eq_true rfl⟩ dX3_turn_121 ?_
              refine lv_iconst (v := nI 1) hx hb dX3_turn_124 (by decide) ?_
              refine lv_iadd hx hb dX3_turn_125 ?_
              refine lv_goto (tgt := 130) hx hb dX3_turn_126 (by decide) ?_
              refine zwV0 (As := [.int (nI u), .int (nI 3), .int ((x.1 13 u) + (nI 1))]) (rest := []) C (mo_setPl l G a th K x.1 hI u 3 ((x.1 13 u) + (nI 1)) (by omega) (by omega)) (lw_V q958 q960 qs26 q48 q961) hdX3_setPl ⟨Nat.le_of_ble_eq_true rfl, Nat.le_of_ble_eq_true rfl⟩ (zrM hE hP) (hP) hl.1 rfl (Nat.le_of_ble_eq_true rfl) ⟨Nat.le_of_ble_eq_true rfl, Nat.le_of_ble_eq_true rfl⟩ dX3_turn_130 hS (fun _ h => h) (fun H locs hP _ hS => ?_)
              have hP : zMP G a th K (zup x.1 13 u ((x.1 13 u) + (nI 1))) H := hP
              exact join H locs (by unfold zLs; rw [if_pos c_7]; exact hP) hS
          · exact absurd c_5 c_4
        · have hT : zTab σ i := by
            rcases hO.2.2.1 i hi with h | h
            · exact h
            · exact absurd (h.1.symm.trans c_4) (by decide)
          have hw0 : 0 < zWd σ i := by have := hT.2.1; omega
          have hw9 : zWd σ i < 2 ^ 31 := by have := hT.2.2.1; omega
          refine lv_aload_n hx hb dX3_turn_65 rfl (lv_at hl 1 rfl) ?_
          refine zgM C hP 10 (by decide) q820 rfl rfl dX3_turn_66 ?_
          refine lv_iconst (v := nI 0) hx hb dX3_turn_69 (by decide) ?_
          refine zn_ald C hP 7 rfl (by decide) (Nat.le_of_ble_eq_true rfl) dX3_turn_70 ?_
          rw [hr]
          refine lv_aload_n hx hb dX3_turn_71 rfl (lv_at hl 1 rfl) ?_
          refine lv_iload_n hx hb dX3_turn_72 rfl (lv_at hl 0 rfl) ?_
          refine lv_iconst (v := nI 1) hx hb dX3_turn_73 (by decide) ?_
          refine zcV1 (As := [.int (nI i), .int (nI 1)]) (rest := [.int (nI r)]) C (mo_ma l G a th K σ i 1 (nI (zWd σ i)) (by omega) (by omega) hT.2.2.2.2.2.1) (lw_V q884 q886 qs17 q48 q887) hdX3_ma ⟨Nat.le_of_ble_eq_true rfl, Nat.le_of_ble_eq_true rfl⟩ (zrM hE hP) (hP) hl.1 rfl (Nat.le_of_ble_eq_true rfl) ⟨Nat.le_of_ble_eq_true rfl, Nat.le_of_ble_eq_true rfl⟩ dX3_turn_74 ?_
          refine zn_rem C hr31 hw0 hw9 dX3_turn_77 ?_
          refine lv_goto (tgt := 82) hx hb dX3_turn_78 (by decide) ?_
          refine lv_istore_n (lv' := [(3, .int (nI (r % zWd σ i))), (2, .int (nI i)), (0, .ref (a 0)), (1, .int (nI u))]) hx hb dX3_turn_82 rfl hl (by decide) rfl (fun ls hl => ?_)
          refine lv_aload_n hx hb dX3_turn_83 rfl (lv_at hl 2 rfl) ?_
          refine lv_iload_n hx hb dX3_turn_84 rfl (lv_at hl 3 rfl) ?_
          refine lv_iload_n hx hb dX3_turn_85 rfl (lv_at hl 1 rfl) ?_
          refine lv_iload_n hx hb dX3_turn_86 rfl (lv_at hl 0 rfl) ?_
          refine lv_aload_n hx hb dX3_turn_87 rfl (lv_at hl 2 rfl) ?_
          refine lv_iload_n hx hb dX3_turn_88 rfl (lv_at hl 1 rfl) ?_
          refine zcV1 (As := [.int (nI i)]) (rest := [.int (nI (r % zWd σ i)), .int (nI i), .int (nI u), .ref (a 0)]) C (mo_isTable l G a th K σ i (by omega)) (lw_V q880 q882 qs16 q48 q883) hdX3_isTable ⟨Nat.le_of_ble_eq_true rfl, Nat.le_of_ble_eq_true rfl⟩ (zrM hE hP) (hP) hl.1 rfl (Nat.le_of_ble_eq_true rfl) ⟨Nat.le_of_ble_eq_true rfl, Nat.le_of_ble_eq_true rfl⟩ dX3_turn_89 ?_
          refine zb_if (σ 0 i = 0) (tgt := 104) C rfl dX3_turn_92 (by decide) (fun c_8 => ?_) (fun c_8 => ?_)
          · exact absurd c_4 c_8
          · refine lv_aload_n hx hb dX3_turn_95 rfl (lv_at hl 2 rfl) ?_
            refine lv_iload_n hx hb dX3_turn_96 rfl (lv_at hl 1 rfl) ?_
            refine lv_iload_n hx hb dX3_turn_97 rfl (lv_at hl 0 rfl) ?_
            refine zcV1 (As := [.int (nI i), .int (nI (r % zWd σ i))]) (rest := [.int (nI (r % zWd σ i)), .int (nI i), .int (nI u), .ref (a 0)]) C (mo_best l G a th K σ i (r % zWd σ i) (by omega) hT (Nat.mod_lt _ hw0)) (lw_V q925 q927 qs22 q48 q928) hdX3_best ⟨Nat.le_of_ble_eq_true rfl, Nat.le_of_ble_eq_true rfl⟩ (zrM hE hP) (hP) hl.1 rfl (Nat.le_of_ble_eq_true rfl) ⟨Nat.le_of_ble_eq_true rfl, Nat.le_of_ble_eq_true rfl⟩ dX3_turn_98 ?_
            refine lv_goto (tgt := 105) hx hb dX3_turn_101 (by decide) ?_
            refine zwV1 (As := [.int (nI u), .int (nI i), .int (nI (r % zWd σ i)), .int (zBest K σ i (r % zWd σ i))]) (rest := []) C (mo_playAt l G a th K σ hI u i (nI (r % zWd σ i)) (zBest K σ i (r % zWd σ i)) (r % zWd σ i) (by omega) (by omega) (hO.2.2.1 i hi) (fun _ => ⟨rfl, Nat.mod_lt _ hw0⟩)) (lw_V q970 q972 qs28 q48 q973) hdX3_playAt ⟨Nat.le_of_ble_eq_true rfl, Nat.le_of_ble_eq_true rfl⟩ (zrM hE hP) (hP) hl.1 rfl (Nat.le_of_ble_eq_true rfl) ⟨Nat.le_of_ble_eq_true rfl, Nat.le_of_ble_eq_true rfl⟩ dX3_turn_105 hS (fun _ h => h) (fun H locs hP _ hS => ?_)
            have eT : zTurn K σ u = (zLv (zLs (zPlA K σ u i (r % zWd σ i) (zBest K σ i (r % zWd σ i))).1 u (zPlA K σ u i (r % zWd σ i) (zBest K σ i (r % zWd σ i))).2) u, (zPlA K σ u i (r % zWd σ i) (zBest K σ i (r % zWd σ i))).2) := by unfold zTurn; rw [if_neg c_1, hcl, if_pos c_2, if_neg c_3]; unfold zTnP; rw [show zTl K σ i = zBest K σ i (r % zWd σ i) by unfold zTl; rw [if_pos c_4, show zCol σ i = r % zWd σ i by unfold zCol; rw [if_pos c_4, hr, nI_clamp hr31]], show zCol σ i = r % zWd σ i by unfold zCol; rw [if_pos c_4, hr, nI_clamp hr31]]
            generalize zPlA K σ u i (r % zWd σ i) (zBest K σ i (r % zWd σ i)) = x at hP eT ⊢
            refine lv_istore (lv' := [(4, .int x.2), (3, .int (nI (r % zWd σ i))), (2, .int (nI i)), (0, .ref (a 0)), (1, .int (nI u))]) hx hb dX3_turn_108 hl (by decide) rfl (fun ls hl => ?_)
            have join : ∀ (H : Heap) (locs : List Loc), zMP G a th K (zLs x.1 u x.2) H → va_S (zA a 8) s.heap H locs → W p l e (zRm 4 0 0) s m av below meth c H locs 0 0 (MQ below (zRW (some (.int (zTurn K σ u).2)) (zMP G a th K (zTurn K σ u).1) (zA a 8)) av s 0 0 (zA a 8)) (F0 m 133 ls []) := by
              intro H locs hP hS
              generalize e_s2 : zLs x.1 u x.2 = s2 at hP eT
              refine lv_aload_n hx hb dX3_turn_133 rfl (lv_at hl 3 rfl) ?_
              refine lv_iload_n hx hb dX3_turn_134 rfl (lv_at hl 4 rfl) ?_
              refine lv_iconst (v := nI 3) hx hb dX3_turn_135 (by decide) ?_
              refine zcV1 (As := [.int (nI u), .int (nI 3)]) (rest := []) C (mo_pl l G a th K s2 u 3 (s2 13 u) (by omega) (by omega) rfl) (lw_V q903 q905 qs19 q48 q906) hdX3_pl ⟨Nat.le_of_ble_eq_true rfl, Nat.le_of_ble_eq_true rfl⟩ (zrM hE hP) (hP) hl.1 rfl (Nat.le_of_ble_eq_true rfl) ⟨Nat.le_of_ble_eq_true rfl, Nat.le_of_ble_eq_true rfl⟩ dX3_turn_136 ?_
              refine lv_aload_n hx hb dX3_turn_139 rfl (lv_at hl 3 rfl) ?_
              refine lv_iload_n hx hb dX3_turn_140 rfl (lv_at hl 4 rfl) ?_
              refine lv_iconst (v := nI 1) hx hb dX3_turn_141 (by decide) ?_
              refine zcV1 (As := [.int (nI u), .int (nI 1)]) (rest := [.int (s2 13 u)]) C (mo_pl l G a th K s2 u 1 (s2 11 u) (by omega) (by omega) rfl) (lw_V q903 q905 qs19 q48 q906) hdX3_pl ⟨Nat.le_of_ble_eq_true rfl, Nat.le_of_ble_eq_true rfl⟩ (zrM hE hP) (hP) hl.1 rfl (Nat.le_of_ble_eq_true rfl) ⟨Nat.le_of_ble_eq_true rfl, Nat.le_of_ble_eq_true rfl⟩ dX3_turn_142 ?_
              refine lv_icmp_lt (tgt := 154) hx hb dX3_turn_145 (by decide) (fun c_9 => ?_) (fun c_9 => ?_)
              · refine lv_iload hx hb dX3_turn_154 (lv_at hl 0 rfl) ?_
                exact zw_iretE C (by rw [eT]) (by rw [eT]; show zMP G a th K (zLv s2 u) H; unfold zLv; rw [if_pos c_9]; exact hP) hS dX3_turn_156
              · refine lv_aload_n hx hb dX3_turn_148 rfl (lv_at hl 3 rfl) ?_
                refine lv_iload_n hx hb dX3_turn_149 rfl (lv_at hl 4 rfl) ?_
                refine lv_iconst (v := (-1)) hx hb dX3_turn_150 (by decide) ?_
                refine zwV0 (As := [.int (nI u), .int (-1)]) (rest := []) C (mo_to l G a th K s2 hI u (-1) (by omega)) (lw_V q954 q956 qs25 q48 q957) hdX3_to ⟨Nat.le_of_ble_eq_true rfl, Nat.le_of_ble_eq_true rfl⟩ (zrM hE hP) (hP) hl.1 rfl (Nat.le_of_ble_eq_true rfl) ⟨Nat.le_of_ble_eq_true rfl, Nat.le_of_ble_eq_true rfl⟩ dX3_turn_151 hS (fun _ h => h) (fun H locs hP _ hS => ?_)
                refine lv_iload hx hb dX3_turn_154 (lv_at hl 0 rfl) ?_
                exact zw_iretE C (by rw [eT]) (by rw [eT]; show zMP G a th K (zLv s2 u) H; unfold zLv; rw [if_neg c_9]; exact hP) hS dX3_turn_156
            refine lv_aload_n hx hb dX3_turn_110 rfl (lv_at hl 3 rfl) ?_
            refine lv_iload_n hx hb dX3_turn_111 rfl (lv_at hl 4 rfl) ?_
            refine lv_iconst (v := nI 3) hx hb dX3_turn_112 (by decide) ?_
            refine lv_iload hx hb dX3_turn_113 (lv_at hl 0 rfl) ?_
            refine lv_if_ne (tgt := 129) hx hb dX3_turn_115 (by decide) (fun c_10 => ?_) (fun c_10 => ?_)
            · refine lv_iconst (v := nI 0) hx hb dX3_turn_129 (by decide) ?_
              refine zwV0 (As := [.int (nI u), .int (nI 3), .int (nI 0)]) (rest := []) C (mo_setPl l G a th K x.1 hI u 3 (nI 0) (by omega) (by omega)) (lw_V q958 q960 qs26 q48 q961) hdX3_setPl ⟨Nat.le_of_ble_eq_true rfl, Nat.le_of_ble_eq_true rfl⟩ (zrM hE hP) (hP) hl.1 rfl (Nat.le_of_ble_eq_true rfl) ⟨Nat.le_of_ble_eq_true rfl, Nat.le_of_ble_eq_true rfl⟩ dX3_turn_130 hS (fun _ h => h) (fun H locs hP _ hS => ?_)
              have hP : zMP G a th K (zup x.1 13 u (nI 0)) H := hP
              exact join H locs (by unfold zLs; rw [if_neg c_10]; exact hP) hS
            · refine lv_aload_n hx hb dX3_turn_118 rfl (lv_at hl 3 rfl) ?_
              refine lv_iload_n hx hb dX3_turn_119 rfl (lv_at hl 4 rfl) ?_
              refine lv_iconst (v := nI 3) hx hb dX3_turn_120 (by decide) ?_
              refine zcV1 (As := [.int (nI u), .int (nI 3)]) (rest := [.int (nI 3), .int (nI u), .ref (a 0)]) C (mo_pl l G a th K x.1 u 3 (x.1 13 u) (by omega) (by omega) rfl) (lw_V q903 q905 qs19 q48 q906) hdX3_pl ⟨Nat.le_of_ble_eq_true rfl, Nat.le_of_ble_eq_true rfl⟩ (zrM hE hP) (hP) hl.1 rfl (Nat.le_of_ble_eq_true rfl) ⟨Nat.le_of_ble_eq_true rfl, Nat.le_of_ble_eq_true rfl⟩ dX3_turn_121 ?_
              refine lv_iconst (v := nI 1) hx hb dX3_turn_124 (by decide) ?_
              refine lv_iadd hx hb dX3_turn_125 ?_
              refine lv_goto (tgt := 130) hx hb dX3_turn_126 (by decide) ?_
              refine zwV0 (As := [.int (nI u), .int (nI 3), .int ((x.1 13 u) + (nI 1))]) (rest := []) C (mo_setPl l G a th K x.1 hI u 3 ((x.1 13 u) + (nI 1)) (by omega) (by omega)) (lw_V q958 q960 qs26 q48 q961) hdX3_setPl ⟨Nat.le_of_ble_eq_true rfl, Nat.le_of_ble_eq_true rfl⟩ (zrM hE hP) (hP) hl.1 rfl (Nat.le_of_ble_eq_true rfl) ⟨Nat.le_of_ble_eq_true rfl, Nat.le_of_ble_eq_true rfl⟩ dX3_turn_130 hS (fun _ h => h) (fun H locs hP _ hS => ?_)
              have hP : zMP G a th K (zup x.1 13 u ((x.1 13 u) + (nI 1))) H := hP
              exact join H locs (by unfold zLs; rw [if_pos c_10]; exact hP) hS
      · refine lv_aload_n hx hb dX3_turn_49 rfl (lv_at hl 1 rfl) ?_
        refine lv_iload_n hx hb dX3_turn_50 rfl (lv_at hl 2 rfl) ?_
        refine lv_iconst (v := (-1)) hx hb dX3_turn_51 (by decide) ?_
        refine zwV0 (As := [.int (nI u), .int (-1)]) (rest := []) C (mo_to l G a th K σ hI u (-1) (by omega)) (lw_V q954 q956 qs25 q48 q957) hdX3_to ⟨Nat.le_of_ble_eq_true rfl, Nat.le_of_ble_eq_true rfl⟩ (zrM hE hP) (hP) hl.1 rfl (Nat.le_of_ble_eq_true rfl) ⟨Nat.le_of_ble_eq_true rfl, Nat.le_of_ble_eq_true rfl⟩ dX3_turn_52 hS (fun _ h => h) (fun H locs hP _ hS => ?_)
        refine lv_iconst (v := nI 0) hx hb dX3_turn_55 (by decide) ?_
        exact zw_iretE C (by unfold zTurn; rw [if_neg c_1, hcl, if_pos c_2, if_pos c_3]) (by unfold zTurn; rw [if_neg c_1, hcl, if_pos c_2, if_pos c_3]; exact hP) hS dX3_turn_56
  · refine lv_aload_n hx hb dX3_turn_12 rfl (lv_at hl 1 rfl) ?_
    refine lv_iload_n hx hb dX3_turn_13 rfl (lv_at hl 2 rfl) ?_
    refine lv_iconst (v := nI 0) hx hb dX3_turn_14 (by decide) ?_
    refine zcV1 (As := [.int (nI u), .int (nI 0)]) (rest := []) C (mo_pl l G a th K σ u 0 (σ 10 u) (by omega) (by omega) rfl) (lw_V q903 q905 qs19 q48 q906) hdX3_pl ⟨Nat.le_of_ble_eq_true rfl, Nat.le_of_ble_eq_true rfl⟩ (zrM hE hP) (hP) hl.1 rfl (Nat.le_of_ble_eq_true rfl) ⟨Nat.le_of_ble_eq_true rfl, Nat.le_of_ble_eq_true rfl⟩ dX3_turn_15 ?_
    refine lv_if_le (tgt := 30) hx hb dX3_turn_18 (by decide) (fun c_11 => ?_) (fun c_11 => ?_)
    · refine lv_iconst (v := nI 0) hx hb dX3_turn_30 (by decide) ?_
      exact zw_iretE C (by unfold zTurn; rw [if_pos c_1, if_pos c_11]) (by unfold zTurn; rw [if_pos c_1, if_pos c_11]; exact hP) hS dX3_turn_31
    · refine lv_aload_n hx hb dX3_turn_21 rfl (lv_at hl 1 rfl) ?_
      refine lv_iload_n hx hb dX3_turn_22 rfl (lv_at hl 2 rfl) ?_
      refine lv_aload_n hx hb dX3_turn_23 rfl (lv_at hl 1 rfl) ?_
      refine zcV1 (As := []) (rest := [.int (nI u), .ref (a 0)]) C (mo_lure l G a th K σ hM8) (lw_V q1018 q1020 qs35 q48 q1021) hdX3_lure ⟨Nat.le_of_ble_eq_true rfl, Nat.le_of_ble_eq_true rfl⟩ (zrM hE hP) (hP) hl.1 rfl (Nat.le_of_ble_eq_true rfl) ⟨Nat.le_of_ble_eq_true rfl, Nat.le_of_ble_eq_true rfl⟩ dX3_turn_24 ?_
      refine zwV0 (As := [.int (nI u), .int (zoI (zLu σ (zkM K)))]) (rest := []) C (mo_to l G a th K σ hI u (zoI (zLu σ (zkM K))) (by omega)) (lw_V q954 q956 qs25 q48 q957) hdX3_to ⟨Nat.le_of_ble_eq_true rfl, Nat.le_of_ble_eq_true rfl⟩ (zrM hE hP) (hP) hl.1 rfl (Nat.le_of_ble_eq_true rfl) ⟨Nat.le_of_ble_eq_true rfl, Nat.le_of_ble_eq_true rfl⟩ dX3_turn_27 hS (fun _ h => h) (fun H locs hP _ hS => ?_)
      refine lv_iconst (v := nI 0) hx hb dX3_turn_30 (by decide) ?_
      exact zw_iretE C (by unfold zTurn; rw [if_pos c_1, if_neg c_11]) (by unfold zTurn; rw [if_pos c_1, if_neg c_11]; exact hP) hS dX3_turn_31
set_option maxHeartbeats 4000000 in
theorem mo_repairOn (l : Launch) (G : zG) (a : Nat → Nat) (th : Int32) (K : zKt) (σ : zSt) (hI : zInj a 8) (hO : zOk K σ) : zMrw l yX3_repairOn cX3_repairOn 3 (none) 1 0 0 G [.ref (a 0)] (zMP G a th K σ) (none) (zMP G a th K (zRep K σ)) (zA a 8) := by
  refine zMk [(0, .ref (a 0))] (by decide) (Nat.le_of_ble_eq_true rfl) rfl ?_
  intro p e s m below meth c ls C hP hl _
  generalize ([.ref (a 0)] : List Value).toArray = av at C ⊢
  have hx := C.1
  have hb := C.2.1
  have hml := C.2.2.1
  have hown := C.2.2.2.1
  have hts := C.2.2.2.2.1
  have hE := C.2.2.2.2.2.2.2
  have hS : va_S (zA a 8) s.heap s.heap [] := va_S.rf
  obtain ⟨hM8, hP10, hTP, hat, q, hqM, hq, hrow⟩ := hO
  refine lv_aload_n hx hb dX3_repairOn_0 rfl (lv_at hl 0 rfl) ?_
  refine zgM C hP 10 (by decide) q820 rfl rfl dX3_repairOn_1 ?_
  refine lv_iconst (v := nI 1) hx hb dX3_repairOn_4 (by decide) ?_
  refine zn_ald C hP 7 rfl (by decide) (Nat.le_of_ble_eq_true rfl) dX3_repairOn_5 ?_
  rw [hq]
  refine zn_ifn0 (tgt := 10) C (by omega) dX3_repairOn_6 (by decide) (fun c_1 => ?_) (fun c_1 => ?_)
  · have hz : ¬ σ 22 1 = 0 := by rw [hq]; exact nI_ne0 (by omega) (by omega)
    obtain ⟨i, hi, hA⟩ := hrow 0 (by omega)
    have hcl : (σ 21 0).toNatClampNeg = i := by rw [hA, nI_clamp (by omega)]
    refine lv_aload_n hx hb dX3_repairOn_10 rfl (lv_at hl 0 rfl) ?_
    refine zgM C hP 9 (by decide) q819 rfl rfl dX3_repairOn_11 ?_
    refine lv_iconst (v := nI 0) hx hb dX3_repairOn_14 (by decide) ?_
    refine zn_ald C hP 6 rfl (by decide) (Nat.le_of_ble_eq_true rfl) dX3_repairOn_15 ?_
    rw [hA]
    refine lv_istore_n (lv' := [(1, .int (nI i)), (0, .ref (a 0))]) hx hb dX3_repairOn_16 rfl hl (by decide) rfl (fun ls hl => ?_)
    have join : ∀ (H : Heap) (locs : List Loc), zMP G a th K (zR1 K σ i) H → va_S (zA a 8) s.heap H locs → W p l e (zRm 1 0 0) s m av below meth c H locs 0 0 (MQ below (zRW (none) (zMP G a th K (zRep K σ)) (zA a 8)) av s 0 0 (zA a 8)) (F0 m 52 ls []) := by
      intro H locs hP hS
      have hq1 : zR1 K σ i 22 1 = nI q := by rw [zR1_k (Or.inr (by decide)), hq]
      generalize e_s1 : zR1 K σ i = s1 at hP hq1
      refine lv_aload_n hx hb dX3_repairOn_52 rfl (lv_at hl 1 rfl) ?_
      refine zgM C hP 10 (by decide) q820 rfl rfl dX3_repairOn_53 ?_
      refine lv_iconst (v := nI 2) hx hb dX3_repairOn_56 (by decide) ?_
      refine lv_dup2_11 hx hb dX3_repairOn_57 rfl rfl ?_
      refine zn_ald C hP 7 rfl (by decide) (Nat.le_of_ble_eq_true rfl) dX3_repairOn_58 ?_
      refine lv_iconst (v := nI 1) hx hb dX3_repairOn_59 (by decide) ?_
      refine lv_isub hx hb dX3_repairOn_60 ?_
      refine zn_ast C hP (zM_D hI (fun _ h => h)) hS 7 rfl (by decide) (Nat.le_of_ble_eq_true rfl) dX3_repairOn_61 (fun H locs hP hS => ?_)
      rw [zM_nu] at hP
      have hP : zMP G a th K (zup s1 22 2 ((s1 22 2) - (nI 1))) H := hP
      have hP : zMP G a th K (zR2 s1) H := hP
      generalize e_s2 : zR2 s1 = s2 at hP
      have hq2 : s2 22 1 = nI q := by rw [← e_s2, zR2_k (Or.inr (by decide)), hq1]
      refine lv_aload_n hx hb dX3_repairOn_62 rfl (lv_at hl 1 rfl) ?_
      refine zgM C hP 10 (by decide) q820 rfl rfl dX3_repairOn_63 ?_
      refine lv_iconst (v := nI 2) hx hb dX3_repairOn_66 (by decide) ?_
      refine zn_ald C hP 7 rfl (by decide) (Nat.le_of_ble_eq_true rfl) dX3_repairOn_67 ?_
      refine lv_if_le (tgt := 72) hx hb dX3_repairOn_68 (by decide) (fun c_2 => ?_) (fun c_2 => ?_)
      · refine lv_aload_n hx hb dX3_repairOn_72 rfl (lv_at hl 1 rfl) ?_
        refine lv_iload_n hx hb dX3_repairOn_73 rfl (lv_at hl 0 rfl) ?_
        refine lv_iconst (v := nI 5) hx hb dX3_repairOn_74 (by decide) ?_
        refine lv_iconst (v := nI 0) hx hb dX3_repairOn_75 (by decide) ?_
        refine zwV0 (As := [.int (nI i), .int (nI 5), .int (nI 0)]) (rest := []) C (mo_setMa l G a th K s2 hI i 5 (nI 0) (by omega) (by omega)) (lw_V q974 q976 qs29 q48 q977) hdX3_setMa ⟨Nat.le_of_ble_eq_true rfl, Nat.le_of_ble_eq_true rfl⟩ (zrM hE hP) (hP) hl.1 rfl (Nat.le_of_ble_eq_true rfl) ⟨Nat.le_of_ble_eq_true rfl, Nat.le_of_ble_eq_true rfl⟩ dX3_repairOn_76 hS (fun _ h => h) (fun H locs hP _ hS => ?_)
        refine lv_aload_n hx hb dX3_repairOn_79 rfl (lv_at hl 1 rfl) ?_
        refine lv_iload_n hx hb dX3_repairOn_80 rfl (lv_at hl 0 rfl) ?_
        refine lv_bipush (v := nI 6) hx hb dX3_repairOn_81 (by decide) ?_
        refine lv_iconst (v := nI 0) hx hb dX3_repairOn_83 (by decide) ?_
        refine zwV0 (As := [.int (nI i), .int (nI 6), .int (nI 0)]) (rest := []) C (mo_setMa l G a th K (zup s2 5 i (nI 0)) hI i 6 (nI 0) (by omega) (by omega)) (lw_V q974 q976 qs29 q48 q977) hdX3_setMa ⟨Nat.le_of_ble_eq_true rfl, Nat.le_of_ble_eq_true rfl⟩ (zrM hE hP) (hP) hl.1 rfl (Nat.le_of_ble_eq_true rfl) ⟨Nat.le_of_ble_eq_true rfl, Nat.le_of_ble_eq_true rfl⟩ dX3_repairOn_84 hS (fun _ h => h) (fun H locs hP _ hS => ?_)
        have hP : zMP G a th K (zR3 s2 i) H := hP
        generalize e_s3 : zR3 s2 i = s3 at hP
        have hq3 : s3 22 1 = nI q := by rw [← e_s3, zR3_k (by decide) (by decide), hq2]
        refine lv_aload_n hx hb dX3_repairOn_87 rfl (lv_at hl 1 rfl) ?_
        refine zgM C hP 10 (by decide) q820 rfl rfl dX3_repairOn_88 ?_
        refine lv_iconst (v := nI 1) hx hb dX3_repairOn_91 (by decide) ?_
        refine lv_dup2_11 hx hb dX3_repairOn_92 rfl rfl ?_
        refine zn_ald C hP 7 rfl (by decide) (Nat.le_of_ble_eq_true rfl) dX3_repairOn_93 ?_
        rw [hq3]
        refine lv_iconst (v := nI 1) hx hb dX3_repairOn_94 (by decide) ?_
        refine zn_sub C (by omega) dX3_repairOn_95 ?_
        refine zn_ast C hP (zM_D hI (fun _ h => h)) hS 7 rfl (by decide) (Nat.le_of_ble_eq_true rfl) dX3_repairOn_96 (fun H locs hP hS => ?_)
        rw [zM_nu] at hP
        have hP : zMP G a th K (zup s3 22 1 (nI (q - 1))) H := hP
        have hP : zMP G a th K (zup s3 22 1 (nI (q - 1))) H := hP
        generalize e_s4 : zup s3 22 1 (nI (q - 1)) = s4 at hP
        refine lv_iconst (v := nI 0) hx hb dX3_repairOn_97 (by decide) ?_
        refine lv_istore_n (lv' := [(2, .int (nI 0)), (1, .int (nI i)), (0, .ref (a 0))]) hx hb dX3_repairOn_98 rfl hl (by decide) rfl (fun ls hl => ?_)
        have loop : ∀ (n : Nat) (k : Nat), (k ≤ q - 1) → (q ≤ k + n) → ∀ (H : Heap) (locs : List Loc), zMP G a th K (zShf s4 k) H → va_S (zA a 8) s.heap H locs → ∀ (ls : Array Slot), lv_has ls 3 [(2, .int (nI k)), (0, .ref (a 0)), (1, .int (nI i))] → W p l e (zRm 1 0 0) s m av below meth c H locs 0 0 (MQ below (zRW (none) (zMP G a th K (zRep K σ)) (zA a 8)) av s 0 0 (zA a 8)) (F0 m 99 ls []) := by
          intro n
          induction n with
          | zero =>
            intro k h8 h9
            exact absurd (And.intro h8 h9) (by omega)
          | succ n ih =>
            intro k h8 h9 H locs hP hS ls hl
            refine lv_iload_n hx hb dX3_repairOn_99 rfl (lv_at hl 0 rfl) ?_
            refine lv_aload_n hx hb dX3_repairOn_100 rfl (lv_at hl 1 rfl) ?_
            refine zgM C hP 10 (by decide) q820 rfl rfl dX3_repairOn_101 ?_
            refine lv_iconst (v := nI 1) hx hb dX3_repairOn_104 (by decide) ?_
            refine zn_ald C hP 7 rfl (by decide) (Nat.le_of_ble_eq_true rfl) dX3_repairOn_105 ?_
            rw [zShf_k (show (22 : Nat) ≠ 21 by decide), ← e_s4, zup_s]
            refine zn_ge (tgt := 129) C (by omega) (by omega) dX3_repairOn_106 (by decide) (fun c_3 => ?_) (fun c_3 => ?_)
            · have hk : k = q - 1 := by omega
              subst hk
              exact zw_vret C (by unfold zRep; rw [if_neg hz, hcl, e_s1, e_s2, if_pos c_2, e_s3]; unfold zR4; rw [hq3, nI_clamp (by omega), e_s4]; exact hP) hS dX3_repairOn_129
            · refine lv_aload_n hx hb dX3_repairOn_109 rfl (lv_at hl 1 rfl) ?_
              refine zgM C hP 9 (by decide) q819 rfl rfl dX3_repairOn_110 ?_
              refine lv_iload_n hx hb dX3_repairOn_113 rfl (lv_at hl 0 rfl) ?_
              refine lv_aload_n hx hb dX3_repairOn_114 rfl (lv_at hl 1 rfl) ?_
              refine zgM C hP 9 (by decide) q819 rfl rfl dX3_repairOn_115 ?_
              refine lv_iload_n hx hb dX3_repairOn_118 rfl (lv_at hl 0 rfl) ?_
              refine lv_iconst (v := nI 1) hx hb dX3_repairOn_119 (by decide) ?_
              refine zn_add C dX3_repairOn_120 ?_
              refine zn_ald C hP 6 rfl (by omega) (Nat.le_of_ble_eq_true rfl) dX3_repairOn_121 ?_
              rw [zShf_hi (by omega)]
              refine zn_ast C hP (zM_D hI (fun _ h => h)) hS 6 rfl (by omega) (Nat.le_of_ble_eq_true rfl) dX3_repairOn_122 (fun H locs hP hS => ?_)
              rw [zM_ro] at hP
              have hP : zMP G a th K (zup (zShf s4 k) 21 k (s4 21 (k + 1))) H := hP
              rw [zShf_s] at hP
              refine lv_iinc (v := nI (k + 1)) (lv' := [(2, .int (nI (k + 1))), (0, .ref (a 0)), (1, .int (nI i))]) hx hb dX3_repairOn_123 hl (k := 0) rfl (nI_1 _) (by decide) rfl (fun ls hl => ?_)
              refine lv_goto (tgt := 99) hx hb dX3_repairOn_126 (by decide) ?_
              exact ih (k + 1) (by omega) (by omega) H locs hP hS ls (lv_sub hl [0, 1, 2] rfl)
        exact loop q 0 (by omega) (by omega) H locs (by rw [zShf_0]; exact hP) hS ls (lv_sub hl [0, 2, 1] rfl)
      · exact zw_vret C (by unfold zRep; rw [if_neg hz, hcl, e_s1, e_s2, if_neg c_2]; exact hP) hS dX3_repairOn_71
    refine lv_aload_n hx hb dX3_repairOn_17 rfl (lv_at hl 1 rfl) ?_
    refine zgM C hP 10 (by decide) q820 rfl rfl dX3_repairOn_18 ?_
    refine lv_iconst (v := nI 2) hx hb dX3_repairOn_21 (by decide) ?_
    refine zn_ald C hP 7 rfl (by decide) (Nat.le_of_ble_eq_true rfl) dX3_repairOn_22 ?_
    refine lv_if_ne (tgt := 52) hx hb dX3_repairOn_23 (by decide) (fun c_4 => ?_) (fun c_4 => ?_)
    · exact join _ _ (by unfold zR1; rw [if_neg c_4]; exact hP) hS
    · refine lv_aload_n hx hb dX3_repairOn_26 rfl (lv_at hl 1 rfl) ?_
      refine zgM C hP 10 (by decide) q820 rfl rfl dX3_repairOn_27 ?_
      refine lv_iconst (v := nI 2) hx hb dX3_repairOn_30 (by decide) ?_
      refine lv_iconst (v := nI 1) hx hb dX3_repairOn_31 (by decide) ?_
      refine lv_aload_n hx hb dX3_repairOn_32 rfl (lv_at hl 1 rfl) ?_
      refine lv_iload_n hx hb dX3_repairOn_33 rfl (lv_at hl 0 rfl) ?_
      refine lv_iconst (v := nI 5) hx hb dX3_repairOn_34 (by decide) ?_
      refine zcV1 (As := [.int (nI i), .int (nI 5)]) (rest := [.int (nI 1), .int (nI 2), .ref (a 7)]) C (mo_ma l G a th K σ i 5 (σ 5 i) (by omega) (by omega) rfl) (lw_V q884 q886 qs17 q48 q887) hdX3_ma ⟨Nat.le_of_ble_eq_true rfl, Nat.le_of_ble_eq_true rfl⟩ (zrM hE hP) (hP) hl.1 rfl (Nat.le_of_ble_eq_true rfl) ⟨Nat.le_of_ble_eq_true rfl, Nat.le_of_ble_eq_true rfl⟩ dX3_repairOn_35 ?_
      refine lv_bipush (v := nI 10) hx hb dX3_repairOn_38 (by decide) ?_
      refine lv_idiv hx hb dX3_repairOn_40 (by decide) ?_
      refine lv_iconst (v := nI 1) hx hb dX3_repairOn_41 (by decide) ?_
      refine lv_iadd hx hb dX3_repairOn_42 ?_
      refine lv_aload_n hx hb dX3_repairOn_43 rfl (lv_at hl 1 rfl) ?_
      refine zgM C hP 3 (by decide) q813 rfl rfl dX3_repairOn_44 ?_
      refine lv_isub hx hb dX3_repairOn_47 ?_
      refine va_mmax hx hb (hml.trans hl.1.symm) hown (hts _ q920) (hts _ q423) (hts _ q57) (hts _ q424) (Nat.le_of_ble_eq_true rfl) (Nat.le_of_ble_eq_true rfl) (Nat.le_of_ble_eq_true rfl) (Nat.le_of_ble_eq_true rfl) dX3_repairOn_48 ?_
      refine zn_ast C hP (zM_D hI (fun _ h => h)) hS 7 rfl (by decide) (Nat.le_of_ble_eq_true rfl) dX3_repairOn_51 (fun H locs hP hS => ?_)
      rw [zM_nu] at hP
      have hP : zMP G a th K (zup σ 22 2 (if (nI 1) < ((((σ 5 i) / (nI 10)) + (nI 1)) - (zkS K)) then ((((σ 5 i) / (nI 10)) + (nI 1)) - (zkS K)) else (nI 1))) H := hP
      exact join _ _ (by unfold zR1; rw [if_pos c_4]; exact hP) hS
  · subst c_1
    exact zw_vret C (by unfold zRep; rw [if_pos (show σ 22 1 = 0 from hq)]; exact hP) hS dX3_repairOn_9
set_option maxHeartbeats 4000000 in
theorem mo_roundOn (l : Launch) (G : zG) (a : Nat → Nat) (th : Int32) (K : zKt) (σ : zSt) (hI : zInj a 8) (r : Nat) (hO : zOk K σ) (hr : σ 22 0 = nI r) (hr31 : r < 2 ^ 31) : zMrw l yX3_roundOn cX3_roundOn 3 (some .int) 5 0 0 G [.ref (a 0)] (zMP G a th K σ) (some (.int (zRound K σ).2)) (zMP G a th K (zRound K σ).1) (zA a 8) := by
  refine zMk [(0, .ref (a 0))] (by decide) (Nat.le_of_ble_eq_true rfl) rfl ?_
  intro p e s m below meth c ls C hP hl _
  generalize ([.ref (a 0)] : List Value).toArray = av at C ⊢
  have hx := C.1
  have hb := C.2.1
  have hml := C.2.2.1
  have hown := C.2.2.2.1
  have hts := C.2.2.2.2.1
  have hE := C.2.2.2.2.2.2.2
  have hS : va_S (zA a 8) s.heap s.heap [] := va_S.rf
  refine lv_iconst (v := nI 0) hx hb dX3_roundOn_0 (by decide) ?_
  refine lv_istore_n (lv' := [(1, .int (nI 0)), (0, .ref (a 0))]) hx hb dX3_roundOn_1 rfl hl (by decide) rfl (fun ls hl => ?_)
  refine lv_iconst (v := nI 0) hx hb dX3_roundOn_2 (by decide) ?_
  refine lv_istore_n (lv' := [(2, .int (nI 0)), (1, .int (nI 0)), (0, .ref (a 0))]) hx hb dX3_roundOn_3 rfl hl (by decide) rfl (fun ls hl => ?_)
  have loop : ∀ (n : Nat) (u : Nat), (u ≤ zkP K) → (zkP K + 1 ≤ u + n) → ∀ (H : Heap) (locs : List Loc), zMP G a th K (zTurns K σ u).1 H → va_S (zA a 8) s.heap H locs → ∀ (ls : Array Slot), lv_has ls 3 [(2, .int (nI u)), (1, .int ((zTurns K σ u).2)), (0, .ref (a 0))] → W p l e (zRm 5 0 0) s m av below meth c H locs 0 0 (MQ below (zRW (some (.int (zRound K σ).2)) (zMP G a th K (zRound K σ).1) (zA a 8)) av s 0 0 (zA a 8)) (F0 m 4 ls []) := by
    intro n
    induction n with
    | zero =>
      intro u h1 h2
      exact absurd (And.intro h1 h2) (by omega)
    | succ n ih =>
      intro u h1 h2 H locs hP hS ls hl
      have hO1 := zTurns_ok hO u
      have hr1 : (zTurns K σ u).1 22 0 = nI r := by rw [zTurns_k (by decide), hr]
      have hP10 := hO.2.1
      refine lv_iload_n hx hb dX3_roundOn_4 rfl (lv_at hl 0 rfl) ?_
      refine lv_aload_n hx hb dX3_roundOn_5 rfl (lv_at hl 2 rfl) ?_
      refine zgM C hP 2 (by decide) q812 rfl rfl dX3_roundOn_6 ?_
      refine zn_ge (tgt := 26) C (by omega) (by omega) dX3_roundOn_9 (by decide) (fun c_1 => ?_) (fun c_1 => ?_)
      · have hk : u = zkP K := by omega
        subst hk
        refine lv_aload_n hx hb dX3_roundOn_26 rfl (lv_at hl 2 rfl) ?_
        refine zwV0 (As := []) (rest := []) C (mo_repairOn l G a th K _ hI hO1) (lw_V q1022 q1024 qs36 q48 q1025) hdX3_repairOn ⟨Nat.le_of_ble_eq_true rfl, Nat.le_of_ble_eq_true rfl⟩ (zrM hE hP) (hP) hl.1 rfl (Nat.le_of_ble_eq_true rfl) ⟨Nat.le_of_ble_eq_true rfl, Nat.le_of_ble_eq_true rfl⟩ dX3_roundOn_27 hS (fun _ h => h) (fun H locs hP _ hS => ?_)
        have hP : zMP G a th K (zRep K (zTurns K σ (zkP K)).1) H := hP
        generalize e_s1 : zRep K (zTurns K σ (zkP K)).1 = s1 at hP
        refine lv_aload_n hx hb dX3_roundOn_30 rfl (lv_at hl 2 rfl) ?_
        refine zgM C hP 10 (by decide) q820 rfl rfl dX3_roundOn_31 ?_
        refine lv_iconst (v := nI 0) hx hb dX3_roundOn_34 (by decide) ?_
        refine lv_dup2_11 hx hb dX3_roundOn_35 rfl rfl ?_
        refine zn_ald C hP 7 rfl (by decide) (Nat.le_of_ble_eq_true rfl) dX3_roundOn_36 ?_
        refine lv_iconst (v := nI 1) hx hb dX3_roundOn_37 (by decide) ?_
        refine lv_iadd hx hb dX3_roundOn_38 ?_
        refine zn_ast C hP (zM_D hI (fun _ h => h)) hS 7 rfl (by decide) (Nat.le_of_ble_eq_true rfl) dX3_roundOn_39 (fun H locs hP hS => ?_)
        rw [zM_nu] at hP
        have hP : zMP G a th K (zup s1 22 0 ((s1 22 0) + (nI 1))) H := hP
        refine lv_iload_n hx hb dX3_roundOn_40 rfl (lv_at hl 1 rfl) ?_
        exact zw_iretE C (rfl) (by show zMP G a th K (zRnd (zRep K (zTurns K σ (zkP K)).1)) H; rw [e_s1]; exact hP) hS dX3_roundOn_41
      · refine lv_iload_n hx hb dX3_roundOn_12 rfl (lv_at hl 1 rfl) ?_
        refine lv_aload_n hx hb dX3_roundOn_13 rfl (lv_at hl 2 rfl) ?_
        refine lv_iload_n hx hb dX3_roundOn_14 rfl (lv_at hl 0 rfl) ?_
        refine zwV1 (As := [.int (nI u)]) (rest := [.int ((zTurns K σ u).2)]) C (mo_turn l G a th K (zTurns K σ u).1 hI u r hO1 (by omega) hr1 hr31) (lw_V q1014 q1016 qs34 q48 q1017) hdX3_turn ⟨Nat.le_of_ble_eq_true rfl, Nat.le_of_ble_eq_true rfl⟩ (zrM hE hP) (hP) hl.1 rfl (Nat.le_of_ble_eq_true rfl) ⟨Nat.le_of_ble_eq_true rfl, Nat.le_of_ble_eq_true rfl⟩ dX3_roundOn_15 hS (fun _ h => h) (fun H locs hP _ hS => ?_)
        refine lv_iadd hx hb dX3_roundOn_18 ?_
        refine lv_istore_n (lv' := [(1, .int (((zTurns K σ u).2) + ((zTurn K (zTurns K σ u).1 u).2))), (2, .int (nI u)), (0, .ref (a 0))]) hx hb dX3_roundOn_19 rfl hl (by decide) rfl (fun ls hl => ?_)
        refine lv_iinc (v := nI (u + 1)) (lv' := [(2, .int (nI (u + 1))), (1, .int (((zTurns K σ u).2) + ((zTurn K (zTurns K σ u).1 u).2))), (0, .ref (a 0))]) hx hb dX3_roundOn_20 hl (k := 1) rfl (nI_1 _) (by decide) rfl (fun ls hl => ?_)
        refine lv_goto (tgt := 4) hx hb dX3_roundOn_23 (by decide) ?_
        exact ih (u + 1) (by omega) (by omega) H locs hP hS ls (lv_sub hl [0, 1, 2] rfl)
  exact loop (zkP K + 1) 0 (by omega) (by omega) s.heap [] hP hS ls (lv_sub hl [0, 1, 2] rfl)

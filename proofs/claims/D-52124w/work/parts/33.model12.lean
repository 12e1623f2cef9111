/-! the model: looking ahead, advice (printed by gen/m33.py) -/
set_option maxRecDepth 100000
theorem zM1n {n : Nat} (h : n < 2 ^ 31) : ¬ nI n ≤ -1 := by
  rw [Int32.le_iff_toInt_le, nI_toInt h]
  have : ((-1 : Int32)).toInt = -1 := by decide
  omega
def zMKP (G : zG) (a k : Nat → Nat) (th : Int32) (K : zKt) (τ σ : zSt) (H : Heap) : Prop := zMP G a th K τ H ∧ va_P G.1 zCl (zKp6 G k σ) H
theorem zAk_in {a k : Nat → Nat} {sz sz' : Nat} (h : ∀ j, j < 6 → zAs a 8 sz (k j)) (hle : sz ≤ sz') : ∀ q, zAk a k sz' q → zAs a 8 sz q := fun q hq => by
  rcases hq with h1 | ⟨j, hj, e⟩ | h1
  · exact Or.inl h1
  · rw [e]; exact h j hj
  · exact Or.inr (Nat.le_trans hle h1)
set_option maxHeartbeats 4000000 in
theorem mo_foresee (l : Launch) (G : zG) (a : Nat → Nat) (th : Int32) (K : zKt) (σ : zSt) (hI : zInj a 8) (sz : Nat) (rv wv : Int32) (r : Nat) (hO : zOk K σ) (hr : σ 22 0 = nI r) (hr31 : r + 200 < 2 ^ 31) : zMrw l yX3_foresee cX3_foresee 6 (some .int) 6 7 193 G [.ref (a 0), .int rv, .int wv] (zMPz sz G a th K σ) (some (.int (oForesee K σ rv wv).2.1)) (zMP G a (oForesee K σ rv wv).1 (oForesee K σ rv wv).2.2.1 (oForesee K σ rv wv).2.2.2) (zAs a 8 sz) := by
  refine zMk [(0, .ref (a 0)), (1, .int rv), (2, .int wv)] (by decide) (Nat.le_of_ble_eq_true rfl) rfl ?_
  intro p e s m below meth c ls C hP hl _
  generalize ([.ref (a 0), .int rv, .int wv] : List Value).toArray = av at C ⊢
  have hx := C.1
  have hb := C.2.1
  have hml := C.2.2.1
  have hown := C.2.2.2.1
  have hts := C.2.2.2.2.1
  have hE := C.2.2.2.2.2.2.2
  have hS : va_S (zAs a 8 sz) s.heap s.heap [] := va_S.rf
  obtain ⟨hsz, hP⟩ := hP
  subst hsz
  refine lv_aload_n hx hb dX3_foresee_0 rfl (lv_at hl 0 rfl) ?_
  refine lv_iconst (v := nI 0) hx hb dX3_foresee_1 (by decide) ?_
  refine zpM (th' := (nI 0)) (K' := K) C hI zAs.in hP hS 0 (by decide) q810 rfl rfl (zpd 0 (by decide)) rfl ⟨rfl, rfl⟩ dX3_foresee_2 (fun H locs hP hS => ?_)
  refine lv_iload_n hx hb dX3_foresee_5 rfl (lv_at hl 1 rfl) ?_
  refine lv_iconst (v := nI 1) hx hb dX3_foresee_6 (by decide) ?_
  refine lv_sipush (v := nI 200) hx hb dX3_foresee_7 (by decide) ?_
  refine zcS1 (As := [.int rv, .int (nI 1), .int (nI 200)]) (rest := []) C (mo_isIn l G rv (nI 1) (nI 200)) (lw_S q852 q853 q48 q854) hdX3_isIn.2 ⟨Nat.le_of_ble_eq_true rfl, Nat.le_of_ble_eq_true rfl⟩ (trivial) hl.1 rfl (Nat.le_of_ble_eq_true rfl) ⟨Nat.le_of_ble_eq_true rfl, Nat.le_of_ble_eq_true rfl⟩ dX3_foresee_10 ?_
  refine zb_ifn ((nI 1) ≤ rv ∧ rv ≤ (nI 200)) (tgt := 22) C rfl dX3_foresee_13 (by decide) (fun c_1 => ?_) (fun c_1 => ?_)
  · refine lv_iload_n hx hb dX3_foresee_22 rfl (lv_at hl 2 rfl) ?_
    refine lv_iconst (v := nI 0) hx hb dX3_foresee_23 (by decide) ?_
    refine lv_iconst (v := nI 2) hx hb dX3_foresee_24 (by decide) ?_
    refine zcS1 (As := [.int wv, .int (nI 0), .int (nI 2)]) (rest := []) C (mo_isIn l G wv (nI 0) (nI 2)) (lw_S q852 q853 q48 q854) hdX3_isIn.2 ⟨Nat.le_of_ble_eq_true rfl, Nat.le_of_ble_eq_true rfl⟩ (trivial) hl.1 rfl (Nat.le_of_ble_eq_true rfl) ⟨Nat.le_of_ble_eq_true rfl, Nat.le_of_ble_eq_true rfl⟩ dX3_foresee_25 ?_
    refine zb_ifn ((nI 0) ≤ wv ∧ wv ≤ (nI 2)) (tgt := 37) C rfl dX3_foresee_28 (by decide) (fun c_2 => ?_) (fun c_2 => ?_)
    · obtain ⟨t, ht, rfl⟩ := zIdx (v := rv) (n := 201) (by omega) ⟨Int32.le_trans (by decide) c_1.1, c_1.2⟩
      have hct : (nI t).toNatClampNeg = t := nI_clamp (by omega)
      have hS1 := hS.1
      refine lv_aload_n hx hb dX3_foresee_37 rfl (lv_at hl 0 rfl) ?_
      refine zwVr (As := []) (rest := []) C (mo_kept l G a (nI 0) K σ hI H.size) (lw_V q1046 q1048 qs40 q48 q1049) hdX3_kept ⟨Nat.le_of_ble_eq_true rfl, Nat.le_of_ble_eq_true rfl⟩ (zrM hE hP) ⟨rfl, hP⟩ hl.1 rfl (Nat.le_of_ble_eq_true rfl) ⟨Nat.le_of_ble_eq_true rfl, Nat.le_of_ble_eq_true rfl⟩ dX3_foresee_38 hS (zAs.le hS.1) (fun q H2 locs hQ hF hS => ?_)
      obtain ⟨k, hk0, hk, hd, hkA, hKp, hP⟩ := hQ
      subst hk0
      have hkB : ∀ j, j < 6 → zAs a 8 s.heap.size (k j) := fun j hj => zAs.le hS1 _ (hkA j hj)
      refine lv_astore_n (lv' := [(3, .ref (k 0)), (0, .ref (a 0)), (1, .int (nI t)), (2, .int wv)]) hx hb dX3_foresee_41 rfl hl (by decide) rfl (fun ls hl => ?_)
      refine lv_iconst (v := nI 0) hx hb dX3_foresee_42 (by decide) ?_
      refine lv_istore (lv' := [(4, .int (nI 0)), (3, .ref (k 0)), (0, .ref (a 0)), (1, .int (nI t)), (2, .int wv)]) hx hb dX3_foresee_43 hl (by decide) rfl (fun ls hl => ?_)
      refine lv_iconst (v := nI 0) hx hb dX3_foresee_45 (by decide) ?_
      refine lv_istore (lv' := [(5, .int (nI 0)), (4, .int (nI 0)), (3, .ref (k 0)), (0, .ref (a 0)), (1, .int (nI t)), (2, .int wv)]) hx hb dX3_foresee_46 hl (by decide) rfl (fun ls hl => ?_)
      have loop : ∀ (n : Nat) (i : Nat), (i ≤ t) → (t + 1 ≤ i + n) → ∀ (H : Heap) (locs : List Loc), zMKP G a k (nI 0) K (zRounds K σ i).1 σ H → va_S (zAs a 8 s.heap.size) s.heap H locs → ∀ (ls : Array Slot), lv_has ls 6 [(5, .int (nI i)), (4, .int ((zRounds K σ i).2)), (3, .ref (k 0)), (0, .ref (a 0)), (1, .int (nI t)), (2, .int wv)] → W p l e (zRm 6 7 193) s m av below meth c H locs 6 188 (MQ below (zRW (some (.int (oForesee K σ (nI t) wv).2.1)) (zMP G a (oForesee K σ (nI t) wv).1 (oForesee K σ (nI t) wv).2.2.1 (oForesee K σ (nI t) wv).2.2.2) (zAs a 8 s.heap.size)) av s 7 193 (zAs a 8 s.heap.size)) (F0 m 48 ls []) := by
        intro n
        induction n with
        | zero =>
          intro i h8 h9
          exact absurd (And.intro h8 h9) (by omega)
        | succ n ih =>
          intro i h8 h9 H locs hP hS ls hl
          obtain ⟨hP, hKp⟩ := hP
          refine lv_iload hx hb dX3_foresee_48 (lv_at hl 0 rfl) ?_
          refine lv_iload_n hx hb dX3_foresee_50 rfl (lv_at hl 4 rfl) ?_
          refine zn_ge (tgt := 69) C (by omega) (by omega) dX3_foresee_51 (by decide) (fun c_3 => ?_) (fun c_3 => ?_)
          · have hk9 : t = i := by omega
            subst hk9
            have join : ∀ (x : Int32), x = zSee K σ t wv → W p l e (zRm 6 7 193) s m av below meth c H locs 6 188 (MQ below (zRW (some (.int (oForesee K σ (nI t) wv).2.1)) (zMP G a (oForesee K σ (nI t) wv).1 (oForesee K σ (nI t) wv).2.2.1 (oForesee K σ (nI t) wv).2.2.2) (zAs a 8 s.heap.size)) av s 7 193 (zAs a 8 s.heap.size)) (F0 m 94 ls [.int x]) := by
              intro x ex
              refine lv_istore (lv' := [(5, .int x), (4, .int ((zRounds K σ t).2)), (3, .ref (k 0)), (0, .ref (a 0)), (1, .int (nI t)), (2, .int wv)]) hx hb dX3_foresee_94 hl (by decide) rfl (fun ls hl => ?_)
              refine lv_aload_n hx hb dX3_foresee_96 rfl (lv_at hl 3 rfl) ?_
              refine lv_aload_n hx hb dX3_foresee_97 rfl (lv_at hl 2 rfl) ?_
              have hsz9 := hS.1
              refine zwV0 (As := [.ref (k 0)]) (rest := []) C (mo_bringBack l G a (nI 0) K σ ((zRounds K σ t).1) k hI hk hd H.size) (lw_V q1058 q1060 qs41 q48 q1061) hdX3_bringBack ⟨Nat.le_of_ble_eq_true rfl, Nat.le_of_ble_eq_true rfl⟩ (zrM hE hP) (⟨rfl, va_P.app hP hKp⟩) hl.1 rfl (Nat.le_of_ble_eq_true rfl) ⟨Nat.le_of_ble_eq_true rfl, Nat.le_of_ble_eq_true rfl⟩ dX3_foresee_98 hS (zAk_in hkB hsz9) (fun H locs hPb _ hS => ?_)
              have hP : zMP G a (nI 0) K σ H := zP_left hPb
              have hKp : va_P G.1 zCl (zKp6 G k σ) H := zP_right hPb
              refine lv_iload hx hb dX3_foresee_101 (lv_at hl 0 rfl) ?_
              exact zw_iretE C (by unfold oForesee; rw [if_pos c_1, if_pos c_2, hct, ex]; try rfl) (by unfold oForesee; rw [if_pos c_1, if_pos c_2]; exact hP) hS dX3_foresee_103
            refine lv_iload_n hx hb dX3_foresee_69 rfl (lv_at hl 5 rfl) ?_
            refine lv_if_ne (tgt := 78) hx hb dX3_foresee_70 (by decide) (fun c_4 => ?_) (fun c_4 => ?_)
            · refine lv_iload_n hx hb dX3_foresee_78 rfl (lv_at hl 5 rfl) ?_
              refine lv_iconst (v := nI 1) hx hb dX3_foresee_79 (by decide) ?_
              refine lv_icmp_ne (tgt := 90) hx hb dX3_foresee_80 (by decide) (fun c_5 => ?_) (fun c_5 => ?_)
              · refine lv_aload_n hx hb dX3_foresee_90 rfl (lv_at hl 3 rfl) ?_
                refine zcV1 (As := []) (rest := []) C (mo_jammed l G a (nI 0) K (zRounds K σ t).1 hO.1) (lw_V q1034 q1036 qs38 q48 q1037) hdX3_jammed ⟨Nat.le_of_ble_eq_true rfl, Nat.le_of_ble_eq_true rfl⟩ (zrM hE hP) (hP) hl.1 rfl (Nat.le_of_ble_eq_true rfl) ⟨Nat.le_of_ble_eq_true rfl, Nat.le_of_ble_eq_true rfl⟩ dX3_foresee_91 ?_
                exact join _ (by unfold zSee; rw [if_neg c_4, if_neg c_5])
              · refine lv_aload_n hx hb dX3_foresee_83 rfl (lv_at hl 3 rfl) ?_
                refine zcV1 (As := []) (rest := []) C (mo_boxes l G a (nI 0) K ((zRounds K σ t).1) hO.1) (lw_V q1038 q1040 qs39 q48 q1041) hdX3_boxes ⟨Nat.le_of_ble_eq_true rfl, Nat.le_of_ble_eq_true rfl⟩ (zrM hE hP) (hP) hl.1 rfl (Nat.le_of_ble_eq_true rfl) ⟨Nat.le_of_ble_eq_true rfl, Nat.le_of_ble_eq_true rfl⟩ dX3_foresee_84 ?_
                refine lv_goto (tgt := 94) hx hb dX3_foresee_87 (by decide) ?_
                exact join _ (by unfold zSee; rw [if_neg c_4, if_pos c_5])
            · refine lv_iload hx hb dX3_foresee_73 (lv_at hl 1 rfl) ?_
              refine lv_goto (tgt := 94) hx hb dX3_foresee_75 (by decide) ?_
              exact join _ (by unfold zSee; rw [if_pos c_4])
          · refine lv_iload hx hb dX3_foresee_54 (lv_at hl 1 rfl) ?_
            refine lv_aload_n hx hb dX3_foresee_56 rfl (lv_at hl 3 rfl) ?_
            refine zwV1 (As := []) (rest := [.int ((zRounds K σ i).2)]) C (mo_roundOn l G a (nI 0) K (zRounds K σ i).1 hI (r + i) (zRounds_ok hO i) (zRounds_r hr i) (by omega)) (lw_V q1010 q1012 qs33 q48 q1013) hdX3_roundOn ⟨Nat.le_of_ble_eq_true rfl, Nat.le_of_ble_eq_true rfl⟩ (zrM hE hP) (hP) hl.1 rfl (Nat.le_of_ble_eq_true rfl) ⟨Nat.le_of_ble_eq_true rfl, Nat.le_of_ble_eq_true rfl⟩ dX3_foresee_57 hS zAs.in (fun H locs hP hF hS => ?_)
            have hKp := zKp_keep hKp hF hd
            refine lv_iadd hx hb dX3_foresee_60 ?_
            refine lv_istore (lv' := [(4, .int (((zRounds K σ i).2) + ((zRound K (zRounds K σ i).1).2))), (5, .int (nI i)), (3, .ref (k 0)), (0, .ref (a 0)), (1, .int (nI t)), (2, .int wv)]) hx hb dX3_foresee_61 hl (by decide) rfl (fun ls hl => ?_)
            refine lv_iinc (v := nI (i + 1)) (lv' := [(5, .int (nI (i + 1))), (4, .int (((zRounds K σ i).2) + ((zRound K (zRounds K σ i).1).2))), (3, .ref (k 0)), (0, .ref (a 0)), (1, .int (nI t)), (2, .int wv)]) hx hb dX3_foresee_63 hl (k := 1) rfl (nI_1 _) (by decide) rfl (fun ls hl => ?_)
            refine lv_goto (tgt := 48) hx hb dX3_foresee_66 (by decide) ?_
            exact ih (i + 1) (by omega) (by omega) H locs ⟨hP, hKp⟩ hS ls (lv_sub hl [0, 1, 2, 3, 4, 5] rfl)
      exact loop (t + 1) 0 (by omega) (by omega) H2 locs ⟨hP, hKp⟩ hS ls (lv_sub hl [0, 1, 2, 3, 4, 5] rfl)
    · refine lv_aload_n hx hb dX3_foresee_31 rfl (lv_at hl 0 rfl) ?_
      refine lv_iconst (v := nI 2) hx hb dX3_foresee_32 (by decide) ?_
      refine zwV1 (As := [.int (nI 2)]) (rest := []) C (mo_fail l G a (nI 0) K σ hI (nI 2)) (lw_V q855 q857 qs12 q48 q858) hdX3_fail ⟨Nat.le_of_ble_eq_true rfl, Nat.le_of_ble_eq_true rfl⟩ (zrM hE hP) (hP) hl.1 rfl (Nat.le_of_ble_eq_true rfl) ⟨Nat.le_of_ble_eq_true rfl, Nat.le_of_ble_eq_true rfl⟩ dX3_foresee_33 hS zAs.in (fun H locs hP _ hS => ?_)
      refine W.widen (k := 7) (n := 193) (by decide) (by decide) ?_
      exact zw_iretE C (by unfold oForesee; rw [if_pos c_1, if_neg c_2]; try rfl) (by unfold oForesee; rw [if_pos c_1, if_neg c_2]; exact hP) hS dX3_foresee_36
  · refine lv_aload_n hx hb dX3_foresee_16 rfl (lv_at hl 0 rfl) ?_
    refine lv_iconst (v := nI 1) hx hb dX3_foresee_17 (by decide) ?_
    refine zwV1 (As := [.int (nI 1)]) (rest := []) C (mo_fail l G a (nI 0) K σ hI (nI 1)) (lw_V q855 q857 qs12 q48 q858) hdX3_fail ⟨Nat.le_of_ble_eq_true rfl, Nat.le_of_ble_eq_true rfl⟩ (zrM hE hP) (hP) hl.1 rfl (Nat.le_of_ble_eq_true rfl) ⟨Nat.le_of_ble_eq_true rfl, Nat.le_of_ble_eq_true rfl⟩ dX3_foresee_18 hS zAs.in (fun H locs hP _ hS => ?_)
    refine W.widen (k := 7) (n := 193) (by decide) (by decide) ?_
    exact zw_iretE C (by unfold oForesee; rw [if_neg c_1]; try rfl) (by unfold oForesee; rw [if_neg c_1]; exact hP) hS dX3_foresee_21
set_option maxHeartbeats 4000000 in
theorem mo_advise (l : Launch) (G : zG) (a : Nat → Nat) (th : Int32) (K : zKt) (σ : zSt) (hI : zInj a 8) (sz : Nat) (rv : Int32) (r q : Nat) (hO : zOk K σ) (hr : σ 22 0 = nI r) (hr31 : r + 200 < 2 ^ 31) (hq : σ 22 1 = nI q) (hq8 : q ≤ 8) (hfr : ∀ i, i < zkM K → zInB σ (nI i) q = false → q < zkM K) (hbx : ¬ zBxA K σ rv.toNatClampNeg ≤ -1) : zMrw l yX3_advise cX3_advise 7 (some .int) 6 15 233 G [.ref (a 0), .int rv] (zMPz sz G a th K σ) (some (.int (oAdvise K σ rv).2.1)) (zMP G a (oAdvise K σ rv).1 (oAdvise K σ rv).2.2.1 (oAdvise K σ rv).2.2.2) (zAs a 8 sz) := by
  refine zMk [(0, .ref (a 0)), (1, .int rv)] (by decide) (Nat.le_of_ble_eq_true rfl) rfl ?_
  intro p e s m below meth c ls C hP hl _
  generalize ([.ref (a 0), .int rv] : List Value).toArray = av at C ⊢
  have hx := C.1
  have hb := C.2.1
  have hml := C.2.2.1
  have hown := C.2.2.2.1
  have hts := C.2.2.2.2.1
  have hE := C.2.2.2.2.2.2.2
  have hS : va_S (zAs a 8 sz) s.heap s.heap [] := va_S.rf
  obtain ⟨hsz, hP⟩ := hP
  subst hsz
  refine lv_aload_n hx hb dX3_advise_0 rfl (lv_at hl 0 rfl) ?_
  refine lv_iconst (v := nI 0) hx hb dX3_advise_1 (by decide) ?_
  refine zpM (th' := (nI 0)) (K' := K) C hI zAs.in hP hS 0 (by decide) q810 rfl rfl (zpd 0 (by decide)) rfl ⟨rfl, rfl⟩ dX3_advise_2 (fun H locs hP hS => ?_)
  refine lv_iload_n hx hb dX3_advise_5 rfl (lv_at hl 1 rfl) ?_
  refine lv_iconst (v := nI 1) hx hb dX3_advise_6 (by decide) ?_
  refine lv_bipush (v := nI 60) hx hb dX3_advise_7 (by decide) ?_
  refine zcS1 (As := [.int rv, .int (nI 1), .int (nI 60)]) (rest := []) C (mo_isIn l G rv (nI 1) (nI 60)) (lw_S q852 q853 q48 q854) hdX3_isIn.2 ⟨Nat.le_of_ble_eq_true rfl, Nat.le_of_ble_eq_true rfl⟩ (trivial) hl.1 rfl (Nat.le_of_ble_eq_true rfl) ⟨Nat.le_of_ble_eq_true rfl, Nat.le_of_ble_eq_true rfl⟩ dX3_advise_9 ?_
  refine zb_ifn ((nI 1) ≤ rv ∧ rv ≤ (nI 60)) (tgt := 21) C rfl dX3_advise_12 (by decide) (fun c_1 => ?_) (fun c_1 => ?_)
  · obtain ⟨t, ht, rfl⟩ := zIdx (v := rv) (n := 61) (by omega) ⟨Int32.le_trans (by decide) c_1.1, c_1.2⟩
    have hct : (nI t).toNatClampNeg = t := nI_clamp (by omega)
    rw [hct] at hbx
    have hcq : (σ 22 1).toNatClampNeg = q := by rw [hq, nI_clamp (by omega)]
    have hS1 := hS.1
    have hM8 := hO.1
    refine lv_aload_n hx hb dX3_advise_21 rfl (lv_at hl 0 rfl) ?_
    refine zwVr (As := []) (rest := []) C (mo_kept l G a (nI 0) K σ hI H.size) (lw_V q1046 q1048 qs40 q48 q1049) hdX3_kept ⟨Nat.le_of_ble_eq_true rfl, Nat.le_of_ble_eq_true rfl⟩ (zrM hE hP) ⟨rfl, hP⟩ hl.1 rfl (Nat.le_of_ble_eq_true rfl) ⟨Nat.le_of_ble_eq_true rfl, Nat.le_of_ble_eq_true rfl⟩ dX3_advise_22 hS (zAs.le hS.1) (fun q H2 locs hQ hF hS => ?_)
    obtain ⟨k, hk0, hk, hd, hkA, hKp, hP⟩ := hQ
    subst hk0
    have hkB : ∀ j, j < 6 → zAs a 8 s.heap.size (k j) := fun j hj => zAs.le hS1 _ (hkA j hj)
    have inner : ∀ (ρ : zSt), zOk K ρ → ρ 22 0 = nI r → ∀ (cl sl : Nat) (mv bv ov : Int32), (cl + 0 ≤ 15 ∧ sl + 0 ≤ 233) → (∀ (H : Heap) (locs : List Loc), zMKP G a k (nI 0) K (zRounds K ρ t).1 σ H → va_S (zAs a 8 s.heap.size) s.heap H locs → ∀ (ls : Array Slot), lv_has ls 7 [(5, .int mv), (4, .int ov), (3, .int bv), (2, .ref (k 0)), (0, .ref (a 0)), (1, .int (nI t))] → W p l e (zRm 6 15 233) s m av below meth c H locs cl sl (MQ below (zRW (some (.int (oAdvise K σ (nI t)).2.1)) (zMP G a (oAdvise K σ (nI t)).1 (oAdvise K σ (nI t)).2.2.1 (oAdvise K σ (nI t)).2.2.2) (zAs a 8 s.heap.size)) av s 15 233 (zAs a 8 s.heap.size)) (F0 m 87 ls [])) → ∀ (H : Heap) (locs : List Loc), zMKP G a k (nI 0) K ρ σ H → va_S (zAs a 8 s.heap.size) s.heap H locs → ∀ (ls : Array Slot), lv_has ls 7 [(5, .int mv), (4, .int ov), (3, .int bv), (2, .ref (k 0)), (0, .ref (a 0)), (1, .int (nI t))] → W p l e (zRm 6 15 233) s m av below meth c H locs cl sl (MQ below (zRW (some (.int (oAdvise K σ (nI t)).2.1)) (zMP G a (oAdvise K σ (nI t)).1 (oAdvise K σ (nI t)).2.2.1 (oAdvise K σ (nI t)).2.2.2) (zAs a 8 s.heap.size)) av s 15 233 (zAs a 8 s.heap.size)) (F0 m 67 ls []) := by
      intro ρ hOr hrr cl sl mv bv ov hcs kk H locs hP hS ls hl
      refine lv_iconst (v := nI 0) hx hb dX3_advise_67 (by decide) ?_
      refine lv_istore (lv' := [(6, .int (nI 0)), (5, .int mv), (4, .int ov), (3, .int bv), (2, .ref (k 0)), (0, .ref (a 0)), (1, .int (nI t))]) hx hb dX3_advise_68 hl (by decide) rfl (fun ls hl => ?_)
      have loop : ∀ (n : Nat) (i : Nat), (i ≤ t) → (t + 1 ≤ i + n) → ∀ (H : Heap) (locs : List Loc), zMKP G a k (nI 0) K (zRounds K ρ i).1 σ H → va_S (zAs a 8 s.heap.size) s.heap H locs → ∀ (ls : Array Slot), lv_has ls 7 [(6, .int (nI i)), (5, .int mv), (4, .int ov), (3, .int bv), (2, .ref (k 0)), (0, .ref (a 0)), (1, .int (nI t))] → W p l e (zRm 6 15 233) s m av below meth c H locs cl sl (MQ below (zRW (some (.int (oAdvise K σ (nI t)).2.1)) (zMP G a (oAdvise K σ (nI t)).1 (oAdvise K σ (nI t)).2.2.1 (oAdvise K σ (nI t)).2.2.2) (zAs a 8 s.heap.size)) av s 15 233 (zAs a 8 s.heap.size)) (F0 m 70 ls []) := by
        intro n
        induction n with
        | zero =>
          intro i h8 h9
          exact absurd (And.intro h8 h9) (by omega)
        | succ n ih =>
          intro i h8 h9 H locs hP hS ls hl
          obtain ⟨hP, hKp⟩ := hP
          refine lv_iload hx hb dX3_advise_70 (lv_at hl 0 rfl) ?_
          refine lv_iload_n hx hb dX3_advise_72 rfl (lv_at hl 6 rfl) ?_
          refine zn_ge (tgt := 87) C (by omega) (by omega) dX3_advise_73 (by decide) (fun c_2 => ?_) (fun c_2 => ?_)
          · have hk9 : t = i := by omega
            subst hk9
            exact kk H locs ⟨hP, hKp⟩ hS ls (lv_sub hl [1, 2, 3, 4, 5, 6] rfl)
          · refine lv_aload_n hx hb dX3_advise_76 rfl (lv_at hl 5 rfl) ?_
            refine zwV1 (As := []) (rest := []) C (mo_roundOn l G a (nI 0) K (zRounds K ρ i).1 hI (r + i) (zRounds_ok hOr i) (zRounds_r hrr i) (by omega)) (lw_V q1010 q1012 qs33 q48 q1013) hdX3_roundOn ⟨Nat.le_of_ble_eq_true rfl, Nat.le_of_ble_eq_true rfl⟩ (zrM hE hP) (hP) hl.1 rfl (Nat.le_of_ble_eq_true rfl) hcs dX3_advise_77 hS zAs.in (fun H locs hP hF hS => ?_)
            have hKp := zKp_keep hKp hF hd
            refine lv_pop hx hb dX3_advise_80 rfl ?_
            refine lv_iinc (v := nI (i + 1)) (lv' := [(6, .int (nI (i + 1))), (5, .int mv), (4, .int ov), (3, .int bv), (2, .ref (k 0)), (0, .ref (a 0)), (1, .int (nI t))]) hx hb dX3_advise_81 hl (k := 0) rfl (nI_1 _) (by decide) rfl (fun ls hl => ?_)
            refine lv_goto (tgt := 70) hx hb dX3_advise_84 (by decide) ?_
            exact ih (i + 1) (by omega) (by omega) H locs ⟨hP, hKp⟩ hS ls (lv_sub hl [0, 1, 2, 3, 4, 5, 6] rfl)
      exact loop (t + 1) 0 (by omega) (by omega) H locs hP hS ls (lv_sub hl [0, 1, 2, 3, 4, 5, 6] rfl)
    have outer : ∀ (n : Nat) (i : Nat), (i ≤ zkM K) → (zkM K + 1 ≤ i + n) → ∀ (H : Heap) (locs : List Loc), (fun H => zMKP G a k (nI 0) K σ σ H) H → va_S (zAs a 8 s.heap.size) s.heap H locs → ∀ (ls : Array Slot), lv_has ls 7 [(5, .int (nI i)), (4, .int ((zAdvR K σ t i).2)), (3, .int ((zAdvR K σ t i).1)), (2, .ref (k 0)), (0, .ref (a 0)), (1, .int (nI t))] → W p l e (zRm 6 15 233) s m av below meth c H locs (7 + i) (193 + 5 * i) (MQ below (zRW (some (.int (oAdvise K σ (nI t)).2.1)) (zMP G a (oAdvise K σ (nI t)).1 (oAdvise K σ (nI t)).2.2.1 (oAdvise K σ (nI t)).2.2.2) (zAs a 8 s.heap.size)) av s 15 233 (zAs a 8 s.heap.size)) (F0 m 34 ls []) := by
      intro n
      induction n with
      | zero =>
        intro i h8 h9
        exact absurd (And.intro h8 h9) (by omega)
      | succ n ih =>
        intro i h8 h9 H locs hP hS ls hl
        obtain ⟨hP, hKp⟩ := hP
        refine lv_iload hx hb dX3_advise_34 (lv_at hl 0 rfl) ?_
        refine lv_aload_n hx hb dX3_advise_36 rfl (lv_at hl 4 rfl) ?_
        refine zgM C hP 1 (by decide) q811 rfl rfl dX3_advise_37 ?_
        refine zn_ge (tgt := 121) C (by omega) (by omega) dX3_advise_40 (by decide) (fun c_3 => ?_) (fun c_3 => ?_)
        · have hk9 : zkM K = i := by omega
          subst hk9
          refine lv_iload_n hx hb dX3_advise_121 rfl (lv_at hl 2 rfl) ?_
          refine W.widen (k := 15) (n := 233) (by omega) (by omega) ?_
          exact zw_iretE C (by unfold oAdvise; rw [if_pos c_1, hct]; try rfl) (by unfold oAdvise; rw [if_pos c_1]; exact hP) hS dX3_advise_122
        · refine lv_iload hx hb dX3_advise_43 (lv_at hl 0 rfl) ?_
          refine lv_iconst (v := (-1)) hx hb dX3_advise_45 (by decide) ?_
          refine lv_icmp_eq (tgt := 67) hx hb dX3_advise_46 (by decide) (fun c_4 => ?_) (fun c_4 => ?_)
          · exact absurd c_4 (zneM1 (by omega))
          · refine lv_aload_n hx hb dX3_advise_49 rfl (lv_at hl 4 rfl) ?_
            refine lv_iload hx hb dX3_advise_50 (lv_at hl 0 rfl) ?_
            refine zcV1 (As := [.int (nI i)]) (rest := []) C (mo_isInRow l G a (nI 0) K σ (nI i) q (by omega) hq) (lw_V q994 q996 qs31 q48 q997) hdX3_isInRow ⟨Nat.le_of_ble_eq_true rfl, Nat.le_of_ble_eq_true rfl⟩ (zrM hE hP) (hP) hl.1 rfl (Nat.le_of_ble_eq_true rfl) ⟨by show 7 + i ≤ 15; omega, by show 193 + 5 * i ≤ 233; omega⟩ dX3_advise_52 ?_
            refine zb_if (zInB σ (nI i) q = true) (tgt := 61) C rfl dX3_advise_55 (by decide) (fun c_5 => ?_) (fun c_5 => ?_)
            · have hqM := hfr i (by omega) (by simpa using c_5)
              refine lv_aload_n hx hb dX3_advise_61 rfl (lv_at hl 4 rfl) ?_
              refine lv_iload hx hb dX3_advise_62 (lv_at hl 0 rfl) ?_
              refine zwV0 (As := [.int (nI i)]) (rest := []) C (mo_putInRow l G a (nI 0) K σ hI (nI i) q (by omega) hq) (lw_V q998 q1000 qs32 q48 q1001) hdX3_putInRow ⟨Nat.le_of_ble_eq_true rfl, Nat.le_of_ble_eq_true rfl⟩ (zrM hE hP) (hP) hl.1 rfl (Nat.le_of_ble_eq_true rfl) ⟨by show 7 + i + 0 ≤ 15; omega, by show 193 + 5 * i + 0 ≤ 233; omega⟩ dX3_advise_64 hS zAs.in (fun H locs hP hF hS => ?_)
              have hKp := zKp_keep hKp hF hd
              refine inner (zCal σ q (nI i)) (zCal_ok hO hq hqM (by omega)) (zCal_r hr) _ _ (nI i) _ _ ⟨by show 7 + i + 0 + 0 ≤ 15; omega, by show 193 + 5 * i + 0 + 0 ≤ 233; omega⟩ ?_ H locs ⟨hP, hKp⟩ hS ls (lv_sub hl [0, 1, 2, 3, 4, 5] rfl)
              clear hl hP hKp hS hF
              intro H locs hP hS ls hl
              obtain ⟨hP, hKp⟩ := hP
              refine lv_aload_n hx hb dX3_advise_87 rfl (lv_at hl 4 rfl) ?_
              refine zcV1 (As := []) (rest := []) C (mo_boxes l G a (nI 0) K ((zRounds K (zCal σ q (nI i)) t).1) hO.1) (lw_V q1038 q1040 qs39 q48 q1041) hdX3_boxes ⟨Nat.le_of_ble_eq_true rfl, Nat.le_of_ble_eq_true rfl⟩ (zrM hE hP) (hP) hl.1 rfl (Nat.le_of_ble_eq_true rfl) ⟨by show 7 + i + 0 ≤ 15; omega, by show 193 + 5 * i + 0 ≤ 233; omega⟩ dX3_advise_88 ?_
              refine lv_istore (lv' := [(6, .int (zSum (((zRounds K (zCal σ q (nI i)) t).1) 4) (zkM K))), (5, .int (nI i)), (4, .int ((zAdvR K σ t i).2)), (3, .int ((zAdvR K σ t i).1)), (2, .ref (k 0)), (0, .ref (a 0)), (1, .int (nI t))]) hx hb dX3_advise_91 hl (by decide) rfl (fun ls hl => ?_)
              refine lv_aload_n hx hb dX3_advise_93 rfl (lv_at hl 5 rfl) ?_
              refine lv_aload_n hx hb dX3_advise_94 rfl (lv_at hl 4 rfl) ?_
              have hsz9 := hS.1
              refine zwV0 (As := [.ref (k 0)]) (rest := []) C (mo_bringBack l G a (nI 0) K σ ((zRounds K (zCal σ q (nI i)) t).1) k hI hk hd H.size) (lw_V q1058 q1060 qs41 q48 q1061) hdX3_bringBack ⟨Nat.le_of_ble_eq_true rfl, Nat.le_of_ble_eq_true rfl⟩ (zrM hE hP) (⟨rfl, va_P.app hP hKp⟩) hl.1 rfl (Nat.le_of_ble_eq_true rfl) ⟨by show 7 + i + 0 + 1 ≤ 15; omega, by show 193 + 5 * i + 0 + 5 ≤ 233; omega⟩ dX3_advise_95 hS (zAk_in hkB hsz9) (fun H locs hPb _ hS => ?_)
              have hP : zMP G a (nI 0) K σ H := zP_left hPb
              have hKp : va_P G.1 zCl (zKp6 G k σ) H := zP_right hPb
              refine lv_iload hx hb dX3_advise_98 (lv_at hl 0 rfl) ?_
              refine lv_iload hx hb dX3_advise_100 (lv_at hl 2 rfl) ?_
              refine lv_icmp_gt (tgt := 108) hx hb dX3_advise_102 (by decide) (fun c_6 => ?_) (fun c_6 => ?_)
              · refine lv_iload hx hb dX3_advise_108 (lv_at hl 1 rfl) ?_
                refine lv_istore_n (lv' := [(3, .int (nI i)), (6, .int (zSum (((zRounds K (zCal σ q (nI i)) t).1) 4) (zkM K))), (5, .int (nI i)), (4, .int ((zAdvR K σ t i).2)), (2, .ref (k 0)), (0, .ref (a 0)), (1, .int (nI t))]) hx hb dX3_advise_110 rfl hl (by decide) rfl (fun ls hl => ?_)
                refine lv_iload hx hb dX3_advise_111 (lv_at hl 1 rfl) ?_
                refine lv_istore (lv' := [(4, .int (zSum (((zRounds K (zCal σ q (nI i)) t).1) 4) (zkM K))), (3, .int (nI i)), (6, .int (zSum (((zRounds K (zCal σ q (nI i)) t).1) 4) (zkM K))), (5, .int (nI i)), (2, .ref (k 0)), (0, .ref (a 0)), (1, .int (nI t))]) hx hb dX3_advise_113 hl (by decide) rfl (fun ls hl => ?_)
                refine lv_iinc (v := nI (i + 1)) (lv' := [(5, .int (nI (i + 1))), (4, .int (zSum (((zRounds K (zCal σ q (nI i)) t).1) 4) (zkM K))), (3, .int (nI i)), (6, .int (zSum (((zRounds K (zCal σ q (nI i)) t).1) 4) (zkM K))), (2, .ref (k 0)), (0, .ref (a 0)), (1, .int (nI t))]) hx hb dX3_advise_115 hl (k := 3) rfl (nI_1 _) (by decide) rfl (fun ls hl => ?_)
                refine lv_goto (tgt := 34) hx hb dX3_advise_118 (by decide) ?_
                have e9 : zAdvR K σ t (i + 1) = (nI i, zBxA K (zCal σ q (nI i)) t) := by show zAdv1 K σ t i _ = _; unfold zAdv1; rw [hcq, if_neg c_5, if_neg (show ¬ zBxA K (zCal σ q (nI i)) t ≤ (zAdvR K σ t i).2 from Int32.not_le.mpr c_6)]
                refine W.widen (k := 7 + (i + 1)) (n := 193 + 5 * (i + 1)) (by omega) (by omega) ?_
                exact ih (i + 1) (by omega) (by omega) H locs ⟨hP, hKp⟩ hS ls (by rw [e9]; exact (lv_sub hl [0, 1, 2, 4, 5, 6] rfl))
              · refine lv_goto (tgt := 115) hx hb dX3_advise_105 (by decide) ?_
                refine lv_iinc (v := nI (i + 1)) (lv' := [(5, .int (nI (i + 1))), (6, .int (zSum (((zRounds K (zCal σ q (nI i)) t).1) 4) (zkM K))), (4, .int ((zAdvR K σ t i).2)), (3, .int ((zAdvR K σ t i).1)), (2, .ref (k 0)), (0, .ref (a 0)), (1, .int (nI t))]) hx hb dX3_advise_115 hl (k := 1) rfl (nI_1 _) (by decide) rfl (fun ls hl => ?_)
                refine lv_goto (tgt := 34) hx hb dX3_advise_118 (by decide) ?_
                have e9 : zAdvR K σ t (i + 1) = zAdvR K σ t i := by show zAdv1 K σ t i _ = _; unfold zAdv1; rw [hcq, if_neg c_5, if_pos (show zBxA K (zCal σ q (nI i)) t ≤ (zAdvR K σ t i).2 from Int32.not_lt.mp c_6)]
                refine W.widen (k := 7 + (i + 1)) (n := 193 + 5 * (i + 1)) (by omega) (by omega) ?_
                exact ih (i + 1) (by omega) (by omega) H locs ⟨hP, hKp⟩ hS ls (by rw [e9]; exact (lv_sub hl [0, 2, 3, 4, 5, 6] rfl))
            · refine lv_goto (tgt := 115) hx hb dX3_advise_58 (by decide) ?_
              refine lv_iinc (v := nI (i + 1)) (lv' := [(5, .int (nI (i + 1))), (4, .int ((zAdvR K σ t i).2)), (3, .int ((zAdvR K σ t i).1)), (2, .ref (k 0)), (0, .ref (a 0)), (1, .int (nI t))]) hx hb dX3_advise_115 hl (k := 0) rfl (nI_1 _) (by decide) rfl (fun ls hl => ?_)
              refine lv_goto (tgt := 34) hx hb dX3_advise_118 (by decide) ?_
              have e9 : zAdvR K σ t (i + 1) = zAdvR K σ t i := by show zAdv1 K σ t i _ = _; unfold zAdv1; rw [hcq, if_pos c_5]
              refine W.widen (k := 7 + (i + 1)) (n := 193 + 5 * (i + 1)) (by omega) (by omega) ?_
              exact ih (i + 1) (by omega) (by omega) H locs ⟨hP, hKp⟩ hS ls (by rw [e9]; exact (lv_sub hl [0, 1, 2, 3, 4, 5] rfl))
    refine lv_astore_n (lv' := [(2, .ref (k 0)), (0, .ref (a 0)), (1, .int (nI t))]) hx hb dX3_advise_25 rfl hl (by decide) rfl (fun ls hl => ?_)
    refine lv_iconst (v := (-1)) hx hb dX3_advise_26 (by decide) ?_
    refine lv_istore_n (lv' := [(3, .int (-1)), (2, .ref (k 0)), (0, .ref (a 0)), (1, .int (nI t))]) hx hb dX3_advise_27 rfl hl (by decide) rfl (fun ls hl => ?_)
    refine lv_iconst (v := (-1)) hx hb dX3_advise_28 (by decide) ?_
    refine lv_istore (lv' := [(4, .int (-1)), (3, .int (-1)), (2, .ref (k 0)), (0, .ref (a 0)), (1, .int (nI t))]) hx hb dX3_advise_29 hl (by decide) rfl (fun ls hl => ?_)
    refine lv_iconst (v := (-1)) hx hb dX3_advise_31 (by decide) ?_
    refine lv_istore (lv' := [(5, .int (-1)), (4, .int (-1)), (3, .int (-1)), (2, .ref (k 0)), (0, .ref (a 0)), (1, .int (nI t))]) hx hb dX3_advise_32 hl (by decide) rfl (fun ls hl => ?_)
    refine lv_iload hx hb dX3_advise_34 (lv_at hl 0 rfl) ?_
    refine lv_aload_n hx hb dX3_advise_36 rfl (lv_at hl 4 rfl) ?_
    refine zgM C hP 1 (by decide) q811 rfl rfl dX3_advise_37 ?_
    refine lv_icmp_ge (tgt := 121) hx hb dX3_advise_40 (by decide) (fun c_7 => ?_) (fun c_7 => ?_)
    · exact absurd c_7 (zM1n (by omega))
    · refine lv_iload hx hb dX3_advise_43 (lv_at hl 0 rfl) ?_
      refine lv_iconst (v := (-1)) hx hb dX3_advise_45 (by decide) ?_
      refine lv_icmp_eq (tgt := 67) hx hb dX3_advise_46 (by decide) (fun c_8 => ?_) (fun c_8 => ?_)
      · refine inner σ hO hr _ _ (-1) _ _ ⟨by decide, by decide⟩ ?_ H2 locs ⟨hP, hKp⟩ hS ls (lv_sub hl [0, 1, 2, 3, 4, 5] rfl)
        clear hl hP hKp hS
        intro H locs hP hS ls hl
        obtain ⟨hP, hKp⟩ := hP
        refine lv_aload_n hx hb dX3_advise_87 rfl (lv_at hl 4 rfl) ?_
        refine zcV1 (As := []) (rest := []) C (mo_boxes l G a (nI 0) K ((zRounds K σ t).1) hO.1) (lw_V q1038 q1040 qs39 q48 q1041) hdX3_boxes ⟨Nat.le_of_ble_eq_true rfl, Nat.le_of_ble_eq_true rfl⟩ (zrM hE hP) (hP) hl.1 rfl (Nat.le_of_ble_eq_true rfl) ⟨Nat.le_of_ble_eq_true rfl, Nat.le_of_ble_eq_true rfl⟩ dX3_advise_88 ?_
        refine lv_istore (lv' := [(6, .int (zSum (((zRounds K σ t).1) 4) (zkM K))), (5, .int (-1)), (4, .int (-1)), (3, .int (-1)), (2, .ref (k 0)), (0, .ref (a 0)), (1, .int (nI t))]) hx hb dX3_advise_91 hl (by decide) rfl (fun ls hl => ?_)
        refine lv_aload_n hx hb dX3_advise_93 rfl (lv_at hl 5 rfl) ?_
        refine lv_aload_n hx hb dX3_advise_94 rfl (lv_at hl 4 rfl) ?_
        have hsz9 := hS.1
        refine zwV0 (As := [.ref (k 0)]) (rest := []) C (mo_bringBack l G a (nI 0) K σ ((zRounds K σ t).1) k hI hk hd H.size) (lw_V q1058 q1060 qs41 q48 q1061) hdX3_bringBack ⟨Nat.le_of_ble_eq_true rfl, Nat.le_of_ble_eq_true rfl⟩ (zrM hE hP) (⟨rfl, va_P.app hP hKp⟩) hl.1 rfl (Nat.le_of_ble_eq_true rfl) ⟨Nat.le_of_ble_eq_true rfl, Nat.le_of_ble_eq_true rfl⟩ dX3_advise_95 hS (zAk_in hkB hsz9) (fun H locs hPb _ hS => ?_)
        have hP : zMP G a (nI 0) K σ H := zP_left hPb
        have hKp : va_P G.1 zCl (zKp6 G k σ) H := zP_right hPb
        refine lv_iload hx hb dX3_advise_98 (lv_at hl 0 rfl) ?_
        refine lv_iload hx hb dX3_advise_100 (lv_at hl 2 rfl) ?_
        refine lv_icmp_gt (tgt := 108) hx hb dX3_advise_102 (by decide) (fun c_9 => ?_) (fun c_9 => ?_)
        · refine lv_iload hx hb dX3_advise_108 (lv_at hl 1 rfl) ?_
          refine lv_istore_n (lv' := [(3, .int (-1)), (6, .int (zSum (((zRounds K σ t).1) 4) (zkM K))), (5, .int (-1)), (4, .int (-1)), (2, .ref (k 0)), (0, .ref (a 0)), (1, .int (nI t))]) hx hb dX3_advise_110 rfl hl (by decide) rfl (fun ls hl => ?_)
          refine lv_iload hx hb dX3_advise_111 (lv_at hl 1 rfl) ?_
          refine lv_istore (lv' := [(4, .int (zSum (((zRounds K σ t).1) 4) (zkM K))), (3, .int (-1)), (6, .int (zSum (((zRounds K σ t).1) 4) (zkM K))), (5, .int (-1)), (2, .ref (k 0)), (0, .ref (a 0)), (1, .int (nI t))]) hx hb dX3_advise_113 hl (by decide) rfl (fun ls hl => ?_)
          refine lv_iinc (v := nI 0) (lv' := [(5, .int (nI 0)), (4, .int (zSum (((zRounds K σ t).1) 4) (zkM K))), (3, .int (-1)), (6, .int (zSum (((zRounds K σ t).1) 4) (zkM K))), (2, .ref (k 0)), (0, .ref (a 0)), (1, .int (nI t))]) hx hb dX3_advise_115 hl (k := 3) rfl (by decide) (by decide) rfl (fun ls hl => ?_)
          refine lv_goto (tgt := 34) hx hb dX3_advise_118 (by decide) ?_
          exact outer (zkM K + 1) 0 (by omega) (by omega) H locs ⟨hP, hKp⟩ hS ls (lv_sub hl [0, 1, 2, 4, 5, 6] rfl)
        · exact absurd (Int32.not_lt.mp c_9) hbx
      · exact absurd rfl c_8
  · refine lv_aload_n hx hb dX3_advise_15 rfl (lv_at hl 0 rfl) ?_
    refine lv_iconst (v := nI 1) hx hb dX3_advise_16 (by decide) ?_
    refine zwV1 (As := [.int (nI 1)]) (rest := []) C (mo_fail l G a (nI 0) K σ hI (nI 1)) (lw_V q855 q857 qs12 q48 q858) hdX3_fail ⟨Nat.le_of_ble_eq_true rfl, Nat.le_of_ble_eq_true rfl⟩ (zrM hE hP) (hP) hl.1 rfl (Nat.le_of_ble_eq_true rfl) ⟨Nat.le_of_ble_eq_true rfl, Nat.le_of_ble_eq_true rfl⟩ dX3_advise_17 hS zAs.in (fun H locs hP _ hS => ?_)
    refine W.widen (k := 15) (n := 233) (by decide) (by decide) ?_
    exact zw_iretE C (by unfold oAdvise; rw [if_neg c_1]; try rfl) (by unfold oAdvise; rw [if_neg c_1]; exact hP) hS dX3_advise_20

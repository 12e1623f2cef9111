/-! what stays true of a state -/
def zOk (K : zKt) (σ : zSt) : Prop := zkM K ≤ 8 ∧ zkP K ≤ 10 ∧ (∀ i, i < zkM K → zTab σ i ∨ zPsh σ i) ∧ (∀ u, u < zkP K → σ 12 u = -1 ∨ ∃ i, i < zkM K ∧ σ 12 u = nI i) ∧ ∃ q, q ≤ zkM K ∧ σ 22 1 = nI q ∧ ∀ k, k < q → ∃ i, i < zkM K ∧ σ 21 k = nI i
theorem zTab.cong {σ τ : zSt} {i : Nat} (h0 : τ 0 = σ 0) (h1 : τ 1 = σ 1) (h2 : τ 2 = σ 2) (h : zTab σ i) : zTab τ i := by
  unfold zTab zWd zDp at *
  rw [h0, h1, h2]; exact h
theorem zPsh.cong {σ τ : zSt} {i : Nat} (h0 : τ 0 = σ 0) (h1 : τ 1 = σ 1) (h2 : τ 2 = σ 2) (h : zPsh σ i) : zPsh τ i := by
  unfold zPsh at *
  rw [h0, h1, h2]; exact h
/-- a state that differs in rows that don't matter -/
theorem zOk.cong {K : zKt} {σ τ : zSt} (h : zOk K σ) (h0 : τ 0 = σ 0) (h1 : τ 1 = σ 1) (h2 : τ 2 = σ 2) (ha : ∀ u, u < zkP K → τ 12 u = σ 12 u ∨ τ 12 u = -1 ∨ ∃ i, i < zkM K ∧ τ 12 u = nI i) (hr : τ 21 = σ 21) (hn : τ 22 1 = σ 22 1) : zOk K τ := by
  obtain ⟨a1, a2, a3, a4, q, a5, a6, a7⟩ := h
  refine ⟨a1, a2, fun i hi => ?_, fun u hu => ?_, q, a5, hn.trans a6, fun k hk => by rw [hr]; exact a7 k hk⟩
  · rcases a3 i hi with h | h
    · exact Or.inl (h.cong h0 h1 h2)
    · exact Or.inr (h.cong h0 h1 h2)
  · rcases ha u hu with h | h
    · rw [h]; exact a4 u hu
    · exact h
theorem zFin_k {σ : zSt} {u i w : Nat} {pay : Int32} (h5 : w ≠ 5) (h6 : w ≠ 6) (h7 : w ≠ 7) (h8 : w ≠ 8) (h10 : w ≠ 10) (h14 : w ≠ 14) (h15 : w ≠ 15) : zFin σ u i pay w = σ w := by
  have hj : ∀ τ : zSt, zJm τ i w = τ w := by
    intro τ; unfold zJm
    split
    · rfl
    · split
      · exact zup_kf h6
      · rfl
  unfold zFin
  rw [hj]
  unfold zWr zF5 zF4 zF3 zF2 zF1
  rw [zup_kf h5, zup_kf h15, zup_kf h14, zup_kf h10, zup_kf h8, zup_kf h7]
theorem zTk_k {K : zKt} {σ : zSt} {i col w : Nat} {tilt : Int32} (h4 : w ≠ 4) (h20 : w ≠ 20) : (zTk K σ i col tilt).1 w = σ w := by
  unfold zTk
  split
  · exact zup_kf h4
  · exact zPush_k h20
/-- what a token played leaves alone -/
theorem zPlA_k {K : zKt} {σ : zSt} {u i col w : Nat} {tilt : Int32} (h4 : w ≠ 4) (h20 : w ≠ 20) (h5 : w ≠ 5) (h6 : w ≠ 6) (h7 : w ≠ 7) (h8 : w ≠ 8) (h10 : w ≠ 10) (h14 : w ≠ 14) (h15 : w ≠ 15) : (zPlA K σ u i col tilt).1 w = σ w :=
  (zFin_k h5 h6 h7 h8 h10 h14 h15).trans (zTk_k h4 h20)
theorem zTo_k {σ : zSt} {u w : Nat} {v : Int32} (h12 : w ≠ 12) (h13 : w ≠ 13) : zTo σ u v w = σ w := by
  unfold zTo
  rw [zup_kf h13, zup_kf h12]
theorem zTo_at {σ : zSt} {u u' : Nat} {v : Int32} : zTo σ u v 12 u' = if u' = u then v else σ 12 u' := by
  unfold zTo
  rw [zup_k (by decide)]
  split
  · next h => rw [h, zup_s]
  · next h => rw [zup_i h]
theorem zLs_k {σ : zSt} {u w : Nat} {pay : Int32} (h : w ≠ 13) : zLs σ u pay w = σ w := zup_kf h
theorem zLv_k {σ : zSt} {u w : Nat} (h12 : w ≠ 12) (h13 : w ≠ 13) : zLv σ u w = σ w := by
  unfold zLv
  split
  · rfl
  · exact zTo_k h12 h13
theorem zLv_at {σ : zSt} {u u' : Nat} : zLv σ u 12 u' = σ 12 u' ∨ zLv σ u 12 u' = -1 := by
  unfold zLv
  split
  · exact Or.inl rfl
  · rw [zTo_at]
    split
    · exact Or.inr rfl
    · exact Or.inl rfl
theorem zTurn_k {K : zKt} {σ : zSt} {u w : Nat} (h4 : w ≠ 4) (h20 : w ≠ 20) (h5 : w ≠ 5) (h6 : w ≠ 6) (h7 : w ≠ 7) (h8 : w ≠ 8) (h10 : w ≠ 10) (h14 : w ≠ 14) (h15 : w ≠ 15) (h12 : w ≠ 12) (h13 : w ≠ 13) : (zTurn K σ u).1 w = σ w := by
  unfold zTurn
  split
  · split
    · rfl
    · exact zTo_k h12 h13
  · split
    · split
      · exact zTo_k h12 h13
      · unfold zTnP
        show zLv _ _ _ = _
        rw [zLv_k h12 h13, zLs_k h13, zPlA_k h4 h20 h5 h6 h7 h8 h10 h14 h15]
    · exact zTo_k h12 h13
/-- where a turn sends its player -/
theorem zTurn_at {K : zKt} {σ : zSt} {u u' : Nat} : (zTurn K σ u).1 12 u' = σ 12 u' ∨ (zTurn K σ u).1 12 u' = -1 ∨ ∃ i, i < zkM K ∧ (zTurn K σ u).1 12 u' = nI i := by
  unfold zTurn
  split
  · split
    · exact Or.inl rfl
    · show zTo σ u _ 12 u' = _ ∨ zTo σ u _ 12 u' = _ ∨ ∃ i, i < zkM K ∧ zTo σ u _ 12 u' = nI i
      rw [zTo_at]
      split
      · cases hb : zLu σ (zkM K) with
        | none => exact Or.inr (Or.inl rfl)
        | some b => exact Or.inr (Or.inr ⟨b, zLu_lt _ _ hb, rfl⟩)
      · exact Or.inl rfl
  · split
    · split
      · show zTo σ u _ 12 u' = _ ∨ zTo σ u _ 12 u' = _ ∨ ∃ i, i < zkM K ∧ zTo σ u _ 12 u' = nI i
        rw [zTo_at]
        split
        · exact Or.inr (Or.inl rfl)
        · exact Or.inl rfl
      · have e : zLs (zPlA K σ u (σ 12 u).toNatClampNeg (zCol σ (σ 12 u).toNatClampNeg) (zTl K σ (σ 12 u).toNatClampNeg)).1 u (zPlA K σ u (σ 12 u).toNatClampNeg (zCol σ (σ 12 u).toNatClampNeg) (zTl K σ (σ 12 u).toNatClampNeg)).2 12 = σ 12 := by
          rw [zLs_k (by decide), zPlA_k (by decide) (by decide) (by decide) (by decide) (by decide) (by decide) (by decide) (by decide) (by decide)]
        rcases zLv_at (σ := zLs (zPlA K σ u (σ 12 u).toNatClampNeg (zCol σ (σ 12 u).toNatClampNeg) (zTl K σ (σ 12 u).toNatClampNeg)).1 u (zPlA K σ u (σ 12 u).toNatClampNeg (zCol σ (σ 12 u).toNatClampNeg) (zTl K σ (σ 12 u).toNatClampNeg)).2) (u := u) (u' := u') with h | h
        · left
          rw [e] at h
          exact h
        · exact Or.inr (Or.inl h)
    · show zTo σ u _ 12 u' = _ ∨ zTo σ u _ 12 u' = _ ∨ ∃ i, i < zkM K ∧ zTo σ u _ 12 u' = nI i
      rw [zTo_at]
      split
      · exact Or.inr (Or.inl rfl)
      · exact Or.inl rfl
theorem zTurn_ok {K : zKt} {σ : zSt} {u : Nat} (h : zOk K σ) : zOk K (zTurn K σ u).1 := by
  have k : ∀ w, (w = 0 ∨ w = 1 ∨ w = 2 ∨ w = 21 ∨ w = 22) → (zTurn K σ u).1 w = σ w := fun w hw => zTurn_k (by omega) (by omega) (by omega) (by omega) (by omega) (by omega) (by omega) (by omega) (by omega) (by omega) (by omega)
  exact h.cong (k 0 (by decide)) (k 1 (by decide)) (k 2 (by decide)) (fun _ _ => zTurn_at) (k 21 (by decide)) (by rw [k 22 (by decide)])
theorem zTurns_ok {K : zKt} {σ : zSt} (h : zOk K σ) : ∀ n, zOk K (zTurns K σ n).1
  | 0 => h
  | n + 1 => zTurn_ok (zTurns_ok h n)
theorem zTurns_k {K : zKt} {σ : zSt} {w : Nat} (hw : w = 0 ∨ w = 1 ∨ w = 2 ∨ w = 3 ∨ w = 11 ∨ w = 21 ∨ w = 22) : ∀ n, (zTurns K σ n).1 w = σ w
  | 0 => rfl
  | n + 1 => (zTurn_k (by omega) (by omega) (by omega) (by omega) (by omega) (by omega) (by omega) (by omega) (by omega) (by omega) (by omega)).trans (zTurns_k hw n)
theorem zR1_k {K : zKt} {σ : zSt} {i w j : Nat} (h : w ≠ 22 ∨ j ≠ 2) : zR1 K σ i w j = σ w j := by
  unfold zR1
  split
  · rcases h with h | h
    · exact zup_k h
    · by_cases hw : w = 22
      · subst hw; exact zup_i h
      · exact zup_k hw
  · rfl
theorem zR2_k {σ : zSt} {w j : Nat} (h : w ≠ 22 ∨ j ≠ 2) : zR2 σ w j = σ w j := by
  unfold zR2
  rcases h with h | h
  · exact zup_k h
  · by_cases hw : w = 22
    · subst hw; exact zup_i h
    · exact zup_k hw
theorem zR3_k {σ : zSt} {i w j : Nat} (h5 : w ≠ 5) (h6 : w ≠ 6) : zR3 σ i w j = σ w j := by
  unfold zR3
  rw [zup_k h6, zup_k h5]
theorem zR4_k {σ : zSt} {w j : Nat} (h : w ≠ 21) (h2 : w ≠ 22 ∨ j ≠ 1) : zR4 σ w j = σ w j := by
  unfold zR4 zShf
  rw [if_neg h]
  rcases h2 with h2 | h2
  · exact zup_k h2
  · by_cases hw : w = 22
    · subst hw; exact zup_i h2
    · exact zup_k hw
/-- the repair touches wears, jams, the row, and two numbers -/
theorem zRep_k {K : zKt} {σ : zSt} {w j : Nat} (h5 : w ≠ 5) (h6 : w ≠ 6) (h21 : w ≠ 21) (h22 : w ≠ 22 ∨ (j ≠ 1 ∧ j ≠ 2)) : zRep K σ w j = σ w j := by
  have a : w ≠ 22 ∨ j ≠ 2 := by omega
  have b : w ≠ 22 ∨ j ≠ 1 := by omega
  unfold zRep
  split
  · rfl
  · split
    · rw [zR4_k h21 b, zR3_k h5 h6, zR2_k a, zR1_k a]
    · rw [zR2_k a, zR1_k a]
theorem zRep_ok {K : zKt} {σ : zSt} (h : zOk K σ) : zOk K (zRep K σ) := by
  obtain ⟨a1, a2, a3, a4, q, a5, a6, a7⟩ := h
  have kf : ∀ w, w ≠ 5 → w ≠ 6 → w ≠ 21 → w ≠ 22 → zRep K σ w = σ w := fun w x y z v => funext fun j => zRep_k x y z (Or.inl v)
  refine ⟨a1, a2, fun i hi => ?_, fun u hu => ?_, ?_⟩
  · rcases a3 i hi with h | h
    · exact Or.inl (h.cong (kf 0 (by decide) (by decide) (by decide) (by decide)) (kf 1 (by decide) (by decide) (by decide) (by decide)) (kf 2 (by decide) (by decide) (by decide) (by decide)))
    · exact Or.inr (h.cong (kf 0 (by decide) (by decide) (by decide) (by decide)) (kf 1 (by decide) (by decide) (by decide) (by decide)) (kf 2 (by decide) (by decide) (by decide) (by decide)))
  · rw [kf 12 (by decide) (by decide) (by decide) (by decide)]
    exact a4 u hu
  · have c1 : ∀ i, zR2 (zR1 K σ i) 22 1 = nI q := fun i => by rw [zR2_k (Or.inr (by decide)), zR1_k (Or.inr (by decide)), a6]
    have c2 : ∀ i k, zR2 (zR1 K σ i) 21 k = σ 21 k := fun i k => by rw [zR2_k (Or.inl (by decide)), zR1_k (Or.inl (by decide))]
    unfold zRep
    split
    · exact ⟨q, a5, a6, a7⟩
    · next hz =>
      have hq0 : 0 < q := by
        rcases Nat.eq_zero_or_pos q with e | e
        · subst e; exact absurd a6 hz
        · exact e
      split
      · refine ⟨q - 1, by omega, ?_, fun k hk => ?_⟩
        · unfold zR4 zShf
          rw [if_neg (by decide), zup_s, zR3_k (by decide) (by decide), c1, nI_clamp (by omega)]
        · unfold zR4 zShf
          rw [if_pos rfl]
          have e1 : ∀ j, zup (zR3 (zR2 (zR1 K σ (σ 21 0).toNatClampNeg)) (σ 21 0).toNatClampNeg) 22 1 (nI ((zR3 (zR2 (zR1 K σ (σ 21 0).toNatClampNeg)) (σ 21 0).toNatClampNeg 22 1).toNatClampNeg - 1)) 21 j = σ 21 j := fun j => by
            rw [zup_k (by decide), zR3_k (by decide) (by decide), c2]
          rw [e1, e1]
          rw [zR3_k (by decide) (by decide), c1, nI_clamp (by omega), if_pos hk]
          exact a7 (k + 1) (by omega)
      · exact ⟨q, a5, c1 _, fun k hk => by rw [c2]; exact a7 k hk⟩
theorem zRnd_ok {K : zKt} {σ : zSt} (h : zOk K σ) : zOk K (zRnd σ) :=
  h.cong (zup_kf (by decide)) (zup_kf (by decide)) (zup_kf (by decide)) (fun u _ => Or.inl (zup_k (by decide))) (zup_kf (by decide)) (zup_i (by decide))
theorem zRound_ok {K : zKt} {σ : zSt} (h : zOk K σ) : zOk K (zRound K σ).1 := zRnd_ok (zRep_ok (zTurns_ok h _))
theorem zRounds_ok {K : zKt} {σ : zSt} (h : zOk K σ) : ∀ n, zOk K (zRounds K σ n).1
  | 0 => h
  | n + 1 => zRound_ok (zRounds_ok h n)
theorem zRound_r {K : zKt} {σ : zSt} {r : Nat} (h : σ 22 0 = nI r) : (zRound K σ).1 22 0 = nI (r + 1) := by
  show zRnd (zRep K (zTurns K σ (zkP K)).1) 22 0 = _
  unfold zRnd
  rw [zup_s, zRep_k (by decide) (by decide) (by decide) (Or.inr ⟨by decide, by decide⟩), zTurns_k (by decide), h, nI_add]
theorem zRounds_r {K : zKt} {σ : zSt} {r : Nat} (h : σ 22 0 = nI r) : ∀ n, (zRounds K σ n).1 22 0 = nI (r + n)
  | 0 => h
  | n + 1 => zRound_r (zRounds_r h n)
theorem zCup_cong {K : zKt} {σ τ : zSt} (h1 : τ 1 = σ 1) (h2 : τ 2 = σ 2) {i col : Nat} {tilt : Int32} : zCup K τ i col tilt = zCup K σ i col tilt := by
  unfold zCup zEnd zWd zDp
  rw [h1, h2]

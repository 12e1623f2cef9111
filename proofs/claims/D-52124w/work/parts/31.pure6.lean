/-! kept copies, looking ahead, advice -/
set_option maxRecDepth 100000
def zad (l : List Nat) : Nat → Nat := fun k => l.getD k 0
abbrev zK0 : zKt := (0, 0, nI 0, fun _ _ => nI 0, fun _ _ _ => nI 0)
abbrev zS0 : zSt := fun _ _ => nI 0
theorem zupd_c {x : Int32} {k : Nat} : upd (fun _ => x) k x = fun _ => x := by
  funext j; simp [upd]
theorem zD_one {A : Nat → Prop} {o : Nat} {e : va_E} (h : A o) : va_D A [(o, e)] := by
  refine ⟨fun i j x y hi hj _ => ?_, fun k q hk => ?_⟩
  · have h1 : i < 1 := (List.getElem?_eq_some_iff.mp hi).1
    have h2 : j < 1 := (List.getElem?_eq_some_iff.mp hj).1
    omega
  · have h1 : k < 1 := (List.getElem?_eq_some_iff.mp hk).1
    rw [show k = 0 by omega] at hk
    cases hk
    exact h
theorem zInj_D {A : Nat → Prop} {ws : va_W} {a : Nat → Nat} {n : Nat} (hD : va_D A ws) (h : ∀ k, k < n → ∃ e, ws[k]? = some (a k, e)) : zInj a n := by
  intro i j hi hj hij
  obtain ⟨e1, h1⟩ := h i hi
  obtain ⟨e2, h2⟩ := h j hj
  exact hD.1 i j _ _ h1 h2 hij
abbrev zKr (k : Nat → Nat) : Nat → Option Nat := va_up (va_up (va_up (va_up (va_up (fun _ => none) 0 (some (k 1))) 1 (some (k 2))) 2 (some (k 3))) 3 (some (k 4))) 4 (some (k 5))
/-- the kept copies of a state -/
abbrev zKp6 (G : zG) (k : Nat → Nat) (σ : zSt) : va_W := [(k 0, .inl (G.2 4, 5, .inr (.inr (.inr (.inr (zKr k)))))), (k 1, .inl (G.2 0, 72, .inl (fun j => σ (j % 9) (j / 9)))), (k 2, .inl (G.2 0, 40, .inl (σ 20))), (k 3, .inl (G.2 0, 60, .inl (fun j => σ (10 + j % 6) (j / 6)))), (k 4, .inl (G.2 0, 8, .inl (σ 21))), (k 5, .inl (G.2 0, 3, .inl (σ 22)))]
theorem zKp6_a {G : zG} {k : Nat → Nat} {σ : zSt} {j : Nat} {q : Nat × va_E} (h : (zKp6 G k σ)[j]? = some q) : j < 6 ∧ q.1 = k j := by
  match j, h with
  | 0, h => cases h; exact ⟨by decide, rfl⟩
  | 1, h => cases h; exact ⟨by decide, rfl⟩
  | 2, h => cases h; exact ⟨by decide, rfl⟩
  | 3, h => cases h; exact ⟨by decide, rfl⟩
  | 4, h => cases h; exact ⟨by decide, rfl⟩
  | 5, h => cases h; exact ⟨by decide, rfl⟩
  | j + 6, h => simp at h
theorem zM_a {G : zG} {a : Nat → Nat} {th : Int32} {K : zKt} {σ : zSt} {j : Nat} {q : Nat × va_E} (h : (zM G a th K σ)[j]? = some q) : j < 8 ∧ q.1 = a j := by
  match j, h with
  | 0, h => cases h; exact ⟨by decide, rfl⟩
  | 1, h => cases h; exact ⟨by decide, rfl⟩
  | 2, h => cases h; exact ⟨by decide, rfl⟩
  | 3, h => cases h; exact ⟨by decide, rfl⟩
  | 4, h => cases h; exact ⟨by decide, rfl⟩
  | 5, h => cases h; exact ⟨by decide, rfl⟩
  | 6, h => cases h; exact ⟨by decide, rfl⟩
  | 7, h => cases h; exact ⟨by decide, rfl⟩
  | j + 8, h => simp at h
def zAk (a k : Nat → Nat) (sz : Nat) : Nat → Prop := fun q => zA a 8 q ∨ zA k 6 q ∨ sz ≤ q
theorem zMK_D {G : zG} {a k : Nat → Nat} {th : Int32} {K : zKt} {σ τ : zSt} {sz : Nat} (hI : zInj a 8) (hk : zInj k 6) (hd : ∀ i j, i < 8 → j < 6 → a i ≠ k j) : va_D (zAk a k sz) (zM G a th K τ ++ zKp6 G k σ) := by
  refine va_D.app (zM_D hI (fun q h => Or.inl h)) ⟨fun i j x y hi hj hxy => ?_, fun j q hj => ?_⟩ (fun i j x y hx hy => ?_)
  · obtain ⟨a1, a2⟩ := zKp6_a hi
    obtain ⟨b1, b2⟩ := zKp6_a hj
    exact hk i j a1 b1 (by rw [← a2, ← b2]; exact hxy)
  · obtain ⟨a1, a2⟩ := zKp6_a hj
    exact Or.inr (Or.inl ⟨j, a1, a2⟩)
  · obtain ⟨a1, a2⟩ := zM_a hx
    obtain ⟨b1, b2⟩ := zKp6_a hy
    rw [a2, b2]
    exact hd i j a1 b1
/-- the model's cells lie below the heap's size -/
theorem zM_lt {G : zG} {a : Nat → Nat} {th : Int32} {K : zKt} {σ : zSt} {H : Heap} (h : zMP G a th K σ H) {i : Nat} (hi : i < 8) : a i < H.size := by
  have key : ∀ e, (zM G a th K σ)[i]? = some (a i, e) → a i < H.size := fun e he => (h i _ he).lt
  rcases (show i = 0 ∨ i = 1 ∨ i = 2 ∨ i = 3 ∨ i = 4 ∨ i = 5 ∨ i = 6 ∨ i = 7 by omega) with rfl | rfl | rfl | rfl | rfl | rfl | rfl | rfl
  · exact key _ rfl
  · exact key _ rfl
  · exact key _ rfl
  · exact key _ rfl
  · exact key _ rfl
  · exact key _ rfl
  · exact key _ rfl
  · exact key _ rfl
theorem zKp_keep {G : zG} {a k : Nat → Nat} {σ : zSt} {H H1 : Heap} (h : va_P G.1 zCl (zKp6 G k σ) H) (hF : zF (zA a 8) H H1) (hd : ∀ i j, i < 8 → j < 6 → a i ≠ k j) : va_P G.1 zCl (zKp6 G k σ) H1 :=
  zP_keep h hF (fun j q hj ⟨i, hi, e⟩ => by
    obtain ⟨b1, b2⟩ := zKp6_a hj
    exact hd i j hi b1 (e.symm.trans b2))
def zSee (K : zKt) (σ : zSt) (t : Nat) (wv : Int32) : Int32 := if wv = 0 then (zRounds K σ t).2 else if wv = nI 1 then zSum ((zRounds K σ t).1 4) (zkM K) else zSum ((zRounds K σ t).1 6) (zkM K)
def oForesee (K : zKt) (σ : zSt) (rv wv : Int32) : zO := if nI 1 ≤ rv ∧ rv ≤ nI 200 then (if nI 0 ≤ wv ∧ wv ≤ nI 2 then (nI 0, zSee K σ rv.toNatClampNeg wv, K, σ) else oF K σ 2) else oF K σ 1
def zBxA (K : zKt) (σ : zSt) (t : Nat) : Int32 := zSum ((zRounds K σ t).1 4) (zkM K)
def zAdv1 (K : zKt) (σ : zSt) (t i : Nat) (x : Int32 × Int32) : Int32 × Int32 := if zInB σ (nI i) (σ 22 1).toNatClampNeg = true then x else if zBxA K (zCal σ (σ 22 1).toNatClampNeg (nI i)) t ≤ x.2 then x else (nI i, zBxA K (zCal σ (σ 22 1).toNatClampNeg (nI i)) t)
def zAdvR (K : zKt) (σ : zSt) (t : Nat) : Nat → Int32 × Int32
  | 0 => (-1, zBxA K σ t)
  | i + 1 => zAdv1 K σ t i (zAdvR K σ t i)
def oAdvise (K : zKt) (σ : zSt) (rv : Int32) : zO := if nI 1 ≤ rv ∧ rv ≤ nI 60 then (nI 0, (zAdvR K σ rv.toNatClampNeg (zkM K)).1, K, σ) else oF K σ 1
theorem zCal_ok {K : zKt} {σ : zSt} {q i : Nat} (h : zOk K σ) (hq : σ 22 1 = nI q) (hqM : q < zkM K) (hi : i < zkM K) : zOk K (zCal σ q (nI i)) := by
  obtain ⟨a1, a2, a3, a4, q', a5, a6, a7⟩ := h
  have hqq : q' = q := (nI_eq (by omega) (by omega)).mp (a6.symm.trans hq)
  subst hqq
  have k0 : ∀ w, w ≠ 21 → w ≠ 22 → zCal σ q' (nI i) w = σ w := fun w h1 h2 => by unfold zCal; rw [zup_kf h2, zup_kf h1]
  refine ⟨a1, a2, fun j hj => ?_, fun u hu => ?_, q' + 1, by omega, zup_s, fun k hk => ?_⟩
  · rcases a3 j hj with h | h
    · exact Or.inl (h.cong (k0 0 (by decide) (by decide)) (k0 1 (by decide) (by decide)) (k0 2 (by decide) (by decide)))
    · exact Or.inr (h.cong (k0 0 (by decide) (by decide)) (k0 1 (by decide) (by decide)) (k0 2 (by decide) (by decide)))
  · rw [k0 12 (by decide) (by decide)]; exact a4 u hu
  · unfold zCal
    rw [zup_k (by decide)]
    by_cases hk2 : k = q'
    · subst hk2; rw [zup_s]; exact ⟨i, hi, rfl⟩
    · rw [zup_i hk2]; exact a7 k (by omega)
theorem zCal_r {σ : zSt} {q r : Nat} {v : Int32} (h : σ 22 0 = nI r) : zCal σ q v 22 0 = nI r := by
  unfold zCal
  rw [zup_i (by decide), zup_k (by decide), h]

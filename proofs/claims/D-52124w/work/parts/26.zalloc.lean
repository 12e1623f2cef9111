/-! with new cells -/
set_option maxRecDepth 100000
def zAs (a : Nat → Nat) (n sz : Nat) : Nat → Prop := fun q => zA a n q ∨ sz ≤ q
theorem zAs.in {a : Nat → Nat} {n sz : Nat} : ∀ q, zA a n q → zAs a n sz q := fun _ h => Or.inl h
theorem zAs.new {a : Nat → Nat} {n sz : Nat} : ∀ q, sz ≤ q → zAs a n sz q := fun _ h => Or.inr h
theorem zAs.le {a : Nat → Nat} {n sz sz' : Nat} (h : sz ≤ sz') : ∀ q, zAs a n sz' q → zAs a n sz q := fun _ x => x.imp id (Nat.le_trans h)
def zMPz (sz : Nat) (G : zG) (a : Nat → Nat) (th : Int32) (K : zKt) (σ : zSt) (H : Heap) : Prop := H.size = sz ∧ zMP G a th K σ H
theorem zD_cong {A : Nat → Prop} {ws ws' : va_W} (h : ws.map (fun q => q.1) = ws'.map (fun q => q.1)) (hD : va_D A ws) : va_D A ws' := by
  have key : ∀ (k : Nat) (q : Nat × va_E), ws'[k]? = some q → ∃ e, ws[k]? = some (q.1, e) := by
    intro k q hk
    have h1 : (ws'.map (fun q => q.1))[k]? = some q.1 := by rw [List.getElem?_map, hk]; rfl
    rw [← h, List.getElem?_map] at h1
    cases hx : ws[k]? with
    | none => rw [hx] at h1; cases h1
    | some x =>
      rw [hx] at h1
      have : x.1 = q.1 := Option.some.inj h1
      exact ⟨x.2, by rw [← this]⟩
  refine ⟨fun i j x y hi hj hxy => ?_, fun k q hk => ?_⟩
  · obtain ⟨e1, h1⟩ := key i x hi
    obtain ⟨e2, h2⟩ := key j y hj
    exact hD.1 i j _ _ h1 h2 hxy
  · obtain ⟨e1, h1⟩ := key k q hk
    exact hD.2 k (q.1, e1) h1
theorem zP_left {D : va_G} {cl : List vw_C} {w1 w2 : va_W} {H : Heap} (h : va_P D cl (w1 ++ w2) H) : va_P D cl w1 H := by
  intro k q hk
  have hl := (List.getElem?_eq_some_iff.mp hk).1
  exact h k q (by rw [List.getElem?_append_left hl]; exact hk)
theorem zP_right {D : va_G} {cl : List vw_C} {w1 w2 : va_W} {H : Heap} (h : va_P D cl (w1 ++ w2) H) : va_P D cl w2 H := by
  intro k q hk
  exact h (w1.length + k) q (by rw [List.getElem?_append_right (by omega), Nat.add_sub_cancel_left]; exact hk)
theorem zM_add {G : zG} {a : Nat → Nat} {th : Int32} {K : zKt} {σ : zSt} {n : Nat} {kd cl rw st bx : Int32} {f : Nat → Int32} {ex : va_W} (hf : ∀ w, w < 9 → f w = zMrow kd cl rw st bx w) : (zM G a th K σ ++ ex).set 3 (a 3, .inl (G.2 0, 72, .inl (va_cpy f (fun j => σ (j % 9) (j / 9)) 0 (9 * n) 9))) = zM G a th K (zAdd σ n kd cl rw st bx) ++ ex := by
  have e1 : va_cpy f (fun j => σ (j % 9) (j / 9)) 0 (9 * n) 9 = fun j => zAdd σ n kd cl rw st bx (j % 9) (j / 9) := by
    funext j
    have h9 : j % 9 < 9 := Nat.mod_lt _ (by decide)
    by_cases h : 9 * n ≤ j ∧ j < 9 * n + 9
    · have h1 : j / 9 = n := by omega
      have h2 : 0 + (j - 9 * n) = j % 9 := by omega
      simp only [va_cpy, h, and_self, if_true, zAdd, h9, h1, upd, h2]
      exact hf _ h9
    · have h1 : j / 9 ≠ n := by omega
      simp only [va_cpy, h, if_false, zAdd, h9, if_true, upd, h1]
  have e2 : zAdd σ n kd cl rw st bx 20 = σ 20 := by simp [zAdd]
  have e3 : zAdd σ n kd cl rw st bx 21 = σ 21 := by simp [zAdd]
  have e4 : zAdd σ n kd cl rw st bx 22 = σ 22 := by simp [zAdd]
  have e5 : (fun j => zAdd σ n kd cl rw st bx (10 + j % 6) (j / 6)) = fun j => σ (10 + j % 6) (j / 6) := by
    funext j
    have : ¬ 10 + j % 6 < 9 := by omega
    simp [zAdd, this]
  show _ :: _ :: _ :: _ :: _ :: _ :: _ :: _ :: ex = _ :: _ :: _ :: _ :: _ :: _ :: _ :: _ :: ex
  rw [e1, e2, e3, e4, e5]
theorem zM_newp {G : zG} {a : Nat → Nat} {th : Int32} {K : zKt} {σ : zSt} {n : Nat} {pu te : Int32} {f : Nat → Int32} {ex : va_W} (hf : ∀ w, w < 6 → f w = zProw pu te w) : (zM G a th K σ ++ ex).set 5 (a 5, .inl (G.2 0, 60, .inl (va_cpy f (fun j => σ (10 + j % 6) (j / 6)) 0 (6 * n) 6))) = zM G a th K (zNewP σ n pu te) ++ ex := by
  have e1 : va_cpy f (fun j => σ (10 + j % 6) (j / 6)) 0 (6 * n) 6 = fun j => zNewP σ n pu te (10 + j % 6) (j / 6) := by
    funext j
    have h9 : j % 6 < 6 := Nat.mod_lt _ (by decide)
    have h10 : 10 ≤ 10 + j % 6 ∧ 10 + j % 6 < 16 := by omega
    have h11 : 10 + j % 6 - 10 = j % 6 := by omega
    by_cases h : 6 * n ≤ j ∧ j < 6 * n + 6
    · have h1 : j / 6 = n := by omega
      have h2 : 0 + (j - 6 * n) = j % 6 := by omega
      simp only [va_cpy, h, and_self, if_true, zNewP, h10, h1, upd, h2, h11]
      exact hf _ h9
    · have h1 : j / 6 ≠ n := by omega
      simp only [va_cpy, h, if_false, zNewP, h10, and_self, if_true, upd, h1]
  have e2 : zNewP σ n pu te 20 = σ 20 := by simp [zNewP]
  have e3 : zNewP σ n pu te 21 = σ 21 := by simp [zNewP]
  have e4 : zNewP σ n pu te 22 = σ 22 := by simp [zNewP]
  have e5 : (fun j => zNewP σ n pu te (j % 9) (j / 9)) = fun j => σ (j % 9) (j / 9) := by
    funext j
    have : ¬ (10 ≤ j % 9 ∧ j % 9 < 16) := by omega
    simp [zNewP, this]
  show _ :: _ :: _ :: _ :: _ :: _ :: _ :: _ :: ex = _ :: _ :: _ :: _ :: _ :: _ :: _ :: _ :: ex
  rw [e1, e2, e3, e4, e5]

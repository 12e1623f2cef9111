/-! rows over numbers that are naturals, and arrays by them -/
set_option maxRecDepth 100000
section Z3
variable {p : Program} {l : Launch} {e : Env} {R : Room} {s : State} {m : MethodId} {args : Array Value} {below : List Frame} {meth : Method} {c : Code} {H : Heap} {locs : List Loc} {cells slots : Nat} {Q : State → Prop}
variable {cc : ByteArray} {own : String} {nL pc : Nat} {ret : Option FieldType} {G : zG} {rest : List Value} {ls : Array Slot} {ws : va_W} {a b : Nat} {A : Nat → Prop}
theorem zn_add (C : zC p s m args meth c cc own nL ret G) (hdg : decode cc pc = .ok (.iadd, 1)) (k : W p l e R s m args below meth c H locs cells slots Q (F0 m (pc + 1) ls (.int (nI (a + b)) :: rest))) : W p l e R s m args below meth c H locs cells slots Q (F0 m pc ls (.int (nI b) :: .int (nI a) :: rest)) :=
  lv_iadd C.1 C.2.1 hdg (by rw [nI_add]; exact k)
theorem zn_mul (C : zC p s m args meth c cc own nL ret G) (hdg : decode cc pc = .ok (.imul, 1)) (k : W p l e R s m args below meth c H locs cells slots Q (F0 m (pc + 1) ls (.int (nI (a * b)) :: rest))) : W p l e R s m args below meth c H locs cells slots Q (F0 m pc ls (.int (nI b) :: .int (nI a) :: rest)) :=
  lv_imul C.1 C.2.1 hdg (by rw [pk_mul]; exact k)
theorem zn_sub (C : zC p s m args meth c cc own nL ret G) (h : b ≤ a) (hdg : decode cc pc = .ok (.isub, 1)) (k : W p l e R s m args below meth c H locs cells slots Q (F0 m (pc + 1) ls (.int (nI (a - b)) :: rest))) : W p l e R s m args below meth c H locs cells slots Q (F0 m pc ls (.int (nI b) :: .int (nI a) :: rest)) :=
  lv_isub C.1 C.2.1 hdg (by rw [pk_sub h]; exact k)
theorem zn_ne0 {n : Nat} (h0 : 0 < n) (h : n < 2 ^ 31) : ¬ nI n = 0 := nI_ne0 h0 h
theorem zn_rem (C : zC p s m args meth c cc own nL ret G) (ha : a < 2 ^ 31) (h0 : 0 < b) (hb : b < 2 ^ 31) (hdg : decode cc pc = .ok (.irem, 1)) (k : W p l e R s m args below meth c H locs cells slots Q (F0 m (pc + 1) ls (.int (nI (a % b)) :: rest))) : W p l e R s m args below meth c H locs cells slots Q (F0 m pc ls (.int (nI b) :: .int (nI a) :: rest)) :=
  lv_irem C.1 C.2.1 hdg (nI_ne0 h0 hb) (by rw [pk_rem ha h0 hb]; exact k)
theorem zn_ald (C : zC p s m args meth c cc own nL ret G) (hP : va_P G.1 zCl ws H) (q0 : Nat) {n N : Nat} {f : Nat → Int32} (ha : ws[q0]? = some (a, .inl (G.2 0, N, .inl f))) (hn : n < N) (hN : N < 2 ^ 31) (hdg : decode cc pc = .ok (.iaload, 1)) (k : W p l e R s m args below meth c H locs cells slots Q (F0 m (pc + 1) ls (.int (f n) :: rest))) : W p l e R s m args below meth c H locs cells slots Q (F0 m pc ls (.int (nI n) :: .ref a :: rest)) :=
  va_iald C.1 C.2.1 C.2.2.2.2.2.2.2.1 hP q0 0 ha rfl (vp_in_nI hn hN) hdg (by rw [nI_clamp (Nat.lt_trans hn hN)]; exact k)
theorem zn_ast (C : zC p s m args meth c cc own nL ret G) (hP : va_P G.1 zCl ws H) (hD : va_D A ws) (hS : va_S A s.heap H locs) (q0 : Nat) {n N : Nat} {f : Nat → Int32} {x : Int32} (ha : ws[q0]? = some (a, .inl (G.2 0, N, .inl f))) (hn : n < N) (hN : N < 2 ^ 31) (hdg : decode cc pc = .ok (.iastore, 1)) (k : ∀ (H1 : Heap) (locs1 : List Loc), va_P G.1 zCl (ws.set q0 (a, .inl (G.2 0, N, .inl (upd f n x)))) H1 → va_S A s.heap H1 locs1 → W p l e R s m args below meth c H1 locs1 cells slots Q (F0 m (pc + 1) ls rest)) : W p l e R s m args below meth c H locs cells slots Q (F0 m pc ls (.int x :: .int (nI n) :: .ref a :: rest)) :=
  va_iast C.1 C.2.1 C.2.2.2.2.2.2.2.1 hP hD hS q0 0 ha rfl (vp_in_nI hn hN) hdg (fun H1 l1 h1 _ h2 => k H1 l1 (by rw [nI_clamp (Nat.lt_trans hn hN)] at h1; exact h1) h2)
theorem zn_ge (C : zC p s m args meth c cc own nL ret G) (ha : a < 2 ^ 31) (hb : b < 2 ^ 31) {off : Int} {tgt : Nat} (hdg : decode cc pc = .ok (.if_icmp .ge off, 3)) (ht : (pc : Int) + off = (tgt : Int))
    (kt : b ≤ a → W p l e R s m args below meth c H locs cells slots Q (F0 m tgt ls rest)) (kf : a < b → W p l e R s m args below meth c H locs cells slots Q (F0 m (pc + 3) ls rest)) : W p l e R s m args below meth c H locs cells slots Q (F0 m pc ls (.int (nI b) :: .int (nI a) :: rest)) :=
  lv_icmp_ge C.1 C.2.1 hdg ht (fun h => kt ((nI_leI hb ha).mp h)) (fun h => kf (Nat.lt_of_not_le fun q => h ((nI_leI hb ha).mpr q)))
theorem zn_gt (C : zC p s m args meth c cc own nL ret G) (ha : a < 2 ^ 31) (hb : b < 2 ^ 31) {off : Int} {tgt : Nat} (hdg : decode cc pc = .ok (.if_icmp .gt off, 3)) (ht : (pc : Int) + off = (tgt : Int))
    (kt : b < a → W p l e R s m args below meth c H locs cells slots Q (F0 m tgt ls rest)) (kf : a ≤ b → W p l e R s m args below meth c H locs cells slots Q (F0 m (pc + 3) ls rest)) : W p l e R s m args below meth c H locs cells slots Q (F0 m pc ls (.int (nI b) :: .int (nI a) :: rest)) :=
  lv_icmp_gt C.1 C.2.1 hdg ht (fun h => kt ((nI_ltI hb ha).mp h)) (fun h => kf (Nat.le_of_not_lt fun q => h ((nI_ltI hb ha).mpr q)))
theorem zn_lt (C : zC p s m args meth c cc own nL ret G) (ha : a < 2 ^ 31) (hb : b < 2 ^ 31) {off : Int} {tgt : Nat} (hdg : decode cc pc = .ok (.if_icmp .lt off, 3)) (ht : (pc : Int) + off = (tgt : Int))
    (kt : a < b → W p l e R s m args below meth c H locs cells slots Q (F0 m tgt ls rest)) (kf : b ≤ a → W p l e R s m args below meth c H locs cells slots Q (F0 m (pc + 3) ls rest)) : W p l e R s m args below meth c H locs cells slots Q (F0 m pc ls (.int (nI b) :: .int (nI a) :: rest)) :=
  lv_icmp_lt C.1 C.2.1 hdg ht (fun h => kt ((nI_ltI ha hb).mp h)) (fun h => kf (Nat.le_of_not_lt fun q => h ((nI_ltI ha hb).mpr q)))
theorem zn_le (C : zC p s m args meth c cc own nL ret G) (ha : a < 2 ^ 31) (hb : b < 2 ^ 31) {off : Int} {tgt : Nat} (hdg : decode cc pc = .ok (.if_icmp .le off, 3)) (ht : (pc : Int) + off = (tgt : Int))
    (kt : a ≤ b → W p l e R s m args below meth c H locs cells slots Q (F0 m tgt ls rest)) (kf : b < a → W p l e R s m args below meth c H locs cells slots Q (F0 m (pc + 3) ls rest)) : W p l e R s m args below meth c H locs cells slots Q (F0 m pc ls (.int (nI b) :: .int (nI a) :: rest)) :=
  lv_icmp_le C.1 C.2.1 hdg ht (fun h => kt ((nI_leI ha hb).mp h)) (fun h => kf (Nat.lt_of_not_le fun q => h ((nI_leI ha hb).mpr q)))
theorem zn_eq (C : zC p s m args meth c cc own nL ret G) (ha : a < 2 ^ 31) (hb : b < 2 ^ 31) {off : Int} {tgt : Nat} (hdg : decode cc pc = .ok (.if_icmp .eq off, 3)) (ht : (pc : Int) + off = (tgt : Int))
    (kt : a = b → W p l e R s m args below meth c H locs cells slots Q (F0 m tgt ls rest)) (kf : ¬ a = b → W p l e R s m args below meth c H locs cells slots Q (F0 m (pc + 3) ls rest)) : W p l e R s m args below meth c H locs cells slots Q (F0 m pc ls (.int (nI b) :: .int (nI a) :: rest)) :=
  lv_icmp_eq C.1 C.2.1 hdg ht (fun h => kt ((nI_eq ha hb).mp h)) (fun h => kf (fun q => h ((nI_eq ha hb).mpr q)))
theorem zn_if0 (C : zC p s m args meth c cc own nL ret G) (ha : a < 2 ^ 31) {off : Int} {tgt : Nat} (hdg : decode cc pc = .ok (.ifCond .eq off, 3)) (ht : (pc : Int) + off = (tgt : Int))
    (kt : a = 0 → W p l e R s m args below meth c H locs cells slots Q (F0 m tgt ls rest)) (kf : ¬ a = 0 → W p l e R s m args below meth c H locs cells slots Q (F0 m (pc + 3) ls rest)) : W p l e R s m args below meth c H locs cells slots Q (F0 m pc ls (.int (nI a) :: rest)) :=
  lv_if_eq C.1 C.2.1 hdg ht (fun h => kt ((nI_eq (b := 0) ha (by decide)).mp h)) (fun h => kf (fun q => h ((nI_eq (b := 0) ha (by decide)).mpr q)))
theorem zn_ifn0 (C : zC p s m args meth c cc own nL ret G) (ha : a < 2 ^ 31) {off : Int} {tgt : Nat} (hdg : decode cc pc = .ok (.ifCond .ne off, 3)) (ht : (pc : Int) + off = (tgt : Int))
    (kt : ¬ a = 0 → W p l e R s m args below meth c H locs cells slots Q (F0 m tgt ls rest)) (kf : a = 0 → W p l e R s m args below meth c H locs cells slots Q (F0 m (pc + 3) ls rest)) : W p l e R s m args below meth c H locs cells slots Q (F0 m pc ls (.int (nI a) :: rest)) :=
  lv_if_ne C.1 C.2.1 hdg ht (fun h => kt (fun q => h ((nI_eq (b := 0) ha (by decide)).mpr q))) (fun h => kf ((nI_eq (b := 0) ha (by decide)).mp h))
/-- a condition that is known -/
theorem zb_if (P : Prop) [Decidable P] {b0 : Int32} (C : zC p s m args meth c cc own nL ret G) (hb : b0 = if P then 1 else 0) {off : Int} {tgt : Nat} (hdg : decode cc pc = .ok (.ifCond .eq off, 3)) (ht : (pc : Int) + off = (tgt : Int))
    (kt : ¬ P → W p l e R s m args below meth c H locs cells slots Q (F0 m tgt ls rest)) (kf : P → W p l e R s m args below meth c H locs cells slots Q (F0 m (pc + 3) ls rest)) : W p l e R s m args below meth c H locs cells slots Q (F0 m pc ls (.int b0 :: rest)) := by
  refine lv_if_eq C.1 C.2.1 hdg ht (fun h => kt fun q => ?_) (fun h => kf (Classical.not_not.mp fun q => h ?_))
  · rw [hb, if_pos q] at h; exact absurd h (by decide)
  · rw [hb, if_neg q]
theorem zb_ifn (P : Prop) [Decidable P] {b0 : Int32} (C : zC p s m args meth c cc own nL ret G) (hb : b0 = if P then 1 else 0) {off : Int} {tgt : Nat} (hdg : decode cc pc = .ok (.ifCond .ne off, 3)) (ht : (pc : Int) + off = (tgt : Int))
    (kt : P → W p l e R s m args below meth c H locs cells slots Q (F0 m tgt ls rest)) (kf : ¬ P → W p l e R s m args below meth c H locs cells slots Q (F0 m (pc + 3) ls rest)) : W p l e R s m args below meth c H locs cells slots Q (F0 m pc ls (.int b0 :: rest)) := by
  refine lv_if_ne C.1 C.2.1 hdg ht (fun h => kt (Classical.not_not.mp fun q => h ?_)) (fun h => kf fun q => ?_)
  · rw [hb, if_neg q]
  · rw [hb, if_pos q] at h; exact absurd h (by decide)
end Z3
theorem zb_nar (P : Prop) [Decidable P] : narrow .boolean (.int (if P then 1 else 0)) = .int (if P then 1 else 0) := by
  split
  · rfl
  · rfl
/-! the state: rows of numbers by kind: 0..8 a machine's (kind, columns, rows, strength, box, wear, jammed, let in, paid), 10..15 a player's (purse, temper, at, lost, played, won), 20 ledges, 21 the row of repairs, 22 round, calls, left -/
abbrev zSt : Type := Nat → Nat → Int32
def zup (σ : zSt) (k i : Nat) (v : Int32) : zSt := fun k' => if k' = k then upd (σ k) i v else σ k'
theorem zup_s {σ : zSt} {k i : Nat} {v : Int32} : zup σ k i v k i = v := by simp [zup, upd]
theorem zup_k {σ : zSt} {k k' i j : Nat} {v : Int32} (h : k' ≠ k) : zup σ k i v k' j = σ k' j := by simp [zup, h]
theorem zup_kf {σ : zSt} {k k' i : Nat} {v : Int32} (h : k' ≠ k) : zup σ k i v k' = σ k' := by simp [zup, h]
theorem zup_i {σ : zSt} {k i j : Nat} {v : Int32} (h : j ≠ i) : zup σ k i v k j = σ k j := by simp [zup, upd, h]
theorem zup_f {σ : zSt} {k i : Nat} {v : Int32} : zup σ k i v k = upd (σ k) i v := by simp [zup]
theorem zup_zup {σ : zSt} {k i : Nat} {v w : Int32} : zup (zup σ k i v) k i w = zup σ k i w := by
  funext k' j
  by_cases h : k' = k
  · subst h
    by_cases hj : j = i
    · simp [zup, upd, hj]
    · simp [zup, upd, hj]
  · simp [zup, h]
theorem zup_comm {σ : zSt} {k k' i i' : Nat} {v w : Int32} (h : k ≠ k') : zup (zup σ k i v) k' i' w = zup (zup σ k' i' w) k i v := by
  funext x j
  by_cases h1 : x = k
  · subst h1
    simp [zup, h]
  · by_cases h2 : x = k'
    · subst h2
      simp [zup, h1]
    · simp [zup, h1, h2]
theorem zup_id {σ : zSt} {k i : Nat} {v : Int32} (h : σ k i = v) : zup σ k i v = σ := by
  funext x j
  by_cases h1 : x = k
  · subst h1
    by_cases hj : j = i
    · subst hj; simp [zup, upd, h]
    · simp [zup, upd, hj]
  · simp [zup, h1]
/-- machines, players, the mechanic's skill, cups by machine and column, pins by machine, row and column -/
abbrev zKt : Type := Nat × Nat × Int32 × (Nat → Nat → Int32) × (Nat → Nat → Nat → Int32)
abbrev zkM (K : zKt) : Nat := K.1
abbrev zkP (K : zKt) : Nat := K.2.1
abbrev zkS (K : zKt) : Int32 := K.2.2.1
abbrev zkC (K : zKt) : Nat → Nat → Int32 := K.2.2.2.1
abbrev zkN (K : zKt) : Nat → Nat → Nat → Int32 := K.2.2.2.2
/-! the model's world -/
abbrev zMf (a : Nat → Nat) (th : Int32) (K : zKt) : List Value := [.int th, .int (nI (zkM K)), .int (nI (zkP K)), .int (zkS K), .ref (a 1), .ref (a 2), .ref (a 3), .ref (a 4), .ref (a 5), .ref (a 6), .ref (a 7)]
abbrev zM (G : zG) (a : Nat → Nat) (th : Int32) (K : zKt) (σ : zSt) : va_W := [(a 0, .inr (0, zMf a th K)), (a 1, .inl (G.2 0, 72, .inl (fun j => zkC K (j / 9) (j % 9)))), (a 2, .inl (G.2 0, 864, .inl (fun j => zkN K (j / 108) (j % 108 / 9) (j % 9)))), (a 3, .inl (G.2 0, 72, .inl (fun j => σ (j % 9) (j / 9)))), (a 4, .inl (G.2 0, 40, .inl (σ 20))), (a 5, .inl (G.2 0, 60, .inl (fun j => σ (10 + j % 6) (j / 6)))), (a 6, .inl (G.2 0, 8, .inl (σ 21))), (a 7, .inl (G.2 0, 3, .inl (σ 22)))]
def zInj (a : Nat → Nat) (n : Nat) : Prop := ∀ i j, i < n → j < n → a i = a j → i = j
def zA (a : Nat → Nat) (n : Nat) : Nat → Prop := fun q => ∃ k, k < n ∧ q = a k
def zMP (G : zG) (a : Nat → Nat) (th : Int32) (K : zKt) (σ : zSt) (H : Heap) : Prop := va_P G.1 zCl (zM G a th K σ) H
theorem zM_D {G : zG} {a : Nat → Nat} {th : Int32} {K : zKt} {σ : zSt} (hI : zInj a 8) {A : Nat → Prop} (hA : ∀ q, zA a 8 q → A q) : va_D A (zM G a th K σ) := by
  have key : ∀ (k : Nat) (q : Nat × va_E), (zM G a th K σ)[k]? = some q → k < 8 ∧ q.1 = a k := by
    intro k q hk
    match k, hk with
    | 0, hk => cases hk; exact ⟨by decide, rfl⟩
    | 1, hk => cases hk; exact ⟨by decide, rfl⟩
    | 2, hk => cases hk; exact ⟨by decide, rfl⟩
    | 3, hk => cases hk; exact ⟨by decide, rfl⟩
    | 4, hk => cases hk; exact ⟨by decide, rfl⟩
    | 5, hk => cases hk; exact ⟨by decide, rfl⟩
    | 6, hk => cases hk; exact ⟨by decide, rfl⟩
    | 7, hk => cases hk; exact ⟨by decide, rfl⟩
    | k + 8, hk => simp at hk
  refine ⟨fun i j x y hi hj hxy => ?_, fun k q hk => ?_⟩
  · obtain ⟨h1, h2⟩ := key i x hi
    obtain ⟨h3, h4⟩ := key j y hj
    exact hI i j h1 h3 (by rw [← h2, ← h4]; exact hxy)
  · obtain ⟨h1, h2⟩ := key k q hk
    exact hA _ ⟨k, h1, h2⟩
theorem zM_tb {G : zG} {a : Nat → Nat} {th : Int32} {K : zKt} {σ : zSt} {i w : Nat} {v : Int32} (hw : w < 9) : (zM G a th K σ).set 3 (a 3, .inl (G.2 0, 72, .inl (upd (fun j => σ (j % 9) (j / 9)) (9 * i + w) v))) = zM G a th K (zup σ w i v) := by
  have e1 : (upd (fun j => σ (j % 9) (j / 9)) (9 * i + w) v) = fun j => zup σ w i v (j % 9) (j / 9) := by
    funext j
    by_cases h : j = 9 * i + w
    · have h1 : j % 9 = w := by omega
      have h2 : j / 9 = i := by omega
      simp only [upd, h, if_true]
      rw [← h, h1, h2, zup_s]
    · simp only [upd, h, if_false]
      by_cases h1 : j % 9 = w
      · rw [h1, zup_i (by omega)]
      · rw [zup_k h1]
  have e2 : zup σ w i v 20 = σ 20 := zup_kf (by omega)
  have e3 : zup σ w i v 21 = σ 21 := zup_kf (by omega)
  have e4 : zup σ w i v 22 = σ 22 := zup_kf (by omega)
  have e5 : (fun j => zup σ w i v (10 + j % 6) (j / 6)) = fun j => σ (10 + j % 6) (j / 6) := by
    funext j; exact zup_k (by omega)
  show [_, _, _, _, _, _, _, _] = [_, _, _, _, _, _, _, _]
  rw [e1, e2, e3, e4, e5]
theorem zM_pe {G : zG} {a : Nat → Nat} {th : Int32} {K : zKt} {σ : zSt} {i w : Nat} {v : Int32} (hw : w < 6) : (zM G a th K σ).set 5 (a 5, .inl (G.2 0, 60, .inl (upd (fun j => σ (10 + j % 6) (j / 6)) (6 * i + w) v))) = zM G a th K (zup σ (10 + w) i v) := by
  have e1 : (upd (fun j => σ (10 + j % 6) (j / 6)) (6 * i + w) v) = fun j => zup σ (10 + w) i v (10 + j % 6) (j / 6) := by
    funext j
    by_cases h : j = 6 * i + w
    · have h1 : j % 6 = w := by omega
      have h2 : j / 6 = i := by omega
      simp only [upd, h, if_true]
      rw [← h, h1, h2, zup_s]
    · simp only [upd, h, if_false]
      by_cases h1 : j % 6 = w
      · rw [h1, zup_i (by omega)]
      · rw [zup_k (by omega)]
  have e2 : zup σ (10 + w) i v 20 = σ 20 := zup_kf (by omega)
  have e3 : zup σ (10 + w) i v 21 = σ 21 := zup_kf (by omega)
  have e4 : zup σ (10 + w) i v 22 = σ 22 := zup_kf (by omega)
  have e5 : (fun j => zup σ (10 + w) i v (j % 9) (j / 9)) = fun j => σ (j % 9) (j / 9) := by
    funext j; exact zup_k (by omega)
  show [_, _, _, _, _, _, _, _] = [_, _, _, _, _, _, _, _]
  rw [e1, e2, e3, e4, e5]
theorem zM_lo {G : zG} {a : Nat → Nat} {th : Int32} {K : zKt} {σ : zSt} {k i : Nat} {v : Int32} (hk : 20 ≤ k) : (fun j => zup σ k i v (j % 9) (j / 9)) = (fun j => σ (j % 9) (j / 9)) ∧ (fun j => zup σ k i v (10 + j % 6) (j / 6)) = (fun j => σ (10 + j % 6) (j / 6)) := ⟨by funext j; exact zup_k (by omega), by funext j; exact zup_k (by omega)⟩
theorem zM_lg {G : zG} {a : Nat → Nat} {th : Int32} {K : zKt} {σ : zSt} {i : Nat} {v : Int32} : (zM G a th K σ).set 4 (a 4, .inl (G.2 0, 40, .inl (upd (σ 20) i v))) = zM G a th K (zup σ 20 i v) := by
  obtain ⟨e1, e2⟩ := zM_lo (G := G) (a := a) (th := th) (K := K) (σ := σ) (k := 20) (i := i) (v := v) (by decide)
  have e3 : zup σ 20 i v 21 = σ 21 := zup_kf (by decide)
  have e4 : zup σ 20 i v 22 = σ 22 := zup_kf (by decide)
  have e5 : zup σ 20 i v 20 = upd (σ 20) i v := zup_f
  show [_, _, _, _, _, _, _, _] = [_, _, _, _, _, _, _, _]
  rw [e1, e2, e3, e4, e5]
theorem zM_ro {G : zG} {a : Nat → Nat} {th : Int32} {K : zKt} {σ : zSt} {i : Nat} {v : Int32} : (zM G a th K σ).set 6 (a 6, .inl (G.2 0, 8, .inl (upd (σ 21) i v))) = zM G a th K (zup σ 21 i v) := by
  obtain ⟨e1, e2⟩ := zM_lo (G := G) (a := a) (th := th) (K := K) (σ := σ) (k := 21) (i := i) (v := v) (by decide)
  have e3 : zup σ 21 i v 20 = σ 20 := zup_kf (by decide)
  have e4 : zup σ 21 i v 22 = σ 22 := zup_kf (by decide)
  have e5 : zup σ 21 i v 21 = upd (σ 21) i v := zup_f
  show [_, _, _, _, _, _, _, _] = [_, _, _, _, _, _, _, _]
  rw [e1, e2, e3, e4, e5]
theorem zM_nu {G : zG} {a : Nat → Nat} {th : Int32} {K : zKt} {σ : zSt} {i : Nat} {v : Int32} : (zM G a th K σ).set 7 (a 7, .inl (G.2 0, 3, .inl (upd (σ 22) i v))) = zM G a th K (zup σ 22 i v) := by
  obtain ⟨e1, e2⟩ := zM_lo (G := G) (a := a) (th := th) (K := K) (σ := σ) (k := 22) (i := i) (v := v) (by decide)
  have e3 : zup σ 22 i v 20 = σ 20 := zup_kf (by decide)
  have e4 : zup σ 22 i v 21 = σ 21 := zup_kf (by decide)
  have e5 : zup σ 22 i v 22 = upd (σ 22) i v := zup_f
  show [_, _, _, _, _, _, _, _] = [_, _, _, _, _, _, _, _]
  rw [e1, e2, e3, e4, e5]
section Z4
variable {p : Program} {l : Launch} {e : Env} {R : Room} {s : State} {m : MethodId} {args : Array Value} {below : List Frame} {meth : Method} {c : Code} {H : Heap} {locs : List Loc} {cells slots : Nat} {Q : State → Prop}
variable {cc : ByteArray} {nL pc : Nat} {ret : Option FieldType} {G : zG} {rest : List Value} {ls : Array Slot} {a : Nat → Nat} {th : Int32} {K : zKt} {σ : zSt} {A : Nat → Prop}
/-- a field of the model -/
theorem zgM (C : zC p s m args meth c cc RX3 nL ret G) (hP : zMP G a th K σ H) {index : Nat} (k : Nat) (hk : k < 11) (hq : Cond.fieldLink RX3 index RX3 (TX3 k).2.1 (TX3 k).2.2.1 ∈ lw_all) {v : Value} (hv : (zMf a th K)[k]? = some v) (hsm : (TX3 k).1 = RX3) (hdg : decode cc pc = .ok (.getfield index, 3))
    (kk : W p l e R s m args below meth c H locs cells slots Q (F0 m (pc + 3) ls (v :: rest))) : W p l e R s m args below meth c H locs cells slots Q (F0 m pc ls (.ref (a 0) :: rest)) :=
  va_get C.1 C.2.1 C.2.2.2.2.1 in_X3 C.2.2.2.1 C.2.2.2.2.2.2.2.1 hP 0 rfl rfl k hk (C.2.2.2.2.1 _ hq) (fun x h => by rw [← hsm]; exact h) hv hdg kk
/-- the model as a call's receiver -/
theorem zrM {G : zG} {a : Nat → Nat} {th : Int32} {K : zKt} {σ : zSt} {H : Heap} {s : State} (hE : zE G s) (hP : zMP G a th K σ H) : ∃ cellB : Cell, H[a 0]? = some cellB ∧ cellB.vm.isStatics = false ∧ s.vm.findClass RX3 = some cellB.cls := va_recv hE.1 hP (ci := 0) (q0 := 0) (q := (RX3, TX3, 11)) rfl rfl
end Z4

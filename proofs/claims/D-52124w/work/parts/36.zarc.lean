/-! the arcade's world: a hall by the state, and what stands still in rounds -/
set_option maxRecDepth 100000
abbrev zHf (h : Nat → Nat) (x : Nat) (σ : zSt) : List Value := [.int (σ 22 0), .ref (h 1), .ref (h 2), .ref (h 3), .ref (h 4), .ref (h 5), .ref (h 6), .ref (h 7), .ref (h 8), .ref (h 9), .ref (h 10), .ref (h 11), .ref (h 12), .int (σ 22 1), .int (σ 22 2), .ref x]
abbrev zH (G : zG) (h : Nat → Nat) (x : Nat) (σ : zSt) : va_W := [(h 0, .inr (2, zHf h x σ)), (h 1, .inl (G.2 0, 8, .inl (σ 4))), (h 2, .inl (G.2 0, 8, .inl (σ 5))), (h 3, .inl (G.2 1, 8, .inl (σ 6))), (h 4, .inl (G.2 0, 8, .inl (σ 7))), (h 5, .inl (G.2 0, 8, .inl (σ 8))), (h 6, .inl (G.2 0, 40, .inl (σ 20))), (h 7, .inl (G.2 0, 10, .inl (σ 10))), (h 8, .inl (G.2 0, 10, .inl (σ 12))), (h 9, .inl (G.2 0, 10, .inl (σ 13))), (h 10, .inl (G.2 0, 10, .inl (σ 14))), (h 11, .inl (G.2 0, 10, .inl (σ 15))), (h 12, .inl (G.2 0, 8, .inl (σ 21)))]
def zHP (G : zG) (h : Nat → Nat) (x : Nat) (σ : zSt) (H : Heap) : Prop := va_P G.1 zCl (zH G h x σ) H
theorem zH_a {G : zG} {h : Nat → Nat} {x : Nat} {σ : zSt} {j : Nat} {q : Nat × va_E} (hh : (zH G h x σ)[j]? = some q) : j < 13 ∧ q.1 = h j := by
  match j, hh with
  | 0, h => cases h; exact ⟨by decide, rfl⟩
  | 1, h => cases h; exact ⟨by decide, rfl⟩
  | 2, h => cases h; exact ⟨by decide, rfl⟩
  | 3, h => cases h; exact ⟨by decide, rfl⟩
  | 4, h => cases h; exact ⟨by decide, rfl⟩
  | 5, h => cases h; exact ⟨by decide, rfl⟩
  | 6, h => cases h; exact ⟨by decide, rfl⟩
  | 7, h => cases h; exact ⟨by decide, rfl⟩
  | 8, h => cases h; exact ⟨by decide, rfl⟩
  | 9, h => cases h; exact ⟨by decide, rfl⟩
  | 10, h => cases h; exact ⟨by decide, rfl⟩
  | 11, h => cases h; exact ⟨by decide, rfl⟩
  | 12, h => cases h; exact ⟨by decide, rfl⟩
  | j + 13, h => simp at h
theorem zH_D {G : zG} {h : Nat → Nat} {x : Nat} {σ : zSt} (hI : zInj h 13) {A : Nat → Prop} (hA : ∀ q, zA h 13 q → A q) : va_D A (zH G h x σ) := by
  refine ⟨fun i j p q hi hj hxy => ?_, fun k q hk => ?_⟩
  · obtain ⟨h1, h2⟩ := zH_a hi
    obtain ⟨h3, h4⟩ := zH_a hj
    exact hI i j h1 h3 (by rw [← h2, ← h4]; exact hxy)
  · obtain ⟨h1, h2⟩ := zH_a hk
    exact hA _ ⟨k, h1, h2⟩
/-- the place of a row of numbers among the hall's cells -/
theorem zH_up {G : zG} {h : Nat → Nat} {x : Nat} {σ : zSt} {k i : Nat} {v : Int32} (j : Nat) {n : Nat} {d : ClassId} (hk : (j, k) ∈ [(1, 4), (2, 5), (3, 6), (4, 7), (5, 8), (6, 20), (7, 10), (8, 12), (9, 13), (10, 14), (11, 15), (12, 21)]) (he : (zH G h x σ)[j]? = some (h j, .inl (d, n, .inl (σ k)))) : (zH G h x σ).set j (h j, .inl (d, n, .inl (upd (σ k) i v))) = zH G h x (zup σ k i v) := by
  simp only [List.mem_cons, Prod.mk.injEq, List.not_mem_nil, or_false] at hk
  rcases hk with ⟨rfl, rfl⟩ | ⟨rfl, rfl⟩ | ⟨rfl, rfl⟩ | ⟨rfl, rfl⟩ | ⟨rfl, rfl⟩ | ⟨rfl, rfl⟩ | ⟨rfl, rfl⟩ | ⟨rfl, rfl⟩ | ⟨rfl, rfl⟩ | ⟨rfl, rfl⟩ | ⟨rfl, rfl⟩ | ⟨rfl, rfl⟩ <;> (cases he; simp [zup, zH, zHf])
/-! what stands still -/
abbrev zXf (B : Nat → Nat → Nat) (K : zKt) : List Value := [.ref (B 0 1), .ref (B 0 3), .ref (B 5 0), .ref (B 6 0), .int (zkS K)]
abbrev zTb (G : zG) (B : Nat → Nat → Nat) (K : zKt) (σ : zSt) (i : Nat) : va_W := [(B 1 i, .inr (3, [.int (nI i), .int (nI (zWd σ i)), .int (nI (zDp σ i)), .ref (B 2 i), .ref (B 3 i)])), (B 2 i, .inl (G.2 0, zDp σ i * zWd σ i, .inl (fun j => zkN K i (j / zWd σ i) (j % zWd σ i)))), (B 3 i, .inl (G.2 0, zWd σ i, .inl (zkC K i)))]
abbrev zRefs (n : Nat) (f : Nat → Nat) : Nat → Option Nat := fun i => if i < n then some (f i) else none
abbrev zX0 (B : Nat → Nat → Nat) (K : zKt) : va_W := [(B 0 0, .inr (1, zXf B K))]
abbrev zXm (B : Nat → Nat → Nat) (K : zKt) (m1 : Int32) : va_W := [(B 0 1, .inr (6, [.int m1, .ref (B 0 2), .int (nI (zkM K))]))]
abbrev zXp (B : Nat → Nat → Nat) (K : zKt) (m2 : Int32) : va_W := [(B 0 3, .inr (6, [.int m2, .ref (B 0 4), .int (nI (zkP K))]))]
abbrev zXmd (G : zG) (B : Nat → Nat → Nat) (K : zKt) : va_W := [(B 0 2, .inl (G.2 3, 10, .inr (.inr (.inr (.inr (zRefs (zkM K) (B 1)))))))]
abbrev zXpd (G : zG) (B : Nat → Nat → Nat) (K : zKt) : va_W := [(B 0 4, .inl (G.2 3, 10, .inr (.inr (.inr (.inr (zRefs (zkP K) (B 4)))))))]
abbrev zPu (B : Nat → Nat → Nat) (σ : zSt) (i : Nat) : va_W := [(B 1 i, .inr (4, [.int (nI i), .int (σ 3 i)]))]
abbrev zPy (B : Nat → Nat → Nat) (σ : zSt) (u : Nat) : va_W := [(B 4 u, .inr (5, [.int (σ 11 u)]))]
def zXP (G : zG) (B : Nat → Nat → Nat) (K : zKt) (σ : zSt) (H : Heap) : Prop :=
  va_P G.1 zCl (zX0 B K) H ∧ (∃ m1, va_P G.1 zCl (zXm B K m1) H) ∧ (∃ m2, va_P G.1 zCl (zXp B K m2) H) ∧ (0 < zkM K → va_P G.1 zCl (zXmd G B K) H) ∧ (0 < zkP K → va_P G.1 zCl (zXpd G B K) H) ∧
  (∀ i, i < zkM K → zTab σ i → va_P G.1 zCl (zTb G B K σ i) H) ∧ (∀ i, i < zkM K → zPsh σ i → va_P G.1 zCl (zPu B σ i) H) ∧ (∀ u, u < zkP K → va_P G.1 zCl (zPy B σ u) H)
/-- the addresses of what stands still -/
def zXA (B : Nat → Nat → Nat) (K : zKt) (σ : zSt) (q : Nat) : Prop := q = B 0 0 ∨ q = B 0 1 ∨ q = B 0 3 ∨ (0 < zkM K ∧ q = B 0 2) ∨ (0 < zkP K ∧ q = B 0 4) ∨ (∃ i, i < zkM K ∧ (q = B 1 i ∨ (zTab σ i ∧ (q = B 2 i ∨ q = B 3 i)))) ∨ ∃ u, u < zkP K ∧ q = B 4 u
theorem zP_one {D : va_G} {cl : List vw_C} {H H1 : Heap} {A : Nat → Prop} {a : Nat} {e : va_E} (h : va_P D cl [(a, e)] H) (hF : zF A H H1) (hn : ¬ A a) : va_P D cl [(a, e)] H1 := zP_keep h hF (fun k q hk => by
  have h1 : k < 1 := (List.getElem?_eq_some_iff.mp hk).1
  rw [show k = 0 by omega] at hk
  cases hk
  exact hn)
theorem zXP.keep {G : zG} {B : Nat → Nat → Nat} {K : zKt} {σ : zSt} {A : Nat → Prop} {H H1 : Heap} (h : zXP G B K σ H) (hF : zF A H H1) (hn : ∀ q, zXA B K σ q → ¬ A q) : zXP G B K σ H1 := by
  obtain ⟨h0, ⟨m1, h1⟩, ⟨m2, h2⟩, h3, h4, h5, h6, h7⟩ := h
  refine ⟨zP_one h0 hF (hn _ (Or.inl rfl)), ⟨m1, zP_one h1 hF (hn _ (Or.inr (Or.inl rfl)))⟩, ⟨m2, zP_one h2 hF (hn _ (Or.inr (Or.inr (Or.inl rfl))))⟩, fun hz => zP_one (h3 hz) hF (hn _ (Or.inr (Or.inr (Or.inr (Or.inl ⟨hz, rfl⟩))))), fun hz => zP_one (h4 hz) hF (hn _ (Or.inr (Or.inr (Or.inr (Or.inr (Or.inl ⟨hz, rfl⟩)))))), fun i hi ht => ?_, fun i hi ht => zP_one (h6 i hi ht) hF (hn _ (Or.inr (Or.inr (Or.inr (Or.inr (Or.inr (Or.inl ⟨i, hi, Or.inl rfl⟩))))))), fun u hu => zP_one (h7 u hu) hF (hn _ (Or.inr (Or.inr (Or.inr (Or.inr (Or.inr (Or.inr ⟨u, hu, rfl⟩)))))))⟩
  refine zP_keep (h5 i hi ht) hF (fun k q hk => ?_)
  match k, hk with
  | 0, hk => cases hk; exact hn _ (Or.inr (Or.inr (Or.inr (Or.inr (Or.inr (Or.inl ⟨i, hi, Or.inl rfl⟩))))))
  | 1, hk => cases hk; exact hn _ (Or.inr (Or.inr (Or.inr (Or.inr (Or.inr (Or.inl ⟨i, hi, Or.inr ⟨ht, Or.inl rfl⟩⟩))))))
  | 2, hk => cases hk; exact hn _ (Or.inr (Or.inr (Or.inr (Or.inr (Or.inr (Or.inl ⟨i, hi, Or.inr ⟨ht, Or.inr rfl⟩⟩))))))
  | k + 3, hk => simp at hk
theorem zXP.cong {G : zG} {B : Nat → Nat → Nat} {K : zKt} {σ τ : zSt} {H : Heap} (h : zXP G B K σ H) (e0 : τ 0 = σ 0) (e1 : τ 1 = σ 1) (e2 : τ 2 = σ 2) (e3 : τ 3 = σ 3) (e11 : τ 11 = σ 11) : zXP G B K τ H := by
  have hw : ∀ i, zWd τ i = zWd σ i := fun i => by unfold zWd; rw [e1]
  have hd : ∀ i, zDp τ i = zDp σ i := fun i => by unfold zDp; rw [e2]
  obtain ⟨h0, h1, h2, h3, h4, h5, h6, h7⟩ := h
  refine ⟨h0, h1, h2, h3, h4, fun i hi ht => ?_, fun i hi ht => ?_, fun u hu => ?_⟩
  · have := h5 i hi (ht.cong e0.symm e1.symm e2.symm)
    show va_P G.1 zCl (zTb G B K τ i) H
    unfold zTb
    rw [hw, hd]
    exact this
  · have := h6 i hi (ht.cong e0.symm e1.symm e2.symm)
    show va_P G.1 zCl (zPu B τ i) H
    unfold zPu
    rw [e3]
    exact this
  · have := h7 u hu
    show va_P G.1 zCl (zPy B τ u) H
    unfold zPy
    rw [e11]
    exact this
theorem zXA.cong {B : Nat → Nat → Nat} {K : zKt} {σ τ : zSt} (e0 : τ 0 = σ 0) (e1 : τ 1 = σ 1) (e2 : τ 2 = σ 2) {q : Nat} (h : zXA B K τ q) : zXA B K σ q := by
  rcases h with h | h | h | h | h | ⟨i, hi, h | ⟨ht, h⟩⟩ | h
  · exact Or.inl h
  · exact Or.inr (Or.inl h)
  · exact Or.inr (Or.inr (Or.inl h))
  · exact Or.inr (Or.inr (Or.inr (Or.inl h)))
  · exact Or.inr (Or.inr (Or.inr (Or.inr (Or.inl h))))
  · exact Or.inr (Or.inr (Or.inr (Or.inr (Or.inr (Or.inl ⟨i, hi, Or.inl h⟩)))))
  · exact Or.inr (Or.inr (Or.inr (Or.inr (Or.inr (Or.inl ⟨i, hi, Or.inr ⟨ht.cong e0.symm e1.symm e2.symm, h⟩⟩)))))
  · exact Or.inr (Or.inr (Or.inr (Or.inr (Or.inr (Or.inr h)))))
section ZC
variable {p : Program} {l : Launch} {e : Env} {R : Room} {s : State} {m : MethodId} {args : Array Value} {below : List Frame} {meth : Method} {c : Code} {H : Heap} {locs : List Loc} {cells slots : Nat} {Q : State → Prop}
variable {cc : ByteArray} {own host : String} {nL pc index : Nat} {ret : Option FieldType} {G : zG} {rest : List Value} {ls : Array Slot} {h : Nat → Nat} {x : Nat} {σ : zSt} {A : Nat → Prop} {ws : va_W} {a : Nat}
/-- a field of an object of the world, by a class's own link or a superclass's -/
theorem zgO {Cn : String} {T : u_T} {N ci : Nat} (C : zC p s m args meth c cc own nL ret G) (hin : ∀ w ∈ u_ws Cn T N, w ∈ lw_all) (hP : va_P G.1 zCl ws H) (q0 : Nat) {fs : List Value} (he : ws[q0]? = some (a, .inr (ci, fs))) (hc : zCl[ci]? = some (Cn, T, N)) (k : Nat) (hk : k < N) (hq : Cond.fieldLink own index (T k).1 (T k).2.1 (T k).2.2.1 ∈ lw_all) {v : Value} (hv : fs[k]? = some v) (hdg : decode cc pc = .ok (.getfield index, 3))
    (kk : W p l e R s m args below meth c H locs cells slots Q (F0 m (pc + 3) ls (v :: rest))) : W p l e R s m args below meth c H locs cells slots Q (F0 m pc ls (.ref a :: rest)) :=
  va_get C.1 C.2.1 C.2.2.2.2.1 hin C.2.2.2.1 C.2.2.2.2.2.2.2.1 hP q0 he hc k hk (C.2.2.2.2.1 _ hq) (fun _ h => h) hv hdg kk
/-- the same, by a nest mate's link -/
theorem zgN {Cn : String} {T : u_T} {N ci : Nat} (C : zC p s m args meth c cc own nL ret G) (hin : ∀ w ∈ u_ws Cn T N, w ∈ lw_all) (hP : va_P G.1 zCl ws H) (q0 : Nat) {fs : List Value} (he : ws[q0]? = some (a, .inr (ci, fs))) (hc : zCl[ci]? = some (Cn, T, N)) (k : Nat) (hk : k < N) (hq : Cond.fieldLinkNest own index (T k).1 (T k).2.1 (T k).2.2.1 host ∈ lw_tbl) {v : Value} (hv : fs[k]? = some v) (hdg : decode cc pc = .ok (.getfield index, 3))
    (kk : W p l e R s m args below meth c H locs cells slots Q (F0 m (pc + 3) ls (v :: rest))) : W p l e R s m args below meth c H locs cells slots Q (F0 m pc ls (.ref a :: rest)) :=
  va_getN C.1 C.2.1 C.2.2.2.2.1 hin C.2.2.2.1 C.2.2.2.2.2.2.2.1 hP q0 he hc k hk (C.2.2.2.2.2.2.2.nw hq rfl) (fun _ h => h) hv hdg kk
theorem zn_zald (C : zC p s m args meth c cc own nL ret G) (hP : va_P G.1 zCl ws H) (q0 : Nat) {n N : Nat} {f : Nat → Int32} (ha : ws[q0]? = some (a, .inl (G.2 1, N, .inl f))) (hn : n < N) (hN : N < 2 ^ 31) (hdg : decode cc pc = .ok (.baload, 1)) (k : W p l e R s m args below meth c H locs cells slots Q (F0 m (pc + 1) ls (.int (f n) :: rest))) : W p l e R s m args below meth c H locs cells slots Q (F0 m pc ls (.int (nI n) :: .ref a :: rest)) :=
  va_zald C.1 C.2.1 C.2.2.2.2.2.2.2.1 hP q0 1 ha rfl (vp_in_nI hn hN) hdg (by rw [nI_clamp (Nat.lt_trans hn hN)]; exact k)
theorem zn_zast (C : zC p s m args meth c cc own nL ret G) (hP : va_P G.1 zCl ws H) (hD : va_D A ws) (hS : va_S A s.heap H locs) (q0 : Nat) {n N : Nat} {f : Nat → Int32} {x : Int32} (hx : vp_nar .boolean x = x) (ha : ws[q0]? = some (a, .inl (G.2 1, N, .inl f))) (hn : n < N) (hN : N < 2 ^ 31) (hdg : decode cc pc = .ok (.bastore, 1)) (k : ∀ (H1 : Heap) (locs1 : List Loc), va_P G.1 zCl (ws.set q0 (a, .inl (G.2 1, N, .inl (upd f n x)))) H1 → va_S A s.heap H1 locs1 → W p l e R s m args below meth c H1 locs1 cells slots Q (F0 m (pc + 1) ls rest)) : W p l e R s m args below meth c H locs cells slots Q (F0 m pc ls (.int x :: .int (nI n) :: .ref a :: rest)) :=
  va_zast C.1 C.2.1 C.2.2.2.2.2.2.2.1 hP hD hS q0 1 ha rfl (vp_in_nI hn hN) hdg (fun H1 l1 h1 _ h2 => k H1 l1 (by rw [nI_clamp (Nat.lt_trans hn hN), hx] at h1; exact h1) h2)
/-- an element of a list's array -/
theorem zn_aldo (C : zC p s m args meth c cc own nL ret G) (hP : va_P G.1 zCl ws H) (q0 : Nat) {n N v : Nat} {f : Nat → Option Nat} (ha : ws[q0]? = some (a, .inl (G.2 3, N, .inr (.inr (.inr (.inr f)))))) (hn : n < N) (hN : N < 2 ^ 31) (hv : f n = some v) (hdg : decode cc pc = .ok (.aaload, 1)) (k : W p l e R s m args below meth c H locs cells slots Q (F0 m (pc + 1) ls (.ref v :: rest))) : W p l e R s m args below meth c H locs cells slots Q (F0 m pc ls (.int (nI n) :: .ref a :: rest)) :=
  va_aldq C.1 C.2.1 C.2.2.2.2.2.2.2.1 hP q0 3 ha rfl (vp_in_nI hn hN) hdg (by rw [nI_clamp (Nat.lt_trans hn hN), hv]; exact k)
/-- the hall's own numbers are written -/
theorem zpH (C : zC p s m args meth c cc RX2 nL ret G) (hI : zInj h 13) (hA : ∀ q, zA h 13 q → A q) (hP : zHP G h x σ H) (hS : va_S A s.heap H locs) (k w : Nat) (hk : (k, w) ∈ [(0, 0), (13, 1), (14, 2)]) (hq : Cond.fieldLink RX2 index RX2 (TX2 k).2.1 (TX2 k).2.2.1 ∈ lw_all) {v : Int32} (hdg : decode cc pc = .ok (.putfield index, 3))
    (kk : ∀ (H1 : Heap) (locs1 : List Loc), zHP G h x (zup σ 22 w v) H1 → va_S A s.heap H1 locs1 → W p l e R s m args below meth c H1 locs1 cells slots Q (F0 m (pc + 3) ls rest)) : W p l e R s m args below meth c H locs cells slots Q (F0 m pc ls (.int v :: .ref (h 0) :: rest)) := by
  have hk16 : k < 16 := by
    simp only [List.mem_cons, Prod.mk.injEq, List.not_mem_nil, or_false] at hk
    omega
  refine va_put (ty := .int) C.1 C.2.1 C.2.2.2.2.1 in_X2 tyX2 tyX2_ok nmX2 C.2.2.2.1 C.2.2.2.2.2.2.2.1 hP (zH_D hI hA) hS 0 rfl rfl k hk16 (C.2.2.2.2.1 _ hq) (fun y hy => ?_) ?_ ?_ rfl rfl hk16 hdg (fun H1 l1 h1 _ h2 => kk H1 l1 ?_ h2)
  · simp only [List.mem_cons, Prod.mk.injEq, List.not_mem_nil, or_false] at hk
    rcases hk with ⟨rfl, rfl⟩ | ⟨rfl, rfl⟩ | ⟨rfl, rfl⟩ <;> exact hy
  · simp only [List.mem_cons, Prod.mk.injEq, List.not_mem_nil, or_false] at hk
    rcases hk with ⟨rfl, rfl⟩ | ⟨rfl, rfl⟩ | ⟨rfl, rfl⟩ <;> rfl
  · simp only [List.mem_cons, Prod.mk.injEq, List.not_mem_nil, or_false] at hk
    rcases hk with ⟨rfl, rfl⟩ | ⟨rfl, rfl⟩ | ⟨rfl, rfl⟩ <;> decide +kernel
  · simp only [List.mem_cons, Prod.mk.injEq, List.not_mem_nil, or_false] at hk
    show va_P G.1 zCl (zH G h x (zup σ 22 w v)) H1
    rcases hk with ⟨rfl, rfl⟩ | ⟨rfl, rfl⟩ | ⟨rfl, rfl⟩ <;> (simp [zup, upd, zH, zHf] at h1 ⊢; exact h1)
end ZC
theorem zXP.rec1 {G : zG} {B : Nat → Nat → Nat} {K : zKt} {σ : zSt} {H : Heap} {s : State} (hE : zE G s) (h : zXP G B K σ H) : ∃ cellB : Cell, H[B 0 1]? = some cellB ∧ cellB.vm.isStatics = false ∧ s.vm.findClass RJ2 = some cellB.cls := by
  obtain ⟨m1, h1⟩ := h.2.1
  exact va_recv hE.1 h1 (ci := 6) (q0 := 0) (q := (RJ2, TJ2, 3)) rfl rfl
theorem zXP.rec3 {G : zG} {B : Nat → Nat → Nat} {K : zKt} {σ : zSt} {H : Heap} {s : State} (hE : zE G s) (h : zXP G B K σ H) : ∃ cellB : Cell, H[B 0 3]? = some cellB ∧ cellB.vm.isStatics = false ∧ s.vm.findClass RJ2 = some cellB.cls := by
  obtain ⟨m1, h1⟩ := h.2.2.1
  exact va_recv hE.1 h1 (ci := 6) (q0 := 0) (q := (RJ2, TJ2, 3)) rfl rfl
theorem zrH {G : zG} {h : Nat → Nat} {x : Nat} {σ : zSt} {H : Heap} {s : State} (hE : zE G s) (hP : zHP G h x σ H) : ∃ cellB : Cell, H[h 0]? = some cellB ∧ cellB.vm.isStatics = false ∧ s.vm.findClass RX2 = some cellB.cls := va_recv hE.1 hP (ci := 2) (q0 := 0) (q := (RX2, TX2, 16)) rfl rfl
theorem zrO {G : zG} {ws : va_W} {H : Heap} {s : State} {a ci q0 : Nat} {fs : List Value} {q : vw_C} (hE : zE G s) (hP : va_P G.1 zCl ws H) (hc : zCl[ci]? = some q) (he : ws[q0]? = some (a, .inr (ci, fs))) : ∃ cellB : Cell, H[a]? = some cellB ∧ cellB.vm.isStatics = false ∧ s.vm.findClass q.1 = some cellB.cls := va_recv hE.1 hP hc he

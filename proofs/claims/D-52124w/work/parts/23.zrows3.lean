/-! rows: a new array of ints, a copy between arrays of ints, the model's own fields; the outcomes of the calls -/
set_option maxRecDepth 100000
theorem zTyI {G : zG} {s : State} (hE : zE G s) : s.vm.findClass ("[" ++ FieldType.int.toString) = some (G.2 0) := (hE.1.2 0 _ rfl).2
section Z7
variable {p : Program} {l : Launch} {e : Env} {R : Room} {s : State} {m : MethodId} {args : Array Value} {below : List Frame} {meth : Method} {c : Code} {H : Heap} {locs : List Loc} {cells slots : Nat} {Q : State → Prop}
variable {cc : ByteArray} {own : String} {nL pc : Nat} {ret : Option FieldType} {G : zG} {rest : List Value} {ls : Array Slot} {ws : va_W} {a b : Nat} {A : Nat → Prop}
theorem zn_newi (C : zC p s m args meth c cc own nL ret G) (harr : Cond.arrayClass .int ∈ lw_all) (hP : va_P G.1 zCl ws H) (hD : va_D A ws) (hS : va_S A s.heap H locs) (hA : ∀ q, s.heap.size ≤ q → A q) {N : Nat} (hN : N < 2 ^ 20) (hcells : cells + 1 ≤ R.cells) (hslots : slots + N ≤ R.slots) (hdg : decode cc pc = .ok (.newarray .int, 2))
    (kk : ∀ (q : Nat) (H1 : Heap), s.heap.size ≤ q → H.size ≤ H1.size → va_P G.1 zCl (ws ++ [(q, .inl (G.2 0, N, .inl (fun _ => nI 0)))]) H1 → va_D A (ws ++ [(q, .inl (G.2 0, N, .inl (fun _ => nI 0)))]) → va_S A s.heap H1 locs → W p l e R s m args below meth c H1 locs (cells + 1) (slots + N) Q (F0 m (pc + 2) ls (.ref q :: rest))) : W p l e R s m args below meth c H locs cells slots Q (F0 m pc ls (.int (nI N) :: rest)) := by
  have hN31 : N < 2 ^ 31 := by omega
  have hK := C.2.2.2.2.2.2.2.1
  refine va_newaK (atype := .int) C.1 C.2.1 (C.2.2.2.2.1 _ harr) rfl hdg rfl (nI_pos hN31) (nI_clamp hN31) ?_ hcells hslots rfl fun H1 cA e1 z1 o1 hAr hNm => ?_
  · show N * 4 ≤ 536870912
    omega
  have hcA : cA = G.2 0 := Option.some.inj (hNm.symm.trans (zTyI C.2.2.2.2.2.2.2))
  subst hcA
  have hk : ∀ (k : Nat) (x : Nat × va_E), ws[k]? = some x → H1[x.1]? = H[x.1]? := fun k x hx => o1 x.1 ((hP k x hx).lt)
  refine kk H.size H1 hS.1 (by omega) ((hP.kept hk).app (fun k x hx => ?_)) (hD.push hP rfl (hA _ hS.1)) ⟨Nat.le_trans hS.1 (by omega), fun x h1 h2 => (o1 x (Nat.lt_of_lt_of_le h1 hS.1)).trans (hS.2.1 x h1 h2), hS.2.2⟩
  have hz : k < 1 := (List.getElem?_eq_some_iff.mp hx).1
  rw [show k = 0 by omega] at hx
  cases hx
  exact e1
theorem zn_copy (C : zC p s m args meth c cc own nL ret G) (hl : ls.size = nL) {index : Nat} (h1 : Cond.methodLink own index arraycopyName ∈ lw_all) (h2 : Cond.native arraycopyName ∈ lw_all) (h3 : Cond.static arraycopyName ∈ lw_all) (h4 : Cond.initialized "java/lang/System" ∈ lw_all)
    (hP : va_P G.1 zCl ws H) (hD : va_D A ws) (hS : va_S A s.heap H locs) (q0 q1 : Nat) {a0 n0 n1 : Nat} {f g : Nat → Int32} (ha0 : ws[q0]? = some (a0, .inl (G.2 0, n0, .inl f))) (ha1 : ws[q1]? = some (a, .inl (G.2 0, n1, .inl g))) {sp dp n : Nat} (b0 : sp + n ≤ n0) (b1 : dp + n ≤ n1) (bn : n0 < 2 ^ 31) (bm : n1 < 2 ^ 31)
    (hframes : 1 ≤ R.frames) (hlocals : (rest.map fun v => v.category).sum + (nativeFrameWords "java/lang/System" "arraycopy" 5 + 11) ≤ R.locals) (hdg : decode cc pc = .ok (.invokestatic index, 3))
    (kk : ∀ (H1 : Heap) (locs1 : List Loc), va_P G.1 zCl (ws.set q1 (a, .inl (G.2 0, n1, .inl (va_cpy f g sp dp n)))) H1 → va_S A s.heap H1 locs1 → W p l e R s m args below meth c H1 locs1 cells slots Q (F0 m (pc + 3) ls rest)) : W p l e R s m args below meth c H locs cells slots Q (F0 m pc ls (.int (nI n) :: .int (nI dp) :: .ref a :: .int (nI sp) :: .ref a0 :: rest)) := by
  have cn : (nI n).toNatClampNeg = n := nI_clamp (by omega)
  have cd : (nI dp).toNatClampNeg = dp := nI_clamp (by omega)
  have cs : (nI sp).toNatClampNeg = sp := nI_clamp (by omega)
  refine va_copyi C.1 C.2.1 (C.2.2.1.trans hl.symm) C.2.2.2.1 (C.2.2.2.2.1 _ h1) (C.2.2.2.2.1 _ h2) (C.2.2.2.2.1 _ h3) (C.2.2.2.2.1 _ h4) C.2.2.2.2.2.2.2.1 hP hD hS q0 q1 0 0 (ty := .int) ha0 ha1 rfl rfl rfl (nI_pos (by omega)) (nI_pos (by omega)) (nI_pos (by omega)) (by rw [cs, cn]; exact b0) (by rw [cd, cn]; exact b1) (fun _ _ => rfl) hframes hlocals hdg (fun H1 l1 h1 _ h2 => ?_)
  rw [cn, cd, cs] at h1
  exact kk H1 l1 h1 h2
end Z7
section Z8
variable {p : Program} {l : Launch} {e : Env} {R : Room} {s : State} {m : MethodId} {args : Array Value} {below : List Frame} {meth : Method} {c : Code} {H : Heap} {locs : List Loc} {cells slots : Nat} {Q : State → Prop}
variable {cc : ByteArray} {nL pc : Nat} {ret : Option FieldType} {G : zG} {rest : List Value} {ls : Array Slot} {a : Nat → Nat} {th th' : Int32} {K K' : zKt} {σ : zSt} {A : Nat → Prop}
/-- the model's own numbers are written -/
theorem zpM (C : zC p s m args meth c cc RX3 nL ret G) (hI : zInj a 8) (hA : ∀ q, zA a 8 q → A q) (hP : zMP G a th K σ H) (hS : va_S A s.heap H locs) {index : Nat} (k : Nat) (hk : k < 11) (hq : Cond.fieldLink RX3 index RX3 (TX3 k).2.1 (TX3 k).2.2.1 ∈ lw_all) (hsm : (TX3 k).1 = RX3) (hfin : (TX3 k).2.2.2 = false) (hd : parseFieldDescriptor (TX3 k).2.2.1 = some .int) {x : Int32} (he : (zMf a th K).set k (.int x) = zMf a th' K') (hKc : zkC K' = zkC K ∧ zkN K' = zkN K) (hdg : decode cc pc = .ok (.putfield index, 3))
    (kk : ∀ (H1 : Heap) (locs1 : List Loc), zMP G a th' K' σ H1 → va_S A s.heap H1 locs1 → W p l e R s m args below meth c H1 locs1 cells slots Q (F0 m (pc + 3) ls rest)) : W p l e R s m args below meth c H locs cells slots Q (F0 m pc ls (.int x :: .ref (a 0) :: rest)) := by
  refine va_put (ty := .int) C.1 C.2.1 C.2.2.2.2.1 in_X3 tyX3 tyX3_ok nmX3 C.2.2.2.1 C.2.2.2.2.2.2.2.1 hP (zM_D hI hA) hS 0 rfl rfl k hk (C.2.2.2.2.1 _ hq) (fun x h => by rw [← hsm]; exact h) hfin hd rfl rfl hk hdg (fun H1 l1 h1 _ h2 => kk H1 l1 ?_ h2)
  have e : (zM G a th K σ).set 0 (a 0, .inr (0, (zMf a th K).set k (.int x))) = zM G a th' K' σ := by
    rw [he]
    show [_, _, _, _, _, _, _, _] = [_, _, _, _, _, _, _, _]
    rw [hKc.1, hKc.2]
  rw [e] at h1
  exact h1
end Z8
/-! outcomes: what is thrown (0: nothing), the answer, and the state behind it -/
abbrev zO : Type := Int32 × Int32 × zKt × zSt
abbrev oF (K : zKt) (σ : zSt) (n : Nat) : zO := (nI n, nI 0, K, σ)
def zMrow (kd cl rw st bx : Int32) (w : Nat) : Int32 := match w with
  | 0 => kd
  | 1 => cl
  | 2 => rw
  | 3 => st
  | 4 => bx
  | _ => nI 0
def zAdd (σ : zSt) (n : Nat) (kd cl rw st bx : Int32) : zSt := fun w => if w < 9 then upd (σ w) n (zMrow kd cl rw st bx w) else σ w
def zProw (pu te : Int32) (w : Nat) : Int32 := match w with
  | 0 => pu
  | 1 => te
  | 2 => -1
  | _ => nI 0
def zNewP (σ : zSt) (n : Nat) (pu te : Int32) : zSt := fun w => if 10 ≤ w ∧ w < 16 then upd (σ w) n (zProw pu te (w - 10)) else σ w
def zUp2 (f : Nat → Nat → Int32) (i j : Nat) (v : Int32) : Nat → Nat → Int32 := fun i' => if i' = i then upd (f i) j v else f i'
def zUp3 (f : Nat → Nat → Nat → Int32) (i j k : Nat) (v : Int32) : Nat → Nat → Nat → Int32 := fun i' => if i' = i then zUp2 (f i) j k v else f i'
abbrev zKm (K : zKt) : zKt := (zkM K + 1, K.2)
abbrev zKp (K : zKt) : zKt := (zkM K, zkP K + 1, K.2.2)
abbrev zKs (K : zKt) (v : Int32) : zKt := (zkM K, zkP K, v, K.2.2.2)
abbrev zKc (K : zKt) (i j : Nat) (v : Int32) : zKt := (zkM K, zkP K, zkS K, zUp2 (zkC K) i j v, zkN K)
abbrev zKn (K : zKt) (i j k : Nat) (v : Int32) : zKt := (zkM K, zkP K, zkS K, zkC K, zUp3 (zkN K) i j k v)
abbrev zMac (K : zKt) (v : Int32) : Prop := nI 0 ≤ v ∧ v ≤ nI (zkM K) - nI 1
abbrev zPla (K : zKt) (v : Int32) : Prop := nI 0 ≤ v ∧ v ≤ nI (zkP K) - nI 1
theorem zIdx {v : Int32} {n : Nat} (hn : n < 2 ^ 30) (h : nI 0 ≤ v ∧ v ≤ nI n - nI 1) : ∃ i, i < n ∧ v = nI i := by
  obtain ⟨h1, h2⟩ := h
  have hv : ¬ v < 0 := Int32.not_lt.mpr h1
  obtain ⟨j, hj, e⟩ := nI_of hv
  subst e
  refine ⟨j, ?_, rfl⟩
  have h3 := Int32.le_iff_toInt_le.mp h2
  rw [nI_toInt hj, pk_sub_toInt hn (by decide)] at h3
  omega
theorem zIdx' {i n : Nat} (hn : n < 2 ^ 30) (h : i < n) : nI 0 ≤ nI i ∧ nI i ≤ nI n - nI 1 := by
  refine ⟨nI_pos' (by omega), ?_⟩
  rw [Int32.le_iff_toInt_le, nI_toInt (by omega), pk_sub_toInt hn (by decide)]
  omega
def oAddTable (K : zKt) (σ : zSt) (cl rw bx : Int32) : zO := if nI 3 ≤ cl ∧ cl ≤ nI 9 then (if nI 2 ≤ rw ∧ rw ≤ nI 12 then (if nI 0 ≤ bx ∧ bx ≤ nI 9999 then (if zkM K = 8 then oF K σ 2 else (nI 0, nI (zkM K), zKm K, zAdd σ (zkM K) (nI 0) cl rw (nI 0) bx)) else oF K σ 1) else oF K σ 1) else oF K σ 1
def oAddPusher (K : zKt) (σ : zSt) (st bx : Int32) : zO := if nI 1 ≤ st ∧ st ≤ nI 9 then (if nI 0 ≤ bx ∧ bx ≤ nI 9999 then (if zkM K = 8 then oF K σ 2 else (nI 0, nI (zkM K), zKm K, zAdd σ (zkM K) (nI 1) (nI 0) (nI 0) st bx)) else oF K σ 1) else oF K σ 1
def oBend (K : zKt) (σ : zSt) (mv rv cv sv : Int32) : zO := if zMac K mv then (if σ 0 mv.toNatClampNeg = 0 ∧ nI 0 ≤ cv ∧ cv ≤ σ 1 mv.toNatClampNeg - nI 1 then (if nI 0 ≤ rv ∧ rv ≤ σ 2 mv.toNatClampNeg - nI 1 then (if -1 ≤ sv ∧ sv ≤ nI 1 then (nI 0, zkN K mv.toNatClampNeg rv.toNatClampNeg cv.toNatClampNeg, zKn K mv.toNatClampNeg rv.toNatClampNeg cv.toNatClampNeg sv, σ) else oF K σ 2) else oF K σ 2) else oF K σ 2) else oF K σ 1
def oSetCup (K : zKt) (σ : zSt) (mv cv pv : Int32) : zO := if zMac K mv then (if σ 0 mv.toNatClampNeg = 0 ∧ nI 0 ≤ cv ∧ cv ≤ σ 1 mv.toNatClampNeg - nI 1 then (if nI 0 ≤ pv ∧ pv ≤ nI 20 then (nI 0, zkC K mv.toNatClampNeg cv.toNatClampNeg, zKc K mv.toNatClampNeg cv.toNatClampNeg pv, σ) else oF K σ 2) else oF K σ 2) else oF K σ 1
def oMachine (K : zKt) (σ : zSt) (mv wv : Int32) : zO := if zMac K mv then (if nI 0 ≤ wv ∧ wv ≤ nI 10 then (nI 0, zTold K σ mv.toNatClampNeg wv.toNatClampNeg, K, σ) else oF K σ 1) else oF K σ 1
def oEnds (K : zKt) (σ : zSt) (mv cv tv : Int32) : zO := if zMac K mv then (if σ 0 mv.toNatClampNeg = 0 ∧ nI 0 ≤ cv ∧ cv ≤ σ 1 mv.toNatClampNeg - nI 1 then (if -1 ≤ tv ∧ tv ≤ nI 1 then (nI 0, nI (zEnd K σ mv.toNatClampNeg cv.toNatClampNeg tv), K, σ) else oF K σ 2) else oF K σ 2) else oF K σ 1
def oBestTilt (K : zKt) (σ : zSt) (mv cv : Int32) : zO := if zMac K mv then (if σ 0 mv.toNatClampNeg = 0 ∧ nI 0 ≤ cv ∧ cv ≤ σ 1 mv.toNatClampNeg - nI 1 then (nI 0, zBest K σ mv.toNatClampNeg cv.toNatClampNeg, K, σ) else oF K σ 2) else oF K σ 1
def oLedge (K : zKt) (σ : zSt) (mv pv : Int32) : zO := if zMac K mv then (if σ 0 mv.toNatClampNeg = 0 then oF K σ 2 else (if nI 0 ≤ pv ∧ pv ≤ nI 4 then (nI 0, σ 20 (5 * mv.toNatClampNeg + pv.toNatClampNeg), K, σ) else oF K σ 2)) else oF K σ 1
def oCome (K : zKt) (σ : zSt) (pu te : Int32) : zO := if nI 0 ≤ pu ∧ pu ≤ nI 500 then (if nI 1 ≤ te ∧ te ≤ nI 9 then (if zkP K = 10 then oF K σ 2 else (nI 0, nI (zkP K), zKp K, zNewP σ (zkP K) pu te)) else oF K σ 1) else oF K σ 1
def oGo (K : zKt) (σ : zSt) (pv mv : Int32) : zO := if zPla K pv then (if mv = -1 then (nI 0, σ 12 pv.toNatClampNeg, K, zTo σ pv.toNatClampNeg mv) else (if zMac K mv then (nI 0, σ 12 pv.toNatClampNeg, K, zTo σ pv.toNatClampNeg mv) else oF K σ 1)) else oF K σ 1
def oPlayOn (K : zKt) (σ : zSt) (pv mv cv tv : Int32) : zO := if σ 6 mv.toNatClampNeg = 0 then (if σ 10 pv.toNatClampNeg ≤ 0 then oF K σ 3 else (nI 0, (zPlA K σ pv.toNatClampNeg mv.toNatClampNeg cv.toNatClampNeg tv).2, K, (zPlA K σ pv.toNatClampNeg mv.toNatClampNeg cv.toNatClampNeg tv).1)) else oF K σ 3
def oPlay (K : zKt) (σ : zSt) (pv mv cv tv : Int32) : zO := if zPla K pv then (if zMac K mv then (if σ 0 mv.toNatClampNeg = 0 then (if nI 0 ≤ cv ∧ cv ≤ σ 1 mv.toNatClampNeg - nI 1 then (if -1 ≤ tv ∧ tv ≤ nI 1 then oPlayOn K σ pv mv cv tv else oF K σ 2) else oF K σ 2) else oPlayOn K σ pv mv cv tv) else oF K σ 1) else oF K σ 1
def oPlayer (K : zKt) (σ : zSt) (pv wv : Int32) : zO := if zPla K pv then (if nI 0 ≤ wv ∧ wv ≤ nI 5 then (nI 0, σ (10 + wv.toNatClampNeg) pv.toNatClampNeg, K, σ) else oF K σ 1) else oF K σ 1
def oSetSkill (K : zKt) (σ : zSt) (v : Int32) : zO := if nI 0 ≤ v ∧ v ≤ nI 5 then (nI 0, zkS K, zKs K v, σ) else oF K σ 1
def oCall (K : zKt) (σ : zSt) (mv : Int32) : zO := if zMac K mv then (if zInB σ mv (σ 22 1).toNatClampNeg = true then oF K σ 2 else (nI 0, nI ((σ 22 1).toNatClampNeg + 1), K, zCal σ (σ 22 1).toNatClampNeg mv)) else oF K σ 1
def oRepair (K : zKt) (σ : zSt) (v : Int32) : zO := if nI 0 ≤ v ∧ v ≤ nI (σ 22 1).toNatClampNeg - nI 1 then (nI 0, σ 21 v.toNatClampNeg, K, σ) else oF K σ 1
def oPass (K : zKt) (σ : zSt) (v : Int32) : zO := if nI 1 ≤ v ∧ v ≤ nI 200 then (nI 0, (zRounds K σ v.toNatClampNeg).2, K, (zRounds K σ v.toNatClampNeg).1) else oF K σ 1
def oCount (K : zKt) (σ : zSt) (v : Int32) : zO := if nI 0 ≤ v ∧ v ≤ nI 9 then (nI 0, zCnt K σ v.toNatClampNeg, K, σ) else oF K σ 1
theorem zM_cu {G : zG} {a : Nat → Nat} {th : Int32} {K : zKt} {σ : zSt} {i j : Nat} {v : Int32} (hj : j < 9) : (zM G a th K σ).set 1 (a 1, .inl (G.2 0, 72, .inl (upd (fun j => zkC K (j / 9) (j % 9)) (9 * i + j) v))) = zM G a th (zKc K i j v) σ := by
  have e1 : (upd (fun j => zkC K (j / 9) (j % 9)) (9 * i + j) v) = fun x => zUp2 (zkC K) i j v (x / 9) (x % 9) := by
    funext x
    by_cases h : x = 9 * i + j
    · have h1 : x % 9 = j := by omega
      have h2 : x / 9 = i := by omega
      simp only [upd, h, if_true]
      rw [← h, h1, h2]
      simp [zUp2, upd]
    · simp only [upd, h, if_false]
      by_cases h1 : x / 9 = i
      · have h2 : x % 9 ≠ j := by omega
        simp [zUp2, h1, upd, h2]
      · simp [zUp2, h1]
  show [_, _, _, _, _, _, _, _] = [_, _, _, _, _, _, _, _]
  rw [e1]
theorem zM_pn {G : zG} {a : Nat → Nat} {th : Int32} {K : zKt} {σ : zSt} {i r j : Nat} {v : Int32} (hr : r < 12) (hj : j < 9) : (zM G a th K σ).set 2 (a 2, .inl (G.2 0, 864, .inl (upd (fun j => zkN K (j / 108) (j % 108 / 9) (j % 9)) (9 * (12 * i + r) + j) v))) = zM G a th (zKn K i r j v) σ := by
  have e1 : (upd (fun j => zkN K (j / 108) (j % 108 / 9) (j % 9)) (9 * (12 * i + r) + j) v) = fun x => zUp3 (zkN K) i r j v (x / 108) (x % 108 / 9) (x % 9) := by
    funext x
    by_cases h : x = 9 * (12 * i + r) + j
    · have h1 : x % 9 = j := by omega
      have h2 : x % 108 / 9 = r := by omega
      have h3 : x / 108 = i := by omega
      simp only [upd, h, if_true]
      rw [← h, h1, h2, h3]
      simp [zUp3, zUp2, upd]
    · simp only [upd, h, if_false]
      by_cases h1 : x / 108 = i
      · by_cases h2 : x % 108 / 9 = r
        · have h3 : x % 9 ≠ j := by omega
          simp [zUp3, zUp2, h1, h2, upd, h3]
        · simp [zUp3, zUp2, h1, h2]
      · simp [zUp3, h1]
  show [_, _, _, _, _, _, _, _] = [_, _, _, _, _, _, _, _]
  rw [e1]

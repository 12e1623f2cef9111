/-! rows: constructors' final fields, arrays of arrays, clones; contracts that answer a cell -/
set_option maxRecDepth 100000
def zRR (P : Nat → Heap → Prop) (A : Nat → Prop) : Array Value → State → Outcome → State → Prop := fun _ st o t => ∃ q, o = .returned (some (.ref q)) ∧ P q t.heap ∧ zF A st.heap t.heap
abbrev zMrr (l : Launch) (y : MethodName) (cc : ByteArray) (nL : Nat) (ret : Option FieldType) (r mc ms : Nat) (G : zG) (av : List Value) (P : Heap → Prop) (P1 : Nat → Heap → Prop) (A : Nat → Prop) : Prop := Met l y (ws_ y cc nL ret) (zRm r mc ms) (zPc G av P) (zRR P1 A) mc ms A
theorem zAOIs {G : zG} {s : State} (hE : zE G s) : ∃ kA : Class, s.vm.classes[G.2 4]? = some kA ∧ kA.kind = .array (G.2 0) (.array .int) := by
  obtain ⟨comp, c, k, h1, h2, h3, h4, h5⟩ := arrayOverA_spec hE.2.2.2.2.2.2
  have e1 : comp = G.2 0 := Option.some.inj (h1.symm.trans (zTyI hE))
  have e2 : c = G.2 4 := Option.some.inj (h5.symm.trans (hE.1.2 4 _ rfl).2)
  subst e1; subst e2
  exact ⟨k, h3, h4⟩
theorem zAsgI {G : zG} {s : State} (hE : zE G s) : ∃ kA : Class, s.vm.classes[G.2 0]? = some kA ∧ s.vm.assignable (G.2 0) (G.2 0) = true := by
  obtain ⟨kA, hk, comp, hkind⟩ := ((hE.1.2 0 _ rfl).1 0 (fun _ => .null)).2
  exact ⟨kA, hk, Vm.assignable_self _ _⟩
section ZA
variable {p : Program} {l : Launch} {e : Env} {R : Room} {s : State} {m : MethodId} {args : Array Value} {below : List Frame} {meth : Method} {c : Code} {H : Heap} {locs : List Loc} {cells slots : Nat} {Q : State → Prop}
variable {cc bytes : ByteArray} {own Cn : String} {nL maxL r mc ms pc index : Nat} {ret rety : Option FieldType} {G : zG} {y : MethodName} {As rest st0 : List Value} {P : Heap → Prop} {P1 : Nat → Heap → Prop} {ls : Array Slot} {ws : va_W} {a b : Nat} {A A0 A1 : Nat → Prop}
theorem zwVr (C : zC p s m args meth c cc own nL ret G) (hM : zMrr l y bytes maxL rety r mc ms G (.ref b :: As) P P1 A1) (hg : GoodIn lw_all (wsV own index Cn y (ws_ y bytes maxL rety))) (hd : y.cls = Cn ∧ y.cls ≠ "java/lang/invoke/MethodHandle" ∧ y.cls ≠ "java/lang/invoke/VarHandle" ∧ (parseMethodDescriptor y.desc).map (fun d => d.parameters.length) = some As.length)
    (hR : r + 1 + 1 ≤ R.frames ∧ 8 + (maxL + 11) + 64 * (r + 1) ≤ R.locals) (hb : ∃ cellB : Cell, H[b]? = some cellB ∧ cellB.vm.isStatics = false ∧ s.vm.findClass Cn = some cellB.cls) (hP : P H) (hl : ls.size = nL) (hst : st0 = As.reverse ++ .ref b :: rest) (hW : (rest.map fun v => v.category).sum ≤ 8) (hf : cells + mc ≤ R.cells ∧ slots + ms ≤ R.slots) (hdg : decode cc pc = .ok (.invokevirtual index, 3))
    (hS : va_S A0 s.heap H locs) (hA : ∀ q, A1 q → A0 q)
    (kk : ∀ (q : Nat) (H1 : Heap) (locs1 : List Loc), P1 q H1 → zF A1 H H1 → va_S A0 s.heap H1 locs1 → W p l e R s m args below meth c H1 locs1 (cells + mc) (slots + ms) Q (F0 m (pc + 3) ls (.ref q :: rest))) : W p l e R s m args below meth c H locs cells slots Q (F0 m pc ls st0) := by
  intro T hT X
  obtain ⟨v', st₀, t, T', L, h0, X', hL, e1, ⟨q, hv, hp, hF⟩, st⟩ := W.runV (As := As) (rest := rest) C.fix hM (cwV As.length C.fix.2.2.2.2 hg rfl rfl rfl hd ⟨hR.1, hR.2⟩) ⟨zPc.blind, hb, fun U hU hW => ⟨rfl, zE.warm hW C.2.2.2.2.2.2.2, by rw [hU]; exact hP⟩⟩ rfl rfl hl hst (lv_room (m := m) (pc := pc) (ls := ls) (rest := st0) hW) hdg ⟨hf.1, hf.2⟩ T hT X
  cases hv
  rw [h0] at hF
  obtain ⟨t2, a1, b1⟩ := kk q t.heap (locs ++ L) hp hF (zS_call hS hA hF hL) T' e1 X'
  exact ⟨t2, st t2 a1, b1⟩
/-- a writing constructor call -/
theorem zwI {P1 : Heap → Prop} (C : zC p s m args meth c cc own nL ret G) (hM : zMrw l y bytes maxL none r mc ms G (.ref b :: As) P none P1 A1) (hg : GoodIn lw_all (ws_ y bytes maxL none)) (hini : Cond.initialized y.cls ∈ lw_all) (hlk : Cond.methodLink own index y ∈ lw_all) (hin : Cond.instanceMethod y ∈ lw_all) (hy1 : y.name = "<init>") (hd : y.cls ≠ "java/lang/invoke/MethodHandle" ∧ y.cls ≠ "java/lang/invoke/VarHandle" ∧ (parseMethodDescriptor y.desc).map (fun d => d.parameters.length) = some As.length)
    (hR : r + 1 + 1 ≤ R.frames ∧ 8 + (maxL + 11) + 64 * (r + 1) ≤ R.locals) (hP : P H) (hl : ls.size = nL) (hst : st0 = As.reverse ++ .ref b :: rest) (hW : (rest.map fun v => v.category).sum ≤ 8) (hf : cells + mc ≤ R.cells ∧ slots + ms ≤ R.slots) (hdg : decode cc pc = .ok (.invokespecial index, 3))
    (hS : va_S A0 s.heap H locs) (hA : ∀ q, A1 q → A0 q)
    (kk : ∀ (H1 : Heap) (locs1 : List Loc), P1 H1 → zF A1 H H1 → va_S A0 s.heap H1 locs1 → W p l e R s m args below meth c H1 locs1 (cells + mc) (slots + ms) Q (F0 m (pc + 3) ls rest)) : W p l e R s m args below meth c H locs cells slots Q (F0 m pc ls st0) := by
  intro T hT X
  have hts := C.2.2.2.2.1
  obtain ⟨v', st₀, t, T', L, h0, X', hL, e1, ⟨hv, hp, hF⟩, st⟩ := W.runI (As := As) (rest := rest) C.fix hM (cwI As.length hts hg rfl rfl rfl (hts _ hini) (hts _ hlk) (hts _ hin) hy1 hd ⟨hR.1, hR.2⟩) ⟨zPc.blind, fun U hU hW => ⟨rfl, zE.warm hW C.2.2.2.2.2.2.2, by rw [hU]; exact hP⟩⟩ rfl rfl hl hst (lv_room (m := m) (pc := pc) (ls := ls) (rest := st0) hW) hdg ⟨hf.1, hf.2⟩ T hT X
  cases hv
  rw [h0] at hF
  obtain ⟨t2, a1, b1⟩ := kk t.heap (locs ++ L) hp hF (zS_call hS hA hF hL) T' e1 X'
  exact ⟨t2, st t2 a1, b1⟩
theorem zw_aret {q : Nat} {rt : FieldType} (C : zC p s m args meth c cc own nL (some rt) G) (hrt : (∃ n, rt = .object n) ∨ ∃ t, rt = .array t) (hP : P1 q H) (hS : va_S A0 s.heap H locs) (hdg : decode cc pc = .ok (.areturn, 1)) : W p l e R s m args below meth c H locs cells slots (MQ below (zRR P1 A0) args s cells slots A0) (F0 m pc ls [.ref q]) :=
  W.aret C.1 C.2.1 C.2.2.2.2.2.1 hrt (Or.inr ⟨q, rfl⟩) (fun t ht _ => ⟨q, rfl, by rw [ht]; exact hP, by rw [ht]; exact ⟨hS.1, hS.2.1⟩⟩) hS.2.2 hdg (hlocks := C.2.2.2.2.2.2.1)
/-- a final field, in its constructor -/
theorem zpF {T : u_T} {N ci : Nat} (C : zC p s m args meth c cc own nL ret G) (hin : ∀ w ∈ u_ws own T N, w ∈ lw_all) (ty0 : Nat → FieldType) (hty : ∀ k, k < N → parseFieldDescriptor (T k).2.2.1 = some (ty0 k)) (hnm : ∀ a, a < N → ∀ b, b < N → a ≠ b → (T a).2.1 ≠ (T b).2.1) (hin2 : meth.name = "<init>") (hP : va_P G.1 zCl ws H) (hD : va_D A ws) (hS : va_S A s.heap H locs) (q0 : Nat) {fs : List Value} (he : ws[q0]? = some (a, .inr (ci, fs))) (hc : zCl[ci]? = some (own, T, N)) (k : Nat) (hk : k < N) (hq : Cond.fieldLink own index own (T k).2.1 (T k).2.2.1 ∈ lw_all) (hsm : (T k).1 = own) (hfin : (T k).2.2.2 = true) {v : Value} (hn : narrow (ty0 k) v = v) (hfit : fits (ty0 k) v = true) (hl : k < fs.length) (hdg : decode cc pc = .ok (.putfield index, 3))
    (kk : ∀ (H1 : Heap) (locs1 : List Loc), va_P G.1 zCl (ws.set q0 (a, .inr (ci, fs.set k v))) H1 → va_D A (ws.set q0 (a, .inr (ci, fs.set k v))) → va_S A s.heap H1 locs1 → W p l e R s m args below meth c H1 locs1 cells slots Q (F0 m (pc + 3) ls rest)) : W p l e R s m args below meth c H locs cells slots Q (F0 m pc ls (v :: .ref a :: rest)) :=
  va_putF C.1 C.2.1 C.2.2.2.2.1 hin ty0 hty hnm C.2.2.2.1 C.2.2.2.2.2.2.2.1 hP hD hS q0 he hc k hk (C.2.2.2.2.1 _ hq) (fun x h => by rw [← hsm]; exact h) hfin hin2 hsm (hty k hk) hn hfit hl hdg kk
theorem zn_newII (C : zC p s m args meth c cc own nL ret G) (hcl : Cond.classLink own index "[I" ∈ lw_all) (hP : va_P G.1 zCl ws H) (hD : va_D A ws) (hS : va_S A s.heap H locs) (hA : ∀ q, s.heap.size ≤ q → A q) {N : Nat} (hN : N < 2 ^ 20) (hcells : cells + 1 ≤ R.cells) (hslots : slots + N ≤ R.slots) (hdg : decode cc pc = .ok (.anewarray index, 3))
    (kk : ∀ (q : Nat) (H1 : Heap), s.heap.size ≤ q → va_P G.1 zCl (ws ++ [(q, .inl (G.2 4, N, .inr (.inr (.inr (.inr (fun _ => none))))))]) H1 → va_D A (ws ++ [(q, .inl (G.2 4, N, .inr (.inr (.inr (.inr (fun _ => none))))))]) → va_S A s.heap H1 locs → W p l e R s m args below meth c H1 locs (cells + 1) (slots + N) Q (F0 m (pc + 3) ls (.ref q :: rest))) : W p l e R s m args below meth c H locs cells slots Q (F0 m pc ls (.int (nI N) :: rest)) := by
  have hN31 : N < 2 ^ 31 := by omega
  have hE := C.2.2.2.2.2.2.2
  have cn : (nI N).toNatClampNeg = N := nI_clamp hN31
  refine W.anewA (t := .int) C.1 C.2.1 C.2.2.2.1 (C.2.2.2.2.1 _ hcl) hE.2.2.2.2.2.2 rfl hdg rfl (nI_pos hN31) (by rw [cn]; omega) hcells (by rw [cn]; exact hslots) fun cA kA comp f1 f2 f3 f4 => ?_
  rw [cn]
  have hcA : cA = G.2 4 := Option.some.inj (f1.symm.trans (hE.1.2 4 _ rfl).2)
  subst hcA
  generalize hH1 : H.push ({ cls := G.2 4, slots := Array.replicate N .null, vm := .none } : Cell) = H1
  have z1 : H1.size = H.size + 1 := by rw [← hH1, Array.size_push]
  have e1 : H1[H.size]? = some (arrV (G.2 4) N (fun _ => .null)) := by rw [← hH1, Array.getElem?_push_size, ← arrV_new]
  have o1 : ∀ q : Nat, q < H.size → H1[q]? = H[q]? := fun q hq => by rw [← hH1, Array.getElem?_push, if_neg (Nat.ne_of_lt hq)]
  have hk : ∀ (k : Nat) (x : Nat × va_E), ws[k]? = some x → H1[x.1]? = H[x.1]? := fun k x hx => o1 x.1 ((hP k x hx).lt)
  refine kk H.size H1 hS.1 ((hP.kept hk).app (fun k x hx => ?_)) (hD.push hP rfl (hA _ hS.1)) ⟨Nat.le_trans hS.1 (by omega), fun x h1 h2 => (o1 x (Nat.lt_of_lt_of_le h1 hS.1)).trans (hS.2.1 x h1 h2), hS.2.2⟩
  have hz : k < 1 := (List.getElem?_eq_some_iff.mp hx).1
  rw [show k = 0 by omega] at hx
  cases hx
  exact e1
theorem zn_aldII (C : zC p s m args meth c cc own nL ret G) (hP : va_P G.1 zCl ws H) (q0 : Nat) {n N v : Nat} {f : Nat → Option Nat} (ha : ws[q0]? = some (a, .inl (G.2 4, N, .inr (.inr (.inr (.inr f)))))) (hn : n < N) (hN : N < 2 ^ 31) (hv : f n = some v) (hdg : decode cc pc = .ok (.aaload, 1)) (k : W p l e R s m args below meth c H locs cells slots Q (F0 m (pc + 1) ls (.ref v :: rest))) : W p l e R s m args below meth c H locs cells slots Q (F0 m pc ls (.int (nI n) :: .ref a :: rest)) := by
  have cn : (nI n).toNatClampNeg = n := nI_clamp (Nat.lt_trans hn hN)
  refine W.aald (v := .ref v) (ty := .array .int) C.1 C.2.1 (hP q0 _ ha) ((C.2.2.2.2.2.2.2.1.2 4 _ rfl).1 N (fun j => va_rf (f j))) rfl (fun q => by cases q) (by show ¬ (_ ∨ (arrV _ _ _).slots.size ≤ _); rw [arrV_size]; exact vp_in_nI hn hN) (by show (arrV _ _ _).slots[_]? = _; rw [cn, arrV_read _ _ hn, hv]; rfl) rfl rfl hdg k
theorem zn_astII (C : zC p s m args meth c cc own nL ret G) (hP : va_P G.1 zCl ws H) (hD : va_D A ws) (hS : va_S A s.heap H locs) (q0 qk : Nat) {n N v Nv : Nat} {g : Nat → Int32} {f : Nat → Option Nat} (ha : ws[q0]? = some (a, .inl (G.2 4, N, .inr (.inr (.inr (.inr f)))))) (hv : ws[qk]? = some (v, .inl (G.2 0, Nv, .inl g))) (hn : n < N) (hN : N < 2 ^ 31) (hdg : decode cc pc = .ok (.aastore, 1))
    (kk : ∀ (H1 : Heap) (locs1 : List Loc), va_P G.1 zCl (ws.set q0 (a, .inl (G.2 4, N, .inr (.inr (.inr (.inr (va_up f n (some v)))))))) H1 → va_D A (ws.set q0 (a, .inl (G.2 4, N, .inr (.inr (.inr (.inr (va_up f n (some v)))))))) → va_S A s.heap H1 locs1 → W p l e R s m args below meth c H1 locs1 cells slots Q (F0 m (pc + 1) ls rest)) : W p l e R s m args below meth c H locs cells slots Q (F0 m pc ls (.ref v :: .int (nI n) :: .ref a :: rest)) := by
  have hE := C.2.2.2.2.2.2.2
  have cn : (nI n).toNatClampNeg = n := nI_clamp (Nat.lt_trans hn hN)
  obtain ⟨kA, k1, k2⟩ := zAOIs hE
  obtain ⟨kI, i1, i2⟩ := zAsgI hE
  refine W.aast C.1 C.2.1 (hP q0 _ ha) (fun q h => by cases h) (fun h => by cases h) k1 k2 rfl i1 ⟨nI_pos (Nat.lt_trans hn hN), by show _ < (arrV _ _ _).slots.size; rw [arrV_size, cn]; exact hn⟩ (hP qk _ hv) (fun q h => by cases h) i1 i2 rfl rfl hdg fun H1 e z oq => ?_
  refine kk H1 _ (hP.set hD ha ?_ oq) (hD.set ha) (hS.put z oq (hD.2 q0 _ ha))
  show H1[a]? = some (vp_cell _ _)
  rw [e, cn]
  rw [vp_cell_q, vp_cell_q, arrV_store]
  congr 2
  funext q
  by_cases hq : q = n
  · subst hq
    simp [updV, va_up, va_rf]
  · simp [updV, va_up, hq]
theorem zn_clone (C : zC p s m args meth c cc own nL ret G) (hl : ls.size = nL) (h1 : Cond.methodLink own index ⟨"[I", "clone", "()Ljava/lang/Object;"⟩ ∈ lw_all) (hP : va_P G.1 zCl ws H) (hD : va_D A ws) (hS : va_S A s.heap H locs) (hA : ∀ q, s.heap.size ≤ q → A q) (q0 : Nat) {N : Nat} {f : Nat → Int32} (ha : ws[q0]? = some (a, .inl (G.2 0, N, .inl f)))
    (hframes : 1 ≤ R.frames) (hlocals : (rest.map fun v => v.category).sum + 14 ≤ R.locals) (hcells : cells + 1 ≤ R.cells) (hslots : slots + N ≤ R.slots) (hdg : decode cc pc = .ok (.invokevirtual index, 3))
    (kk : ∀ (q : Nat) (H1 : Heap), va_P G.1 zCl (ws ++ [(q, .inl (G.2 0, N, .inl f))]) H1 → va_D A (ws ++ [(q, .inl (G.2 0, N, .inl f))]) → va_S A s.heap H1 locs → W p l e R s m args below meth c H1 locs (cells + 1) (slots + N) Q (F0 m (pc + 3) ls (.ref q :: rest))) : W p l e R s m args below meth c H locs cells slots Q (F0 m pc ls (.ref a :: rest)) := by
  have hts := C.2.2.2.2.1
  have hE := C.2.2.2.2.2.2.2
  refine va_clone (ad := "[I") C.1 C.2.1 (C.2.2.1.trans hl.symm) C.2.2.2.1 (hts _ h1) (hts _ q1053) (hts _ q1054) (hts _ q1055) (hts _ q1056) (hE.2.1 _ q1057 rfl) hE.1 hP hD hS hA q0 0 (ty := .int) ha rfl (zTyI hE) (fun i v h => ?_) hframes hlocals hcells hslots hdg (fun q H1 _ h1 h2 h3 => kk q H1 h1 h2 h3)
  have hlt := (Array.getElem?_eq_some_iff.mp h).1
  rw [vp_cell_i] at h hlt
  rw [arrV_size] at hlt
  rw [arrV_read _ _ hlt] at h
  cases h
  rfl
theorem zn_castI (C : zC p s m args meth c cc own nL ret G) (hcl : Cond.classLink own index "[I" ∈ lw_all) (hP : va_P G.1 zCl ws H) (q0 : Nat) {x : vp_A} (ha : ws[q0]? = some (a, .inl (G.2 0, x))) (hdg : decode cc pc = .ok (.checkcast index, 3)) (k : W p l e R s m args below meth c H locs cells slots Q (F0 m (pc + 3) ls (.ref a :: rest))) : W p l e R s m args below meth c H locs cells slots Q (F0 m pc ls (.ref a :: rest)) :=
  va_castA C.1 C.2.1 C.2.2.2.1 (C.2.2.2.2.1 _ hcl) hP q0 ha (zTyI C.2.2.2.2.2.2.2) hdg k
end ZA
theorem zP_same {D : va_G} {cl : List vw_C} {ws : va_W} {H : Heap} {q0 a n : Nat} {d : ClassId} {f g : Nat → Int32} (hfg : ∀ k, k < n → f k = g k) (h : va_P D cl (ws.set q0 (a, .inl (d, n, .inl f))) H) : va_P D cl (ws.set q0 (a, .inl (d, n, .inl g))) H := by
  have e : vp_cell d (n, .inl f) = vp_cell d (n, .inl g) := by
    rw [vp_cell_i, vp_cell_i]
    unfold arrV
    congr 1
    apply Array.ext
    · simp
    · intro i h1 h2
      simp at h1
      simp [hfg i h1]
  intro k q hk
  by_cases hkp : k = q0
  · subst hkp
    by_cases hl : k < ws.length
    · rw [List.getElem?_set_self hl] at hk
      cases hk
      have := h k (a, .inl (d, n, .inl f)) (by rw [List.getElem?_set_self hl])
      show H[a]? = some (vp_cell _ _)
      rw [← e]
      exact this
    · rw [List.getElem?_eq_none (by simp; omega)] at hk
      cases hk
  · rw [List.getElem?_set_ne (Ne.symm hkp)] at hk
    exact h k q (by rw [List.getElem?_set_ne (Ne.symm hkp)]; exact hk)
theorem zP_keep {D : va_G} {cl : List vw_C} {ws : va_W} {A : Nat → Prop} {H H1 : Heap} (h : va_P D cl ws H) (hF : zF A H H1) (hn : ∀ (k : Nat) (q : Nat × va_E), ws[k]? = some q → ¬ A q.1) : va_P D cl ws H1 := fun k q hk => (h k q hk).kept (hF.2 q.1 (h k q hk).lt (hn k q hk))

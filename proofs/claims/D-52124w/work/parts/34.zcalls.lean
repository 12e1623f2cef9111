/-! calls of other kinds: abstract methods, interfaces, nest mates; methods that throw -/
set_option maxRecDepth 100000
theorem lw_U {own : String} {idx : Nat} {C owner : String} {x y : MethodName} {b : ByteArray} {L : Nat} {r : Option FieldType} (h1 : Cond.methodLink own idx x ∈ lw_all) (h2 : Cond.sameMethod x.cls owner x.name x.desc ∈ lw_all) (h3 : Cond.selects C x y ∈ lw_all) (h4 : Cond.instanceMethod y ∈ lw_all) (h5 : Cond.initialized y.cls ∈ lw_all) (h6 : Cond.code y b L r ∈ lw_all) : GoodIn lw_all (va_wsU own idx C owner x y (ws_ y b L r)) := by
  refine lw_app ?_ (lw_meth h6)
  intro w hw
  simp only [List.mem_cons, List.not_mem_nil, or_false] at hw
  rcases hw with e | e | e | e | e
  · rw [e]; exact h1
  · rw [e]; exact h2
  · rw [e]; exact h3
  · rw [e]; exact h4
  · rw [e]; exact h5
theorem lw_F {own : String} {idx : Nat} {C : String} {x y : MethodName} {b : ByteArray} {L : Nat} {r : Option FieldType} (h1 : Cond.methodLink own idx x ∈ lw_all) (h3 : Cond.selects C x y ∈ lw_all) (h4 : Cond.instanceMethod y ∈ lw_all) (h5 : Cond.initialized y.cls ∈ lw_all) (h6 : Cond.code y b L r ∈ lw_all) : GoodIn lw_all (va_wsF own idx C x y (ws_ y b L r)) := by
  refine lw_app ?_ (lw_meth h6)
  intro w hw
  simp only [List.mem_cons, List.not_mem_nil, or_false] at hw
  rcases hw with e | e | e | e
  · rw [e]; exact h1
  · rw [e]; exact h3
  · rw [e]; exact h4
  · rw [e]; exact h5
/-- what a throw needs of the tables' statics -/
def zT (U : State) : Prop := vx_Zq Bundle.tN "UNASSIGNED_STACK" Bundle.steD (fun _ => False) U U.heap ∧ vx_Zq Bundle.tN "SUPPRESSED_SENTINEL" Bundle.listD (fun _ => False) U U.heap
def zPcX (G : zG) (av : List Value) (P : Heap → Prop) : Array Value → State → Prop := fun v U => v = av.toArray ∧ zE G U ∧ zT U ∧ P U.heap
theorem zPcX.blind {G : zG} {av : List Value} {P : Heap → Prop} : FrameBlind (zPcX G av P) := fun _ U g mk h => ⟨h.1, h.2.1.calling, ⟨vx_Zq.moved (u := U) (U := U.calling g mk _) (Vm.Alike.refl U.vm) h.2.2.1.1, vx_Zq.moved (u := U) (U := U.calling g mk _) (Vm.Alike.refl U.vm) h.2.2.1.2⟩, h.2.2.2⟩
def zXT (E : String) : String → State → State → Prop := fun E' st t => E' = E ∧ zF (fun _ => False) st.heap t.heap
/-- a method that throws E, whatever else; no old cell changes -/
abbrev zMx (l : Launch) (y : MethodName) (cc : ByteArray) (nL : Nat) (ret : Option FieldType) (r : Nat) (G : zG) (av : List Value) (P : Heap → Prop) (E : String) : Prop := vx_Met l y (ws_ y cc nL ret) (zRm r 1 6) (zPcX G av P) (fun _ _ _ _ => False) (zXT E) 1 6 (fun _ => False)
theorem zF.refl {A : Nat → Prop} {H : Heap} : zF A H H := ⟨Nat.le_refl _, fun _ _ _ => rfl⟩
theorem zF.trans {A : Nat → Prop} {H H1 H2 : Heap} (h1 : zF A H H1) (h2 : zF A H1 H2) : zF A H H2 := ⟨Nat.le_trans h1.1 h2.1, fun q hq hn => (h2.2 q (Nat.lt_of_lt_of_le hq h1.1) hn).trans (h1.2 q hq hn)⟩
theorem zF.weak {A B : Nat → Prop} {H H1 : Heap} (h : zF A H H1) (hAB : ∀ q, A q → B q) : zF B H H1 := ⟨h.1, fun q hq hn => h.2 q hq (fun z => hn (hAB q z))⟩
theorem zT.kept {s U : State} {H : Heap} (h : zT s) (hF : zF (fun _ => False) s.heap H) (hU : U.heap = H) (hvm : s.vm.Alike U.vm) : zT U := by
  refine ⟨?_, ?_⟩
  · rw [hU]; exact vx_Zq.moved hvm (h.1.kept (fun a ha hn => hF.2 a ha hn))
  · rw [hU]; exact vx_Zq.moved hvm (h.2.kept (fun a ha hn => hF.2 a ha hn))
section ZB
variable {p : Program} {l : Launch} {e : Env} {R : Room} {s : State} {m : MethodId} {args : Array Value} {below : List Frame} {meth : Method} {c : Code} {H : Heap} {locs : List Loc} {cells slots : Nat} {Q : State → Prop}
variable {cc bytes : ByteArray} {own Cn owner host : String} {nL maxL r mc ms pc index count : Nat} {ret rety : Option FieldType} {G : zG} {x y : MethodName} {As rest st0 : List Value} {P P1 : Heap → Prop} {ls : Array Slot} {a : Array Value} {A0 A1 : Nat → Prop} {b : Addr} {v : Value} {vo : Option Value}
theorem zr_ro (hr : va_Run p l e R s m args below meth c H locs cells slots 0 0 (F0 m pc ls st0) rest (zRO vo a) (fun _ => False)) (kk : W p l e R s m args below meth c H locs cells slots Q (F0 m (pc + 3) ls (vo.toList ++ rest))) : W p l e R s m args below meth c H locs cells slots Q (F0 m pc ls st0) := by
  intro T hT X
  obtain ⟨v', st₀, t, T', L, h0, X', hL, e1, e2, ⟨hv, hh⟩, st⟩ := hr T hT X
  cases hv
  obtain ⟨t2, a1, b1⟩ := kk T' (by rw [e1, hh, h0]) (Stand.forget X' (fun q h => (hL q h).elim))
  exact ⟨t2, st t2 a1, b1⟩
theorem zr_ro5 (hr : va_Run5 p l e R s m args below meth c H locs cells slots 0 0 (F0 m pc ls st0) rest (zRO (some v) a) (fun _ => False)) (kk : W p l e R s m args below meth c H locs cells slots Q (F0 m (pc + 5) ls (v :: rest))) : W p l e R s m args below meth c H locs cells slots Q (F0 m pc ls st0) := by
  intro T hT X
  obtain ⟨v', st₀, t, T', L, h0, X', hL, e1, e2, ⟨hv, hh⟩, st⟩ := hr T hT X
  cases hv
  obtain ⟨t2, a1, b1⟩ := kk T' (by rw [e1, hh, h0]) (Stand.forget X' (fun q h => (hL q h).elim))
  exact ⟨t2, st t2 a1, b1⟩
theorem zr_rw (hr : va_Run p l e R s m args below meth c H locs cells slots mc ms (F0 m pc ls st0) rest (zRW vo P1 A1 a) A1) (hS : va_S A0 s.heap H locs) (hA : ∀ q, A1 q → A0 q)
    (kk : ∀ (H1 : Heap) (locs1 : List Loc), P1 H1 → zF A1 H H1 → va_S A0 s.heap H1 locs1 → W p l e R s m args below meth c H1 locs1 (cells + mc) (slots + ms) Q (F0 m (pc + 3) ls (vo.toList ++ rest))) : W p l e R s m args below meth c H locs cells slots Q (F0 m pc ls st0) := by
  intro T hT X
  obtain ⟨v', st₀, t, T', L, h0, X', hL, e1, e2, ⟨hv, hp, hF⟩, st⟩ := hr T hT X
  cases hv
  rw [h0] at hF
  obtain ⟨t2, a1, b1⟩ := kk t.heap (locs ++ L) hp hF (zS_call hS hA hF hL) T' e1 X'
  exact ⟨t2, st t2 a1, b1⟩
/-- an abstract method of Machine, read-only -/
theorem zcA (C : zC p s m args meth c cc own nL ret G) (hM : zMro l y bytes maxL rety r G (.ref b :: As) P (some v)) (hg : GoodIn lw_all (va_wsU own index Cn owner x y (ws_ y bytes maxL rety))) (hz : Cond.declares ⟨owner, x.name, x.desc⟩ ∈ lw_tbl) (hd : owner ≠ "java/lang/invoke/MethodHandle" ∧ owner ≠ "java/lang/invoke/VarHandle" ∧ (parseMethodDescriptor x.desc).map (fun d => d.parameters.length) = some As.length)
    (hR : r + 1 + 1 ≤ R.frames ∧ 8 + (maxL + 11) + 64 * (r + 1) ≤ R.locals) (hb : ∃ cellB : Cell, H[b]? = some cellB ∧ cellB.vm.isStatics = false ∧ s.vm.findClass Cn = some cellB.cls) (hP : P H) (hl : ls.size = nL) (hst : st0 = As.reverse ++ .ref b :: rest) (hW : (rest.map fun v => v.category).sum ≤ 8) (hf : cells ≤ R.cells ∧ slots ≤ R.slots) (hdg : decode cc pc = .ok (.invokevirtual index, 3))
    (kk : W p l e R s m args below meth c H locs cells slots Q (F0 m (pc + 3) ls (v :: rest))) : W p l e R s m args below meth c H locs cells slots Q (F0 m pc ls st0) :=
  zr_ro (va_runU (As := As) (rest := rest) C.fix hM (va_cwA As.length C.fix.2.2.2.2 hg rfl rfl rfl (C.2.2.2.2.2.2.2.2.1 _ hz rfl) hd ⟨hR.1, hR.2⟩) ⟨zPc.blind, hb, fun U hU hW => ⟨rfl, zE.warm hW C.2.2.2.2.2.2.2, by rw [hU]; exact hP⟩⟩ rfl rfl hl hst (lv_room (m := m) (pc := pc) (ls := ls) (rest := st0) hW) hdg ⟨hf.1, hf.2⟩) kk
theorem zcA0 (C : zC p s m args meth c cc own nL ret G) (hM : zMro l y bytes maxL rety r G (.ref b :: As) P none) (hg : GoodIn lw_all (va_wsU own index Cn owner x y (ws_ y bytes maxL rety))) (hz : Cond.declares ⟨owner, x.name, x.desc⟩ ∈ lw_tbl) (hd : owner ≠ "java/lang/invoke/MethodHandle" ∧ owner ≠ "java/lang/invoke/VarHandle" ∧ (parseMethodDescriptor x.desc).map (fun d => d.parameters.length) = some As.length)
    (hR : r + 1 + 1 ≤ R.frames ∧ 8 + (maxL + 11) + 64 * (r + 1) ≤ R.locals) (hb : ∃ cellB : Cell, H[b]? = some cellB ∧ cellB.vm.isStatics = false ∧ s.vm.findClass Cn = some cellB.cls) (hP : P H) (hl : ls.size = nL) (hst : st0 = As.reverse ++ .ref b :: rest) (hW : (rest.map fun v => v.category).sum ≤ 8) (hf : cells ≤ R.cells ∧ slots ≤ R.slots) (hdg : decode cc pc = .ok (.invokevirtual index, 3))
    (kk : W p l e R s m args below meth c H locs cells slots Q (F0 m (pc + 3) ls rest)) : W p l e R s m args below meth c H locs cells slots Q (F0 m pc ls st0) :=
  zr_ro (va_runU (As := As) (rest := rest) C.fix hM (va_cwA As.length C.fix.2.2.2.2 hg rfl rfl rfl (C.2.2.2.2.2.2.2.2.1 _ hz rfl) hd ⟨hR.1, hR.2⟩) ⟨zPc.blind, hb, fun U hU hW => ⟨rfl, zE.warm hW C.2.2.2.2.2.2.2, by rw [hU]; exact hP⟩⟩ rfl rfl hl hst (lv_room (m := m) (pc := pc) (ls := ls) (rest := st0) hW) hdg ⟨hf.1, hf.2⟩) kk
/-- an abstract method of Machine that writes -/
theorem zwA (C : zC p s m args meth c cc own nL ret G) (hM : zMrw l y bytes maxL rety r mc ms G (.ref b :: As) P (some v) P1 A1) (hg : GoodIn lw_all (va_wsU own index Cn owner x y (ws_ y bytes maxL rety))) (hz : Cond.declares ⟨owner, x.name, x.desc⟩ ∈ lw_tbl) (hd : owner ≠ "java/lang/invoke/MethodHandle" ∧ owner ≠ "java/lang/invoke/VarHandle" ∧ (parseMethodDescriptor x.desc).map (fun d => d.parameters.length) = some As.length)
    (hR : r + 1 + 1 ≤ R.frames ∧ 8 + (maxL + 11) + 64 * (r + 1) ≤ R.locals) (hb : ∃ cellB : Cell, H[b]? = some cellB ∧ cellB.vm.isStatics = false ∧ s.vm.findClass Cn = some cellB.cls) (hP : P H) (hl : ls.size = nL) (hst : st0 = As.reverse ++ .ref b :: rest) (hW : (rest.map fun v => v.category).sum ≤ 8) (hf : cells + mc ≤ R.cells ∧ slots + ms ≤ R.slots) (hdg : decode cc pc = .ok (.invokevirtual index, 3)) (hS : va_S A0 s.heap H locs) (hA : ∀ q, A1 q → A0 q)
    (kk : ∀ (H1 : Heap) (locs1 : List Loc), P1 H1 → zF A1 H H1 → va_S A0 s.heap H1 locs1 → W p l e R s m args below meth c H1 locs1 (cells + mc) (slots + ms) Q (F0 m (pc + 3) ls (v :: rest))) : W p l e R s m args below meth c H locs cells slots Q (F0 m pc ls st0) :=
  zr_rw (va_runU (As := As) (rest := rest) C.fix hM (va_cwA As.length C.fix.2.2.2.2 hg rfl rfl rfl (C.2.2.2.2.2.2.2.2.1 _ hz rfl) hd ⟨hR.1, hR.2⟩) ⟨zPc.blind, hb, fun U hU hW => ⟨rfl, zE.warm hW C.2.2.2.2.2.2.2, by rw [hU]; exact hP⟩⟩ rfl rfl hl hst (lv_room (m := m) (pc := pc) (ls := ls) (rest := st0) hW) hdg ⟨hf.1, hf.2⟩) hS hA kk
/-- through an interface, read-only -/
theorem zcF {cC : ClassId} (C : zC p s m args meth c cc own nL ret G) (hM : zMro l y bytes maxL rety r G (.ref b :: As) P (some v)) (hg : GoodIn lw_all (va_wsF own index Cn x y (ws_ y bytes maxL rety))) (hF : va_Fw Cn x y s) (hd : x.cls ≠ "java/lang/invoke/MethodHandle" ∧ x.cls ≠ "java/lang/invoke/VarHandle" ∧ (parseMethodDescriptor x.desc).map (fun d => d.parameters.length) = some As.length)
    (hR : r + 1 + 1 ≤ R.frames ∧ 8 + (maxL + 11) + 64 * (r + 1) ≤ R.locals) (hat : ClassAt s Cn cC) (hb : ∃ cellB : Cell, H[b]? = some cellB ∧ cellB.vm.isStatics = false ∧ s.vm.findClass Cn = some cellB.cls) (hP : P H) (hl : ls.size = nL) (hst : st0 = As.reverse ++ .ref b :: rest) (hW : (rest.map fun v => v.category).sum ≤ 8) (hf : cells ≤ R.cells ∧ slots ≤ R.slots) (hdg : decode cc pc = .ok (.invokeinterface index count, 5))
    (kk : W p l e R s m args below meth c H locs cells slots Q (F0 m (pc + 5) ls (v :: rest))) : W p l e R s m args below meth c H locs cells slots Q (F0 m pc ls st0) :=
  zr_ro5 (va_runF (As := As) (rest := rest) hat C.fix hM (va_cwF As.length C.fix.2.2.2.2 hg rfl rfl rfl hF hd ⟨hR.1, hR.2⟩) ⟨zPc.blind, hb, fun U hU hW => ⟨rfl, zE.warm hW C.2.2.2.2.2.2.2, by rw [hU]; exact hP⟩⟩ rfl rfl hl hst (lv_room (m := m) (pc := pc) (ls := ls) (rest := st0) hW) hdg ⟨hf.1, hf.2⟩) kk
/-- a static method of a nest mate, read-only, void -/
theorem zcSN0 (C : zC p s m args meth c cc own nL ret G) (hM : zMro l y bytes maxL rety r G As P none) (hg : Cond.code y bytes maxL rety ∈ lw_all) (hlk : Cond.methodLinkNest own index y host ∈ lw_tbl) (hini : Cond.initialized y.cls ∈ lw_all) (hst' : Cond.static y ∈ lw_all) (hd : y.cls ≠ "java/lang/invoke/MethodHandle" ∧ y.cls ≠ "java/lang/invoke/VarHandle" ∧ (parseMethodDescriptor y.desc).map (fun d => d.parameters.length) = some As.length)
    (hR : r + 1 + 1 ≤ R.frames ∧ 8 + (maxL + 11) + 64 * (r + 1) ≤ R.locals) (hP : P H) (hl : ls.size = nL) (hst : st0 = As.reverse ++ rest) (hW : (rest.map fun v => v.category).sum ≤ 8) (hf : cells ≤ R.cells ∧ slots ≤ R.slots) (hdg : decode cc pc = .ok (.invokestatic index, 3))
    (kk : W p l e R s m args below meth c H locs cells slots Q (F0 m (pc + 3) ls rest)) : W p l e R s m args below meth c H locs cells slots Q (F0 m pc ls st0) :=
  zr_ro (va_runSN (As := As) (rest := rest) C.fix hM ⟨va_cnB As.length C.fix.2.2.2.2 (lw_meth hg) rfl rfl rfl (C.2.2.2.2.2.2.2.2.1 _ hlk rfl) (C.2.2.2.2.1 _ hini) hd ⟨hR.1, hR.2⟩, C.2.2.2.2.1 _ hst', trivial⟩ ⟨zPc.blind, fun U hU hW => ⟨rfl, zE.warm hW C.2.2.2.2.2.2.2, by rw [hU]; exact hP⟩⟩ rfl rfl hl hst (lv_room (m := m) (pc := pc) (ls := ls) (rest := st0) hW) hdg ⟨hf.1, hf.2⟩) kk
/-- a constructor of a nest mate -/
theorem zwIN (C : zC p s m args meth c cc own nL ret G) (hM : zMrw l y bytes maxL none r mc ms G (.ref b :: As) P none P1 A1) (hg : Cond.code y bytes maxL none ∈ lw_all) (hlk : Cond.methodLinkNest own index y host ∈ lw_tbl) (hini : Cond.initialized y.cls ∈ lw_all) (hin : Cond.instanceMethod y ∈ lw_all) (hy1 : y.name = "<init>") (hd : y.cls ≠ "java/lang/invoke/MethodHandle" ∧ y.cls ≠ "java/lang/invoke/VarHandle" ∧ (parseMethodDescriptor y.desc).map (fun d => d.parameters.length) = some As.length)
    (hR : r + 1 + 1 ≤ R.frames ∧ 8 + (maxL + 11) + 64 * (r + 1) ≤ R.locals) (hP : P H) (hl : ls.size = nL) (hst : st0 = As.reverse ++ .ref b :: rest) (hW : (rest.map fun v => v.category).sum ≤ 8) (hf : cells + mc ≤ R.cells ∧ slots + ms ≤ R.slots) (hdg : decode cc pc = .ok (.invokespecial index, 3)) (hS : va_S A0 s.heap H locs) (hA : ∀ q, A1 q → A0 q)
    (kk : ∀ (H1 : Heap) (locs1 : List Loc), P1 H1 → zF A1 H H1 → va_S A0 s.heap H1 locs1 → W p l e R s m args below meth c H1 locs1 (cells + mc) (slots + ms) Q (F0 m (pc + 3) ls rest)) : W p l e R s m args below meth c H locs cells slots Q (F0 m pc ls st0) :=
  zr_rw (va_runIN (As := As) (rest := rest) C.fix hM ⟨va_cnB As.length C.fix.2.2.2.2 (lw_meth hg) rfl rfl rfl (C.2.2.2.2.2.2.2.2.1 _ hlk rfl) (C.2.2.2.2.1 _ hini) hd ⟨hR.1, hR.2⟩, hy1, C.2.2.2.2.1 _ hin⟩ ⟨zPc.blind, fun U hU hW => ⟨rfl, zE.warm hW C.2.2.2.2.2.2.2, by rw [hU]; exact hP⟩⟩ rfl rfl hl hst (lv_room (m := m) (pc := pc) (ls := ls) (rest := st0) hW) hdg ⟨hf.1, hf.2⟩) hS hA kk
/-- a throwing contract out of its body -/
theorem zMkX {av : List Value} {E : String} (lv : List (Nat × Value)) (hy : plainName y.cls = true) (hle : (lg_sl av).length ≤ nL) (hlv : lv_args 0 av = lv)
    (body : ∀ (p : Program) (e : Env) (s : State) (m : MethodId) (below : List Frame) (meth : Method) (c : Code) (ls : Array Slot), zC p s m av.toArray meth c cc y.cls nL ret G → zT s → (∀ x ∈ c.exceptionTable.toList, False) → P s.heap → lv_has ls nL lv →
      W p l e (zRm r 1 6) s m av.toArray below meth c s.heap [] 0 0 (vx_MQ below (fun _ _ _ _ => False) (zXT E) av.toArray s 1 6 (fun _ => False)) (F0 m 0 ls [])) :
    zMx l y cc nL ret r G av P E := by
  refine vx_ofW (cc := cc) (maxL := nL) (ret := ret) hy rfl ?_
  intro p e s m args below meth c s₁ B hml hx hv
  obtain ⟨rfl, hE, hT, hP⟩ := hv
  have hts := atoms_spec (ws := ws_ y cc nL ret) B.pre
  have hts : ∀ w ∈ lw_all, w.before _ s = true := fun w h => hts w (List.mem_cons_of_mem _ h)
  have hl := lv_entry av (n := nL) hle
  rw [lg_entry_eq]
  generalize (lg_sl av ++ List.replicate (nL - (lg_sl av).length) Slot.unset).toArray = ls at hl ⊢
  rw [hlv] at hl
  exact body p e s m below meth c ls ⟨B.exec, B.bytes, hml, findClass_of_methodNamed B.named, hts, B.returns, B.notSynchronized, hE⟩ hT hx hP hl
/-- a call that throws: the throw goes on from here -/
theorem zx_run {E : String} (hr : vx_Run p l e R s m args below meth c H locs cells slots 1 6 (F0 m pc ls st0) rest (fun _ _ _ => False) (zXT E) (fun _ => False))
    (kx : ∀ (ce : Cell) (q9 : Addr) (H1 : Heap), zF (fun _ => False) H H1 → H1[q9]? = some ce → ce.vm = .none → s.vm.findClass E = some ce.cls → vx_W p l e R s m args below meth c H1 locs (cells + 1) (slots + 6) Q (F0 m pc ls rest) q9) : W p l e R s m args below meth c H locs cells slots Q (F0 m pc ls st0) := by
  intro T hT X
  rcases hr T hT X with ⟨v, st₀, t, T', L, h0, X', hL, e1, e2, hf, st⟩ | ⟨q, st₀, t, T', L, E', ce, h0, X', hL, e1, e2, ⟨hE, hF⟩, hce, hcv, hcl, st⟩
  · exact hf.elim
  · subst hE
    rw [h0] at hF
    obtain ⟨t2, a1, b1⟩ := kx ce q t.heap hF hce hcv hcl T' e1 (Stand.forget X' (fun q h => (hL q h).elim))
    exact ⟨t2, st.trans a1, b1⟩
/-- not caught here -/
theorem zx_out {E : String} {ce : Cell} {q9 : Addr} {H1 : Heap} (C : zC p s m args meth c cc own nL ret G) (hx : ∀ x ∈ c.exceptionTable.toList, False) (hF : zF (fun _ => False) s.heap H1) (hce : H1[q9]? = some ce) (hcv : ce.vm = .none) (hcl : s.vm.findClass E = some ce.cls) : vx_W p l e R s m args below meth c H1 [] 1 6 (vx_MQ below (fun _ _ _ _ => False) (zXT E) args s 1 6 (fun _ => False)) (F0 m pc ls rest) q9 :=
  vx_out (fun x h => (hx x h).elim) C.2.2.2.2.2.2.1 hce hcv hcl (fun t ht _ => ⟨rfl, by rw [ht]; exact hF⟩) (fun _ h => by cases h) (Nat.le_refl _) (Nat.le_refl _)
end ZB

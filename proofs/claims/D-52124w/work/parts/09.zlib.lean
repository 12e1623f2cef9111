/-! MY OWN LAYER: one environment for every method, contracts with an exact answer, read-only or writing -/
set_option maxRecDepth 100000
abbrev zG : Type := va_G × (Nat → ClassId)
abbrev zCl : List vw_C := [(RX3, TX3, 11), (RX1, TX1, 5), (RX2, TX2, 16), (RX5, TX5, 5), (RX6, TX6, 2), (RX7, TX7, 1), (RJ2, TJ2, 3)]
abbrev zTy (d : Nat → ClassId) : List (ClassId × FieldType) := [(d 0, .int), (d 1, .boolean), (d 2, .long), (d 3, .object "java/lang/Object"), (d 4, .array .int)]
def zKind (w : Cond) : Bool := match w with
  | .fieldLinkNest _ _ _ _ _ _ => true
  | .methodLinkNest _ _ _ _ => true
  | .declares _ => true
  | .castable _ _ => true
  | _ => false
theorem zKind_warm {w : Cond} (h : zKind w = true) {s U : State} (hW : s.WarmedH U.vm) (hZ : va_Nw w s) : va_Nw w U := by
  unfold zKind at h
  split at h
  · exact va_Nw.warmF hW hZ
  · exact va_Nw.warmM hW hZ
  · exact va_Nw.warmD hW hZ
  · exact va_Nw.warmC hW hZ
  · cases h
theorem zKind_onT {w : Cond} (h : zKind w = true) : w.onTables = true := by
  unfold zKind at h
  split at h
  · rfl
  · rfl
  · rfl
  · rfl
  · cases h
def zNc : List (String × String) := [("PennyArcade$Pusher", "PennyArcade$Table"), ("PennyArcade$Table", "PennyArcade$Pusher"), ("java/lang/IllegalArgumentException", "java/lang/IndexOutOfBoundsException"), ("java/lang/IllegalStateException", "java/lang/IndexOutOfBoundsException"), ("java/lang/IllegalStateException", "java/lang/IllegalArgumentException"), ("java/lang/IndexOutOfBoundsException", "java/lang/IllegalArgumentException")]
def zyLs : MethodName := { cls := "java/util/List", name := "size", desc := "()I" }
def zyLg : MethodName := { cls := "java/util/List", name := "get", desc := "(I)Ljava/lang/Object;" }
def zyAs : MethodName := { cls := "java/util/ArrayList", name := "size", desc := "()I" }
def zyAg : MethodName := { cls := "java/util/ArrayList", name := "get", desc := "(I)Ljava/lang/Object;" }
/-- arrays of arrays of ints -/
def zAOI (U : State) : Prop := (Cond.arrayOver (.array .int)).before #[] U = true
theorem zAOI.moved {u U : State} (hvm : u.vm.Alike U.vm) (h : zAOI u) : zAOI U := by
  obtain ⟨comp, c, k, h1, h2, h3, h4, h5⟩ := arrayOverA_spec h
  obtain ⟨k', hk', he⟩ := hvm.2.2 _ _ h3
  have hb1 := (va_idx_bare u.vm comp).trans h2
  have eb : U.vm.bare = u.vm.bare := by first | exact hvm.bare_eq | exact hvm.bare_eq.symm
  have hi0 := (va_idx_bare U.vm comp).symm
  rw [eb] at hi0
  have hi := hi0.trans hb1
  have hkind : k'.kind = .array comp (.array .int) := by rw [he]; exact h4
  have f1 : U.vm.findClass (FieldType.array .int).toString = some comp := by rw [hvm.findClass]; exact h1
  have f2 : U.vm.findClass ("[" ++ (FieldType.array .int).toString) = some c := by rw [hvm.findClass]; exact h5
  unfold zAOI Cond.before Cond.holds
  simp only [Cond.value]
  rw [f1, Option.bind_some]
  refine (congrArg (fun o : Option Nat => (o.bind (fun c => (U.vm.classes[c]?).map fun (k : Class) => match k.kind with | .array _ ty => decide (ty = FieldType.array .int) && decide (U.vm.findClass ("[" ++ (FieldType.array .int).toString) = some c) | _ => false) == some true)) hi).trans ?_
  simp [hk', hkind, f2]
/-- the environment: classes, array classes, the tables' words that don't ride in the lists -/
def zE (G : zG) (U : State) : Prop := va_K G.1 zCl (zTy G.2) U ∧ (∀ w ∈ lw_tbl, zKind w = true → va_Nw w U) ∧ va_AO "java/lang/Object" U ∧ va_Fw "java/util/ArrayList" zyLs zyAs U ∧ va_Fw "java/util/ArrayList" zyLg zyAg U ∧ (∀ q ∈ zNc, va_Nc q.1 q.2 U) ∧ zAOI U
theorem zE.warm {G : zG} {s U : State} (hW : s.WarmedH U.vm) (h : zE G s) : zE G U :=
  ⟨va_K.moved hW.alike h.1, fun w hw hk => zKind_warm hk hW (h.2.1 w hw hk), va_AO.moved hW.alike h.2.2.1, va_Fw.moved (by decide) hW.alike h.2.2.2.1, va_Fw.moved (by decide) hW.alike h.2.2.2.2.1, fun q hq => va_Nc.moved hW.alike (h.2.2.2.2.2.1 q hq), zAOI.moved hW.alike h.2.2.2.2.2.2⟩
theorem zE.calling {G : zG} {U : State} {g : JFrame} {mk : MethodId} {a : Array Value} (h : zE G U) : zE G (U.calling g mk a) :=
  ⟨va_K.moved (u := U) (U := U.calling g mk a) (Vm.Alike.refl U.vm) h.1, fun w hw hk => va_Nw.same (zKind_onT hk) (u := U) (U := U.calling g mk a) rfl (h.2.1 w hw hk), va_AO.moved (u := U) (U := U.calling g mk a) (Vm.Alike.refl U.vm) h.2.2.1, va_Fw.moved (u := U) (U := U.calling g mk a) (by decide) (Vm.Alike.refl U.vm) h.2.2.2.1, va_Fw.moved (u := U) (U := U.calling g mk a) (by decide) (Vm.Alike.refl U.vm) h.2.2.2.2.1, fun q hq => va_Nc.moved (u := U) (U := U.calling g mk a) (Vm.Alike.refl U.vm) (h.2.2.2.2.2.1 q hq), zAOI.moved (u := U) (U := U.calling g mk a) (Vm.Alike.refl U.vm) h.2.2.2.2.2.2⟩
theorem zE.nw {G : zG} {s : State} {args : Array Value} {w : Cond} (h : zE G s) (hw : w ∈ lw_tbl) (hk : zKind w = true) : w.before args s = true := va_Nw.use (zKind_onT hk) (h.2.1 w hw hk)
/-- rooms by rank -/
abbrev zRm (r mc ms : Nat) : Room := { frames := r + 1, cells := mc, slots := ms, locals := 64 * (r + 1) }
def zPc (G : zG) (av : List Value) (P : Heap → Prop) : Array Value → State → Prop := fun v U => v = av.toArray ∧ zE G U ∧ P U.heap
def zF (A : Nat → Prop) (H H1 : Heap) : Prop := H.size ≤ H1.size ∧ ∀ q : Nat, q < H.size → ¬ A q → H1[q]? = H[q]?
def zRO (v : Option Value) : Array Value → State → Outcome → State → Prop := fun _ st o t => o = .returned v ∧ t.heap = st.heap
def zRW (v : Option Value) (P : Heap → Prop) (A : Nat → Prop) : Array Value → State → Outcome → State → Prop := fun _ st o t => o = .returned v ∧ P t.heap ∧ zF A st.heap t.heap
abbrev zMro (l : Launch) (y : MethodName) (cc : ByteArray) (nL : Nat) (ret : Option FieldType) (r : Nat) (G : zG) (av : List Value) (P : Heap → Prop) (v : Option Value) : Prop := Met l y (ws_ y cc nL ret) (zRm r 0 0) (zPc G av P) (zRO v) 0 0 (fun _ => False)
abbrev zMrw (l : Launch) (y : MethodName) (cc : ByteArray) (nL : Nat) (ret : Option FieldType) (r mc ms : Nat) (G : zG) (av : List Value) (P : Heap → Prop) (v : Option Value) (P1 : Heap → Prop) (A : Nat → Prop) : Prop := Met l y (ws_ y cc nL ret) (zRm r mc ms) (zPc G av P) (zRW v P1 A) mc ms A
/-- what stands all through a method's body -/
def zC (p : Program) (s : State) (m : MethodId) (args : Array Value) (meth : Method) (c : Code) (cc : ByteArray) (own : String) (nL : Nat) (ret : Option FieldType) (G : zG) : Prop :=
  p.tables.exec = Jvm.exec ∧ c.code = cc ∧ c.maxLocals = nL ∧ s.vm.findClass own = some m.cls ∧ (∀ w ∈ lw_all, w.before args s = true) ∧ meth.sig.returnType = ret ∧ meth.locks = false ∧ zE G s
theorem zC.fix {p : Program} {s : State} {m : MethodId} {args : Array Value} {meth : Method} {c : Code} {cc : ByteArray} {own : String} {nL : Nat} {ret : Option FieldType} {G : zG} (C : zC p s m args meth c cc own nL ret G) : CallFix p m c cc nL s args lw_all own := ⟨C.1, C.2.1, C.2.2.1, C.2.2.2.1, C.2.2.2.2.1⟩
theorem zPc.blind {G : zG} {av : List Value} {P : Heap → Prop} : FrameBlind (zPc G av P) := fun _ _ _ _ h => ⟨h.1, h.2.1.calling, h.2.2⟩
section Z1
variable {l : Launch} {y : MethodName} {cc : ByteArray} {nL r mc ms : Nat} {ret : Option FieldType} {G : zG} {av : List Value} {P P1 : Heap → Prop} {v : Option Value} {A : Nat → Prop} {Qc : Array Value → State → Outcome → State → Prop} {free : Addr → Prop}
/-- a contract out of its body -/
theorem zMk (lv : List (Nat × Value)) (hy : plainName y.cls = true) (hle : (lg_sl av).length ≤ nL) (hlv : lv_args 0 av = lv)
    (body : ∀ (p : Program) (e : Env) (s : State) (m : MethodId) (below : List Frame) (meth : Method) (c : Code) (ls : Array Slot), zC p s m av.toArray meth c cc y.cls nL ret G → P s.heap → lv_has ls nL lv → (y.name = "<init>" → meth.name = "<init>") →
      W p l e (zRm r mc ms) s m av.toArray below meth c s.heap [] 0 0 (MQ below Qc av.toArray s mc ms free) (F0 m 0 ls [])) :
    Met l y (ws_ y cc nL ret) (zRm r mc ms) (zPc G av P) Qc mc ms free := by
  refine Met.ofW (cc := cc) (maxL := nL) (ret := ret) hy rfl ?_
  intro p e s m args below meth c s₁ B hml hv
  obtain ⟨rfl, hE, hP⟩ := hv
  have hts := atoms_spec (ws := ws_ y cc nL ret) B.pre
  have hts : ∀ w ∈ lw_all, w.before _ s = true := fun w h => hts w (List.mem_cons_of_mem _ h)
  have hl := lv_entry av (n := nL) hle
  rw [lg_entry_eq]
  generalize (lg_sl av ++ List.replicate (nL - (lg_sl av).length) Slot.unset).toArray = ls at hl ⊢
  rw [hlv] at hl
  exact body p e s m below meth c ls ⟨B.exec, B.bytes, hml, findClass_of_methodNamed B.named, hts, B.returns, B.notSynchronized, hE⟩ hP hl (fun h => (name_of_methodNamed B.named B.method).1.trans h)
end Z1
section Z2
variable {p : Program} {l : Launch} {e : Env} {R : Room} {s : State} {m : MethodId} {args : Array Value} {below : List Frame} {meth : Method} {c : Code} {H : Heap} {locs : List Loc} {cells slots : Nat} {Q : State → Prop}
variable {cc bytes : ByteArray} {own Cn : String} {nL maxL r mc ms n index pc : Nat} {ret rety : Option FieldType} {G : zG} {y : MethodName} {As rest st0 : List Value} {P P1 : Heap → Prop} {v : Option Value} {A0 A1 : Nat → Prop} {b : Addr} {ls : Array Slot}
/-- a read-only call through an object -/
theorem zcV (C : zC p s m args meth c cc own nL ret G) (hM : zMro l y bytes maxL rety r G (.ref b :: As) P v) (hg : GoodIn lw_all (wsV own index Cn y (ws_ y bytes maxL rety))) (hd : y.cls = Cn ∧ y.cls ≠ "java/lang/invoke/MethodHandle" ∧ y.cls ≠ "java/lang/invoke/VarHandle" ∧ (parseMethodDescriptor y.desc).map (fun d => d.parameters.length) = some As.length)
    (hR : r + 1 + 1 ≤ R.frames ∧ 8 + (maxL + 11) + 64 * (r + 1) ≤ R.locals) (hb : ∃ cellB : Cell, H[b]? = some cellB ∧ cellB.vm.isStatics = false ∧ s.vm.findClass Cn = some cellB.cls) (hP : P H) (hl : ls.size = nL) (hst : st0 = As.reverse ++ .ref b :: rest) (hW : (rest.map fun v => v.category).sum ≤ 8) (hf : cells ≤ R.cells ∧ slots ≤ R.slots) (hdg : decode cc pc = .ok (.invokevirtual index, 3))
    (kk : W p l e R s m args below meth c H locs cells slots Q (F0 m (pc + 3) ls (v.toList ++ rest))) : W p l e R s m args below meth c H locs cells slots Q (F0 m pc ls st0) := by
  intro T hT X
  obtain ⟨v', st₀, t, T', L, h0, X', hL, e1, ⟨hv, hh⟩, st⟩ := W.runV (As := As) (rest := rest) C.fix hM (cwV As.length C.fix.2.2.2.2 hg rfl rfl rfl hd ⟨hR.1, hR.2⟩) ⟨zPc.blind, hb, fun U hU hW => ⟨rfl, zE.warm hW C.2.2.2.2.2.2.2, by rw [hU]; exact hP⟩⟩ rfl rfl hl hst (lv_room (m := m) (pc := pc) (ls := ls) (rest := st0) hW) hdg ⟨hf.1, hf.2⟩ T hT X
  cases hv
  obtain ⟨t2, a1, b1⟩ := kk T' (by rw [e1, hh, h0]) (Stand.forget X' (fun q h => (hL q h).elim))
  exact ⟨t2, st t2 a1, b1⟩
/-- a read-only static call -/
theorem zcS (C : zC p s m args meth c cc own nL ret G) (hM : zMro l y bytes maxL rety r G As P v) (hg : GoodIn lw_all (va_wsS own index y (ws_ y bytes maxL rety))) (hd : y.cls ≠ "java/lang/invoke/MethodHandle" ∧ y.cls ≠ "java/lang/invoke/VarHandle" ∧ (parseMethodDescriptor y.desc).map (fun d => d.parameters.length) = some As.length)
    (hR : r + 1 + 1 ≤ R.frames ∧ 8 + (maxL + 11) + 64 * (r + 1) ≤ R.locals) (hP : P H) (hl : ls.size = nL) (hst : st0 = As.reverse ++ rest) (hW : (rest.map fun v => v.category).sum ≤ 8) (hf : cells ≤ R.cells ∧ slots ≤ R.slots) (hdg : decode cc pc = .ok (.invokestatic index, 3))
    (kk : W p l e R s m args below meth c H locs cells slots Q (F0 m (pc + 3) ls (v.toList ++ rest))) : W p l e R s m args below meth c H locs cells slots Q (F0 m pc ls st0) := by
  intro T hT X
  obtain ⟨v', st₀, t, T', L, h0, X', hL, e1, ⟨hv, hh⟩, st⟩ := W.runS (As := As) (rest := rest) C.fix hM (va_cwS As.length C.fix.2.2.2.2 hg rfl rfl rfl hd ⟨hR.1, hR.2⟩) ⟨zPc.blind, fun U hU hW => ⟨rfl, zE.warm hW C.2.2.2.2.2.2.2, by rw [hU]; exact hP⟩⟩ rfl rfl hl hst (lv_room (m := m) (pc := pc) (ls := ls) (rest := st0) hW) hdg ⟨hf.1, hf.2⟩ T hT X
  cases hv
  obtain ⟨t2, a1, b1⟩ := kk T' (by rw [e1, hh, h0]) (Stand.forget X' (fun q h => (hL q h).elim))
  exact ⟨t2, st t2 a1, b1⟩
theorem zS_call {H0 H1 : Heap} {L : List Loc} (hS : va_S A0 H0 H locs) (hA : ∀ q, A1 q → A0 q) (hF : zF A1 H H1) (hL : ∀ q ∈ L, A1 q.base) : va_S A0 H0 H1 (locs ++ L) := by
  refine ⟨Nat.le_trans hS.1 hF.1, fun q h1 h2 => ?_, fun q hq => ?_⟩
  · rw [hF.2 q (Nat.lt_of_lt_of_le h1 hS.1) (fun z => h2 (hA q z))]
    exact hS.2.1 q h1 h2
  · rcases List.mem_append.mp hq with h | h
    · exact hS.2.2 q h
    · exact hA _ (hL q h)
/-- a writing call through an object -/
theorem zwV (C : zC p s m args meth c cc own nL ret G) (hM : zMrw l y bytes maxL rety r mc ms G (.ref b :: As) P v P1 A1) (hg : GoodIn lw_all (wsV own index Cn y (ws_ y bytes maxL rety))) (hd : y.cls = Cn ∧ y.cls ≠ "java/lang/invoke/MethodHandle" ∧ y.cls ≠ "java/lang/invoke/VarHandle" ∧ (parseMethodDescriptor y.desc).map (fun d => d.parameters.length) = some As.length)
    (hR : r + 1 + 1 ≤ R.frames ∧ 8 + (maxL + 11) + 64 * (r + 1) ≤ R.locals) (hb : ∃ cellB : Cell, H[b]? = some cellB ∧ cellB.vm.isStatics = false ∧ s.vm.findClass Cn = some cellB.cls) (hP : P H) (hl : ls.size = nL) (hst : st0 = As.reverse ++ .ref b :: rest) (hW : (rest.map fun v => v.category).sum ≤ 8) (hf : cells + mc ≤ R.cells ∧ slots + ms ≤ R.slots) (hdg : decode cc pc = .ok (.invokevirtual index, 3))
    (hS : va_S A0 s.heap H locs) (hA : ∀ q, A1 q → A0 q)
    (kk : ∀ (H1 : Heap) (locs1 : List Loc), P1 H1 → zF A1 H H1 → va_S A0 s.heap H1 locs1 → W p l e R s m args below meth c H1 locs1 (cells + mc) (slots + ms) Q (F0 m (pc + 3) ls (v.toList ++ rest))) : W p l e R s m args below meth c H locs cells slots Q (F0 m pc ls st0) := by
  intro T hT X
  obtain ⟨v', st₀, t, T', L, h0, X', hL, e1, ⟨hv, hp, hF⟩, st⟩ := W.runV (As := As) (rest := rest) C.fix hM (cwV As.length C.fix.2.2.2.2 hg rfl rfl rfl hd ⟨hR.1, hR.2⟩) ⟨zPc.blind, hb, fun U hU hW => ⟨rfl, zE.warm hW C.2.2.2.2.2.2.2, by rw [hU]; exact hP⟩⟩ rfl rfl hl hst (lv_room (m := m) (pc := pc) (ls := ls) (rest := st0) hW) hdg ⟨hf.1, hf.2⟩ T hT X
  cases hv
  rw [h0] at hF
  obtain ⟨t2, a1, b1⟩ := kk t.heap (locs ++ L) hp hF (zS_call hS hA hF hL) T' e1 X'
  exact ⟨t2, st t2 a1, b1⟩
theorem zwS (C : zC p s m args meth c cc own nL ret G) (hM : zMrw l y bytes maxL rety r mc ms G As P v P1 A1) (hg : GoodIn lw_all (va_wsS own index y (ws_ y bytes maxL rety))) (hd : y.cls ≠ "java/lang/invoke/MethodHandle" ∧ y.cls ≠ "java/lang/invoke/VarHandle" ∧ (parseMethodDescriptor y.desc).map (fun d => d.parameters.length) = some As.length)
    (hR : r + 1 + 1 ≤ R.frames ∧ 8 + (maxL + 11) + 64 * (r + 1) ≤ R.locals) (hP : P H) (hl : ls.size = nL) (hst : st0 = As.reverse ++ rest) (hW : (rest.map fun v => v.category).sum ≤ 8) (hf : cells + mc ≤ R.cells ∧ slots + ms ≤ R.slots) (hdg : decode cc pc = .ok (.invokestatic index, 3))
    (hS : va_S A0 s.heap H locs) (hA : ∀ q, A1 q → A0 q)
    (kk : ∀ (H1 : Heap) (locs1 : List Loc), P1 H1 → zF A1 H H1 → va_S A0 s.heap H1 locs1 → W p l e R s m args below meth c H1 locs1 (cells + mc) (slots + ms) Q (F0 m (pc + 3) ls (v.toList ++ rest))) : W p l e R s m args below meth c H locs cells slots Q (F0 m pc ls st0) := by
  intro T hT X
  obtain ⟨v', st₀, t, T', L, h0, X', hL, e1, ⟨hv, hp, hF⟩, st⟩ := W.runS (As := As) (rest := rest) C.fix hM (va_cwS As.length C.fix.2.2.2.2 hg rfl rfl rfl hd ⟨hR.1, hR.2⟩) ⟨zPc.blind, fun U hU hW => ⟨rfl, zE.warm hW C.2.2.2.2.2.2.2, by rw [hU]; exact hP⟩⟩ rfl rfl hl hst (lv_room (m := m) (pc := pc) (ls := ls) (rest := st0) hW) hdg ⟨hf.1, hf.2⟩ T hT X
  cases hv
  rw [h0] at hF
  obtain ⟨t2, a1, b1⟩ := kk t.heap (locs ++ L) hp hF (zS_call hS hA hF hL) T' e1 X'
  exact ⟨t2, st t2 a1, b1⟩
/-- ends -/
theorem ze_iret {z : Int32} (C : zC p s m args meth c cc own nL (some .int) G) (hdg : decode cc pc = .ok (.ireturn, 1)) : W p l e R s m args below meth c s.heap [] 0 0 (MQ below (zRO (some (.int z))) args s 0 0 (fun _ => False)) (F0 m pc ls [.int z]) :=
  W.iret C.1 C.2.1 C.2.2.2.2.2.1 (fun t ht _ => ⟨rfl, ht⟩) (fun _ h => by cases h) hdg (hlocks := C.2.2.2.2.2.2.1)
theorem ze_zret {z : Int32} (C : zC p s m args meth c cc own nL (some .boolean) G) (hn : narrow .boolean (.int z) = .int z) (hdg : decode cc pc = .ok (.ireturn, 1)) : W p l e R s m args below meth c s.heap [] 0 0 (MQ below (zRO (some (.int z))) args s 0 0 (fun _ => False)) (F0 m pc ls [.int z]) :=
  W.zret C.1 C.2.1 C.2.2.2.2.2.1 hn (fun t ht _ => ⟨rfl, ht⟩) (fun _ h => by cases h) hdg (hlocks := C.2.2.2.2.2.2.1)
theorem zw_iret {z : Int32} (C : zC p s m args meth c cc own nL (some .int) G) (hP : P1 H) (hS : va_S A0 s.heap H locs) (hdg : decode cc pc = .ok (.ireturn, 1)) : W p l e R s m args below meth c H locs cells slots (MQ below (zRW (some (.int z)) P1 A0) args s cells slots A0) (F0 m pc ls [.int z]) :=
  W.iret C.1 C.2.1 C.2.2.2.2.2.1 (fun t ht _ => ⟨rfl, by rw [ht]; exact hP, by rw [ht]; exact ⟨hS.1, hS.2.1⟩⟩) hS.2.2 hdg (hlocks := C.2.2.2.2.2.2.1)
theorem zw_vret (C : zC p s m args meth c cc own nL none G) (hP : P1 H) (hS : va_S A0 s.heap H locs) (hdg : decode cc pc = .ok (.return_, 1)) : W p l e R s m args below meth c H locs cells slots (MQ below (zRW none P1 A0) args s cells slots A0) (F0 m pc ls []) :=
  W.vret C.1 C.2.1 C.2.2.2.2.2.1 (fun t ht _ => ⟨rfl, by rw [ht]; exact hP, by rw [ht]; exact ⟨hS.1, hS.2.1⟩⟩) hS.2.2 hdg (hlocks := C.2.2.2.2.2.2.1)
end Z2

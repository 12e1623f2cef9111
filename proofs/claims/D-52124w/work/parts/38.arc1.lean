/-! the arcade: requirements, lists (printed by gen/a38.py) -/
set_option maxRecDepth 100000
section ZE
variable {p : Program} {l : Launch} {e : Env} {R : Room} {s : State} {m : MethodId} {args : Array Value} {below : List Frame} {meth : Method} {c : Code} {H : Heap} {locs : List Loc} {cells slots : Nat} {Q : State → Prop}
variable {cc : ByteArray} {own ref : String} {nL pc index : Nat} {ret : Option FieldType} {G : zG} {rest : List Value} {ls : Array Slot} {ws : va_W} {a : Nat}
/-- an inherited field under javac's name -/
theorem zgS {Cn : String} {T : u_T} {N ci : Nat} (C : zC p s m args meth c cc own nL ret G) (hin : ∀ w ∈ u_ws Cn T N, w ∈ lw_all) (hP : va_P G.1 zCl ws H) (q0 : Nat) {fs : List Value} (he : ws[q0]? = some (a, .inr (ci, fs))) (hc : zCl[ci]? = some (Cn, T, N)) (k : Nat) (hk : k < N) (hq : Cond.fieldLink own index ref (T k).2.1 (T k).2.2.1 ∈ lw_all) (hsf : Cond.sameField ref (T k).1 (T k).2.1 (T k).2.2.1 ∈ lw_all) {v : Value} (hv : fs[k]? = some v) (hdg : decode cc pc = .ok (.getfield index, 3))
    (kk : W p l e R s m args below meth c H locs cells slots Q (F0 m (pc + 3) ls (v :: rest))) : W p l e R s m args below meth c H locs cells slots Q (F0 m pc ls (.ref a :: rest)) :=
  va_get C.1 C.2.1 C.2.2.2.2.1 hin C.2.2.2.1 C.2.2.2.2.2.2.2.1 hP q0 he hc k hk (C.2.2.2.2.1 _ hq) (fun x h => u_same (C.2.2.2.2.1 _ hsf) x h) hv hdg kk
end ZE
theorem zhdLsize : "java/util/List" ≠ "java/lang/invoke/MethodHandle" ∧ "java/util/List" ≠ "java/lang/invoke/VarHandle" ∧ (parseMethodDescriptor "()I").map (fun d => d.parameters.length) = some 0 := by decide +kernel
theorem zhdLget : "java/util/List" ≠ "java/lang/invoke/MethodHandle" ∧ "java/util/List" ≠ "java/lang/invoke/VarHandle" ∧ (parseMethodDescriptor "(I)Ljava/lang/Object;").map (fun d => d.parameters.length) = some 1 := by decide +kernel
theorem zhdMtake : "PennyArcade$Machine" ≠ "java/lang/invoke/MethodHandle" ∧ "PennyArcade$Machine" ≠ "java/lang/invoke/VarHandle" ∧ (parseMethodDescriptor "(LPennyArcade$Hall;II)I").map (fun d => d.parameters.length) = some 3 := by decide +kernel
theorem zhdMrequirePlay : "PennyArcade$Machine" ≠ "java/lang/invoke/MethodHandle" ∧ "PennyArcade$Machine" ≠ "java/lang/invoke/VarHandle" ∧ (parseMethodDescriptor "(II)V").map (fun d => d.parameters.length) = some 2 := by decide +kernel
theorem zhdMcolumnIn : "PennyArcade$Machine" ≠ "java/lang/invoke/MethodHandle" ∧ "PennyArcade$Machine" ≠ "java/lang/invoke/VarHandle" ∧ (parseMethodDescriptor "(I)I").map (fun d => d.parameters.length) = some 1 := by decide +kernel
theorem zhdMtiltAt : "PennyArcade$Machine" ≠ "java/lang/invoke/MethodHandle" ∧ "PennyArcade$Machine" ≠ "java/lang/invoke/VarHandle" ∧ (parseMethodDescriptor "(I)I").map (fun d => d.parameters.length) = some 1 := by decide +kernel
theorem zhdMtold : "PennyArcade$Machine" ≠ "java/lang/invoke/MethodHandle" ∧ "PennyArcade$Machine" ≠ "java/lang/invoke/VarHandle" ∧ (parseMethodDescriptor "(I)I").map (fun d => d.parameters.length) = some 1 := by decide +kernel
set_option maxHeartbeats 4000000 in
theorem ar_require (l : Launch) (G : zG) (v : Int32) (hv : ¬ v = 0) : zMro l yX1_require cX1_require 1 (none) 0 G [.int v] (fun _ => True) (none) := by
  refine zMk [(0, .int v)] (by decide) (Nat.le_of_ble_eq_true rfl) rfl ?_
  intro p e s m below meth c ls C hP hl _
  generalize ([.int v] : List Value).toArray = av at C ⊢
  have hx := C.1
  have hb := C.2.1
  have hml := C.2.2.1
  have hown := C.2.2.2.1
  have hts := C.2.2.2.2.1
  have hE := C.2.2.2.2.2.2.2
  refine lv_iload_n hx hb dX1_require_0 rfl (lv_at hl 0 rfl) ?_
  refine lv_if_ne (tgt := 12) hx hb dX1_require_1 (by decide) (fun c_1 => ?_) (fun c_1 => ?_)
  · exact ze_vret C dX1_require_12
  · exact absurd c_1 hv
set_option maxHeartbeats 4000000 in
theorem ax_require (l : Launch) (hfl : l.stackTraces = false) (G : zG) (v : Int32) (hv : v = 0) : zMx l yX1_require cX1_require 1 (none) 5 G [.int v] (fun _ => True) "java/lang/IllegalArgumentException" := by
  refine zMkX [(0, .int v)] (by decide) (Nat.le_of_ble_eq_true rfl) rfl ?_
  intro p e s m below meth c ls C hT hx9 hP hl
  generalize ([.int v] : List Value).toArray = av at C ⊢
  have hx := C.1
  have hb := C.2.1
  have hml := C.2.2.1
  have hown := C.2.2.2.1
  have hts := C.2.2.2.2.1
  have hE := C.2.2.2.2.2.2.2
  refine lv_iload_n hx hb dX1_require_0 rfl (lv_at hl 0 rfl) ?_
  refine lv_if_ne (tgt := 12) hx hb dX1_require_1 (by decide) (fun c_1 => ?_) (fun c_1 => ?_)
  · exact absurd hv c_1
  · exact zth_IAE C hfl hT hx9 hl.1 dX1_require_4 dX1_require_7 dX1_require_8 dX1_require_11 (Nat.le_of_ble_eq_true rfl) (Nat.le_of_ble_eq_true rfl) (Nat.le_of_ble_eq_true rfl) (Nat.le_of_ble_eq_true rfl)
set_option maxHeartbeats 4000000 in
theorem ar_requireState (l : Launch) (G : zG) (v : Int32) (hv : ¬ v = 0) : zMro l yX1_requireState cX1_requireState 1 (none) 0 G [.int v] (fun _ => True) (none) := by
  refine zMk [(0, .int v)] (by decide) (Nat.le_of_ble_eq_true rfl) rfl ?_
  intro p e s m below meth c ls C hP hl _
  generalize ([.int v] : List Value).toArray = av at C ⊢
  have hx := C.1
  have hb := C.2.1
  have hml := C.2.2.1
  have hown := C.2.2.2.1
  have hts := C.2.2.2.2.1
  have hE := C.2.2.2.2.2.2.2
  refine lv_iload_n hx hb dX1_requireState_0 rfl (lv_at hl 0 rfl) ?_
  refine lv_if_ne (tgt := 12) hx hb dX1_requireState_1 (by decide) (fun c_1 => ?_) (fun c_1 => ?_)
  · exact ze_vret C dX1_requireState_12
  · exact absurd c_1 hv
set_option maxHeartbeats 4000000 in
theorem ax_requireState (l : Launch) (hfl : l.stackTraces = false) (G : zG) (v : Int32) (hv : v = 0) : zMx l yX1_requireState cX1_requireState 1 (none) 5 G [.int v] (fun _ => True) "java/lang/IllegalStateException" := by
  refine zMkX [(0, .int v)] (by decide) (Nat.le_of_ble_eq_true rfl) rfl ?_
  intro p e s m below meth c ls C hT hx9 hP hl
  generalize ([.int v] : List Value).toArray = av at C ⊢
  have hx := C.1
  have hb := C.2.1
  have hml := C.2.2.1
  have hown := C.2.2.2.1
  have hts := C.2.2.2.2.1
  have hE := C.2.2.2.2.2.2.2
  refine lv_iload_n hx hb dX1_requireState_0 rfl (lv_at hl 0 rfl) ?_
  refine lv_if_ne (tgt := 12) hx hb dX1_requireState_1 (by decide) (fun c_1 => ?_) (fun c_1 => ?_)
  · exact absurd hv c_1
  · exact zth_ISE C hfl hT hx9 hl.1 dX1_requireState_4 dX1_requireState_7 dX1_requireState_8 dX1_requireState_11 (Nat.le_of_ble_eq_true rfl) (Nat.le_of_ble_eq_true rfl) (Nat.le_of_ble_eq_true rfl) (Nat.le_of_ble_eq_true rfl)
set_option maxHeartbeats 4000000 in
theorem ar_requireIndex (l : Launch) (G : zG) (v n : Int32) (hv : ¬ v < 0 ∧ v < n) : zMro l yX1_requireIndex cX1_requireIndex 2 (none) 0 G [.int v, .int n] (fun _ => True) (none) := by
  refine zMk [(0, .int v), (1, .int n)] (by decide) (Nat.le_of_ble_eq_true rfl) rfl ?_
  intro p e s m below meth c ls C hP hl _
  generalize ([.int v, .int n] : List Value).toArray = av at C ⊢
  have hx := C.1
  have hb := C.2.1
  have hml := C.2.2.1
  have hown := C.2.2.2.1
  have hts := C.2.2.2.2.1
  have hE := C.2.2.2.2.2.2.2
  refine lv_iload_n hx hb dX1_requireIndex_0 rfl (lv_at hl 0 rfl) ?_
  refine lv_if_lt (tgt := 9) hx hb dX1_requireIndex_1 (by decide) (fun c_1 => ?_) (fun c_1 => ?_)
  · exact absurd c_1 hv.1
  · refine lv_iload_n hx hb dX1_requireIndex_4 rfl (lv_at hl 0 rfl) ?_
    refine lv_iload_n hx hb dX1_requireIndex_5 rfl (lv_at hl 1 rfl) ?_
    refine lv_icmp_lt (tgt := 17) hx hb dX1_requireIndex_6 (by decide) (fun c_2 => ?_) (fun c_2 => ?_)
    · exact ze_vret C dX1_requireIndex_17
    · exact absurd hv.2 c_2
set_option maxHeartbeats 4000000 in
theorem ax_requireIndex (l : Launch) (hfl : l.stackTraces = false) (G : zG) (v n : Int32) (hv : ¬ (¬ v < 0 ∧ v < n)) : zMx l yX1_requireIndex cX1_requireIndex 2 (none) 5 G [.int v, .int n] (fun _ => True) "java/lang/IndexOutOfBoundsException" := by
  refine zMkX [(0, .int v), (1, .int n)] (by decide) (Nat.le_of_ble_eq_true rfl) rfl ?_
  intro p e s m below meth c ls C hT hx9 hP hl
  generalize ([.int v, .int n] : List Value).toArray = av at C ⊢
  have hx := C.1
  have hb := C.2.1
  have hml := C.2.2.1
  have hown := C.2.2.2.1
  have hts := C.2.2.2.2.1
  have hE := C.2.2.2.2.2.2.2
  refine lv_iload_n hx hb dX1_requireIndex_0 rfl (lv_at hl 0 rfl) ?_
  refine lv_if_lt (tgt := 9) hx hb dX1_requireIndex_1 (by decide) (fun c_1 => ?_) (fun c_1 => ?_)
  · exact zth_IOB C hfl hT hx9 hl.1 dX1_requireIndex_9 dX1_requireIndex_12 dX1_requireIndex_13 dX1_requireIndex_16 (Nat.le_of_ble_eq_true rfl) (Nat.le_of_ble_eq_true rfl) (Nat.le_of_ble_eq_true rfl) (Nat.le_of_ble_eq_true rfl)
  · refine lv_iload_n hx hb dX1_requireIndex_4 rfl (lv_at hl 0 rfl) ?_
    refine lv_iload_n hx hb dX1_requireIndex_5 rfl (lv_at hl 1 rfl) ?_
    refine lv_icmp_lt (tgt := 17) hx hb dX1_requireIndex_6 (by decide) (fun c_2 => ?_) (fun c_2 => ?_)
    · exact absurd ⟨c_1, c_2⟩ hv
    · exact zth_IOB C hfl hT hx9 hl.1 dX1_requireIndex_9 dX1_requireIndex_12 dX1_requireIndex_13 dX1_requireIndex_16 (Nat.le_of_ble_eq_true rfl) (Nat.le_of_ble_eq_true rfl) (Nat.le_of_ble_eq_true rfl) (Nat.le_of_ble_eq_true rfl)
set_option maxHeartbeats 4000000 in
theorem ar_requireFrom (l : Launch) (G : zG) (lo hi v : Int32) (hv : lo ≤ v ∧ v ≤ hi) : zMro l yX1_requireFrom cX1_requireFrom 3 (none) 1 G [.int lo, .int hi, .int v] (fun _ => True) (none) := by
  refine zMk [(0, .int lo), (1, .int hi), (2, .int v)] (by decide) (Nat.le_of_ble_eq_true rfl) rfl ?_
  intro p e s m below meth c ls C hP hl _
  generalize ([.int lo, .int hi, .int v] : List Value).toArray = av at C ⊢
  have hx := C.1
  have hb := C.2.1
  have hml := C.2.2.1
  have hown := C.2.2.2.1
  have hts := C.2.2.2.2.1
  have hE := C.2.2.2.2.2.2.2
  refine lv_iload_n hx hb dX1_requireFrom_0 rfl (lv_at hl 2 rfl) ?_
  refine lv_iload_n hx hb dX1_requireFrom_1 rfl (lv_at hl 0 rfl) ?_
  refine lv_icmp_lt (tgt := 14) hx hb dX1_requireFrom_2 (by decide) (fun c_1 => ?_) (fun c_1 => ?_)
  · refine lv_iconst (v := nI 0) hx hb dX1_requireFrom_14 (by decide) ?_
    exact absurd hv.1 (Int32.not_le.mpr c_1)
  · refine lv_iload_n hx hb dX1_requireFrom_5 rfl (lv_at hl 2 rfl) ?_
    refine lv_iload_n hx hb dX1_requireFrom_6 rfl (lv_at hl 1 rfl) ?_
    refine lv_icmp_gt (tgt := 14) hx hb dX1_requireFrom_7 (by decide) (fun c_2 => ?_) (fun c_2 => ?_)
    · refine lv_iconst (v := nI 0) hx hb dX1_requireFrom_14 (by decide) ?_
      exact absurd hv.2 (Int32.not_le.mpr c_2)
    · refine lv_iconst (v := nI 1) hx hb dX1_requireFrom_10 (by decide) ?_
      refine lv_goto (tgt := 15) hx hb dX1_requireFrom_11 (by decide) ?_
      refine zcS0 (As := [.int (nI 1)]) (rest := []) C (ar_require l G (nI 1) (by decide)) (lw_S q281 q282 q43 q283) hdX1_require.2 ⟨Nat.le_of_ble_eq_true rfl, Nat.le_of_ble_eq_true rfl⟩ (trivial) hl.1 rfl (Nat.le_of_ble_eq_true rfl) ⟨Nat.le_of_ble_eq_true rfl, Nat.le_of_ble_eq_true rfl⟩ dX1_requireFrom_15 ?_
      exact ze_vret C dX1_requireFrom_18
set_option maxHeartbeats 4000000 in
theorem ax_requireFrom (l : Launch) (hfl : l.stackTraces = false) (G : zG) (lo hi v : Int32) (hv : ¬ (lo ≤ v ∧ v ≤ hi)) : zMx l yX1_requireFrom cX1_requireFrom 3 (none) 6 G [.int lo, .int hi, .int v] (fun _ => True) "java/lang/IllegalArgumentException" := by
  refine zMkX [(0, .int lo), (1, .int hi), (2, .int v)] (by decide) (Nat.le_of_ble_eq_true rfl) rfl ?_
  intro p e s m below meth c ls C hT hx9 hP hl
  generalize ([.int lo, .int hi, .int v] : List Value).toArray = av at C ⊢
  have hx := C.1
  have hb := C.2.1
  have hml := C.2.2.1
  have hown := C.2.2.2.1
  have hts := C.2.2.2.2.1
  have hE := C.2.2.2.2.2.2.2
  refine lv_iload_n hx hb dX1_requireFrom_0 rfl (lv_at hl 2 rfl) ?_
  refine lv_iload_n hx hb dX1_requireFrom_1 rfl (lv_at hl 0 rfl) ?_
  refine lv_icmp_lt (tgt := 14) hx hb dX1_requireFrom_2 (by decide) (fun c_1 => ?_) (fun c_1 => ?_)
  · refine lv_iconst (v := nI 0) hx hb dX1_requireFrom_14 (by decide) ?_
    exact zxS (As := [.int (nI 0)]) (rest := []) C hT hx9 (ax_require l hfl G (nI 0) rfl) (lw_S q281 q282 q43 q283) hdX1_require.2 ⟨Nat.le_of_ble_eq_true rfl, Nat.le_of_ble_eq_true rfl⟩ (trivial) hl.1 rfl (Nat.le_of_ble_eq_true rfl) ⟨Nat.le_of_ble_eq_true rfl, Nat.le_of_ble_eq_true rfl⟩ dX1_requireFrom_15
  · refine lv_iload_n hx hb dX1_requireFrom_5 rfl (lv_at hl 2 rfl) ?_
    refine lv_iload_n hx hb dX1_requireFrom_6 rfl (lv_at hl 1 rfl) ?_
    refine lv_icmp_gt (tgt := 14) hx hb dX1_requireFrom_7 (by decide) (fun c_2 => ?_) (fun c_2 => ?_)
    · refine lv_iconst (v := nI 0) hx hb dX1_requireFrom_14 (by decide) ?_
      exact zxS (As := [.int (nI 0)]) (rest := []) C hT hx9 (ax_require l hfl G (nI 0) rfl) (lw_S q281 q282 q43 q283) hdX1_require.2 ⟨Nat.le_of_ble_eq_true rfl, Nat.le_of_ble_eq_true rfl⟩ (trivial) hl.1 rfl (Nat.le_of_ble_eq_true rfl) ⟨Nat.le_of_ble_eq_true rfl, Nat.le_of_ble_eq_true rfl⟩ dX1_requireFrom_15
    · refine lv_iconst (v := nI 1) hx hb dX1_requireFrom_10 (by decide) ?_
      refine lv_goto (tgt := 15) hx hb dX1_requireFrom_11 (by decide) ?_
      exact absurd ⟨Int32.not_lt.mp c_1, Int32.not_lt.mp c_2⟩ hv
set_option maxHeartbeats 4000000 in
theorem ar_size (l : Launch) (G : zG) (o d n : Nat) (mc : Int32) (f : Nat → Nat) : zMro l yJ2_size cJ2_size 1 (some .int) 0 G [.ref o] (fun H => va_P G.1 zCl [(o, .inr (6, [.int mc, .ref d, .int (nI n)]))] H ∧ (0 < n → va_P G.1 zCl [(d, .inl (G.2 3, 10, .inr (.inr (.inr (.inr (zRefs n f))))))] H)) (some (.int (nI n))) := by
  refine zMk [(0, .ref o)] (by decide) (Nat.le_of_ble_eq_true rfl) rfl ?_
  intro p e s m below meth c ls C hP hl _
  generalize ([.ref o] : List Value).toArray = av at C ⊢
  have hx := C.1
  have hb := C.2.1
  have hml := C.2.2.1
  have hown := C.2.2.2.1
  have hts := C.2.2.2.2.1
  have hE := C.2.2.2.2.2.2.2
  refine lv_aload_n hx hb dJ2_size_0 rfl (lv_at hl 0 rfl) ?_
  refine zgO (T := TJ2) (N := 3) (ci := 6) C in_J2 hP.1 0 rfl rfl 2 (by decide) q91 rfl dJ2_size_1 ?_
  exact ze_iretE C (rfl) dJ2_size_4
set_option maxHeartbeats 4000000 in
theorem ar_elementData (l : Launch) (G : zG) (o d n : Nat) (mc : Int32) (f : Nat → Nat) (i : Nat) (hi : i < n) (hn : n ≤ 10) : zMro l yJ2_elementData cJ2_elementData 2 (some (.object "java/lang/Object")) 0 G [.ref o, .int (nI i)] (fun H => va_P G.1 zCl [(o, .inr (6, [.int mc, .ref d, .int (nI n)]))] H ∧ (0 < n → va_P G.1 zCl [(d, .inl (G.2 3, 10, .inr (.inr (.inr (.inr (zRefs n f))))))] H)) (some (.ref (f i))) := by
  refine zMk [(0, .ref o), (1, .int (nI i))] (by decide) (Nat.le_of_ble_eq_true rfl) rfl ?_
  intro p e s m below meth c ls C hP hl _
  generalize ([.ref o, .int (nI i)] : List Value).toArray = av at C ⊢
  have hx := C.1
  have hb := C.2.1
  have hml := C.2.2.1
  have hown := C.2.2.2.1
  have hts := C.2.2.2.2.1
  have hE := C.2.2.2.2.2.2.2
  refine lv_aload_n hx hb dJ2_elementData_0 rfl (lv_at hl 0 rfl) ?_
  refine zgO (T := TJ2) (N := 3) (ci := 6) C in_J2 hP.1 0 rfl rfl 1 (by decide) q90 rfl dJ2_elementData_1 ?_
  refine lv_iload_n hx hb dJ2_elementData_4 rfl (lv_at hl 1 rfl) ?_
  refine zn_aldo (v := f i) C (hP.2 (by omega)) 0 rfl (by omega) (Nat.le_of_ble_eq_true rfl) (by simp [zRefs, hi]) dJ2_elementData_5 ?_
  exact ze_aret C (Or.inl ⟨_, rfl⟩) dJ2_elementData_6
set_option maxHeartbeats 4000000 in
theorem ar_chk (l : Launch) (G : zG) (i n : Nat) (hi : i < n) (hn : n ≤ 10) : zMro l yJ15_checkIndex cJ15_checkIndex 3 (some .int) 0 G [.int (nI i), .int (nI n), .null] (fun _ => True) (some (.int (nI i))) := by
  refine zMk [(0, .int (nI i)), (1, .int (nI n)), (2, .null)] (by decide) (Nat.le_of_ble_eq_true rfl) rfl ?_
  intro p e s m below meth c ls C hP hl _
  generalize ([.int (nI i), .int (nI n), .null] : List Value).toArray = av at C ⊢
  have hx := C.1
  have hb := C.2.1
  have hml := C.2.2.1
  have hown := C.2.2.2.1
  have hts := C.2.2.2.2.1
  have hE := C.2.2.2.2.2.2.2
  refine lv_iload_n hx hb dJ15_checkIndex_0 rfl (lv_at hl 0 rfl) ?_
  refine lv_if_lt (tgt := 9) hx hb dJ15_checkIndex_1 (by decide) (fun c_1 => ?_) (fun c_1 => ?_)
  · exact absurd c_1 (nI_pos (by omega))
  · refine lv_iload_n hx hb dJ15_checkIndex_4 rfl (lv_at hl 0 rfl) ?_
    refine lv_iload_n hx hb dJ15_checkIndex_5 rfl (lv_at hl 1 rfl) ?_
    refine zn_lt (tgt := 16) C (by omega) (by omega) dJ15_checkIndex_6 (by decide) (fun c_2 => ?_) (fun c_2 => ?_)
    · refine lv_iload_n hx hb dJ15_checkIndex_16 rfl (lv_at hl 0 rfl) ?_
      exact ze_iretE C (rfl) dJ15_checkIndex_17
    · exact absurd hi (by omega)
set_option maxHeartbeats 4000000 in
theorem ar_chkO (l : Launch) (G : zG) (i n : Nat) (hi : i < n) (hn : n ≤ 10) : zMro l yJ14_checkIndex cJ14_checkIndex 2 (some .int) 1 G [.int (nI i), .int (nI n)] (fun _ => True) (some (.int (nI i))) := by
  refine zMk [(0, .int (nI i)), (1, .int (nI n))] (by decide) (Nat.le_of_ble_eq_true rfl) rfl ?_
  intro p e s m below meth c ls C hP hl _
  generalize ([.int (nI i), .int (nI n)] : List Value).toArray = av at C ⊢
  have hx := C.1
  have hb := C.2.1
  have hml := C.2.2.1
  have hown := C.2.2.2.1
  have hts := C.2.2.2.2.1
  have hE := C.2.2.2.2.2.2.2
  refine lv_iload_n hx hb dJ14_checkIndex_0 rfl (lv_at hl 0 rfl) ?_
  refine lv_iload_n hx hb dJ14_checkIndex_1 rfl (lv_at hl 1 rfl) ?_
  refine lv_null hx hb dJ14_checkIndex_2 ?_
  refine zcS1 (As := [.int (nI i), .int (nI n), .null]) (rest := []) C (ar_chk l G i n hi hn) (lw_S q242 q243 q65 q244) hdJ15_checkIndex.2 ⟨Nat.le_of_ble_eq_true rfl, Nat.le_of_ble_eq_true rfl⟩ (trivial) hl.1 rfl (Nat.le_of_ble_eq_true rfl) ⟨Nat.le_of_ble_eq_true rfl, Nat.le_of_ble_eq_true rfl⟩ dJ14_checkIndex_3 ?_
  exact ze_iretE C (rfl) dJ14_checkIndex_6
set_option maxHeartbeats 4000000 in
theorem ar_get (l : Launch) (G : zG) (o d n : Nat) (mc : Int32) (f : Nat → Nat) (i : Nat) (hi : i < n) (hn : n ≤ 10) : zMro l yJ2_get cJ2_get 2 (some (.object "java/lang/Object")) 2 G [.ref o, .int (nI i)] (fun H => va_P G.1 zCl [(o, .inr (6, [.int mc, .ref d, .int (nI n)]))] H ∧ (0 < n → va_P G.1 zCl [(d, .inl (G.2 3, 10, .inr (.inr (.inr (.inr (zRefs n f))))))] H)) (some (.ref (f i))) := by
  refine zMk [(0, .ref o), (1, .int (nI i))] (by decide) (Nat.le_of_ble_eq_true rfl) rfl ?_
  intro p e s m below meth c ls C hP hl _
  generalize ([.ref o, .int (nI i)] : List Value).toArray = av at C ⊢
  have hx := C.1
  have hb := C.2.1
  have hml := C.2.2.1
  have hown := C.2.2.2.1
  have hts := C.2.2.2.2.1
  have hE := C.2.2.2.2.2.2.2
  refine lv_iload_n hx hb dJ2_get_0 rfl (lv_at hl 1 rfl) ?_
  refine lv_aload_n hx hb dJ2_get_1 rfl (lv_at hl 0 rfl) ?_
  refine zgO (T := TJ2) (N := 3) (ci := 6) C in_J2 hP.1 0 rfl rfl 2 (by decide) q91 rfl dJ2_get_2 ?_
  refine zcS1 (As := [.int (nI i), .int (nI n)]) (rest := []) C (ar_chkO l G i n hi hn) (lw_S q239 q240 q64 q241) hdJ14_checkIndex.2 ⟨Nat.le_of_ble_eq_true rfl, Nat.le_of_ble_eq_true rfl⟩ (trivial) hl.1 rfl (Nat.le_of_ble_eq_true rfl) ⟨Nat.le_of_ble_eq_true rfl, Nat.le_of_ble_eq_true rfl⟩ dJ2_get_5 ?_
  refine lv_pop hx hb dJ2_get_8 rfl ?_
  refine lv_aload_n hx hb dJ2_get_9 rfl (lv_at hl 0 rfl) ?_
  refine lv_iload_n hx hb dJ2_get_10 rfl (lv_at hl 1 rfl) ?_
  refine zcV1 (As := [.int (nI i)]) (rest := []) C (ar_elementData l G o d n mc f i hi hn) (lw_V q245 q246 q247 q46 q248) hdJ2_elementData ⟨Nat.le_of_ble_eq_true rfl, Nat.le_of_ble_eq_true rfl⟩ (zrO (ci := 6) (q0 := 0) hE hP.1 rfl rfl) (hP) hl.1 rfl (Nat.le_of_ble_eq_true rfl) ⟨Nat.le_of_ble_eq_true rfl, Nat.le_of_ble_eq_true rfl⟩ dJ2_get_11 ?_
  exact ze_aret C (Or.inl ⟨_, rfl⟩) dJ2_get_14
set_option maxHeartbeats 4000000 in
theorem ar_known (l : Launch) (G : zG) (o d n : Nat) (mc : Int32) (f : Nat → Nat) (i : Nat) (hi : i < n) (hn : n ≤ 10) : zMro l yX1_known cX1_known 2 (some (.object "java/lang/Object")) 3 G [.ref o, .int (nI i)] (fun H => va_P G.1 zCl [(o, .inr (6, [.int mc, .ref d, .int (nI n)]))] H ∧ (0 < n → va_P G.1 zCl [(d, .inl (G.2 3, 10, .inr (.inr (.inr (.inr (zRefs n f))))))] H)) (some (.ref (f i))) := by
  refine zMk [(0, .ref o), (1, .int (nI i))] (by decide) (Nat.le_of_ble_eq_true rfl) rfl ?_
  intro p e s m below meth c ls C hP hl _
  generalize ([.ref o, .int (nI i)] : List Value).toArray = av at C ⊢
  have hx := C.1
  have hb := C.2.1
  have hml := C.2.2.1
  have hown := C.2.2.2.1
  have hts := C.2.2.2.2.1
  have hE := C.2.2.2.2.2.2.2
  refine lv_iload_n hx hb dX1_known_0 rfl (lv_at hl 1 rfl) ?_
  refine lv_aload_n hx hb dX1_known_1 rfl (lv_at hl 0 rfl) ?_
  refine zcF (As := []) (rest := [.int (nI i)]) (Cn := RJ2) (x := zyLs) C (ar_size l G o d n mc f) (lw_F q527 q531 q200 q46 q202) hE.2.2.2.1 zhdLsize ⟨Nat.le_of_ble_eq_true rfl, Nat.le_of_ble_eq_true rfl⟩ (hE.1.1 6 _ rfl).2 (zrO (ci := 6) (q0 := 0) hE hP.1 rfl rfl) (hP) hl.1 rfl (Nat.le_of_ble_eq_true rfl) ⟨Nat.le_of_ble_eq_true rfl, Nat.le_of_ble_eq_true rfl⟩ dX1_known_2 ?_
  refine zcS0 (As := [.int (nI i), .int (nI n)]) (rest := []) C (ar_requireIndex l G (nI i) (nI n) ⟨nI_pos (by omega), nI_lt hi (by omega)⟩) (lw_S q534 q535 q43 q536) hdX1_requireIndex.2 ⟨Nat.le_of_ble_eq_true rfl, Nat.le_of_ble_eq_true rfl⟩ (trivial) hl.1 rfl (Nat.le_of_ble_eq_true rfl) ⟨Nat.le_of_ble_eq_true rfl, Nat.le_of_ble_eq_true rfl⟩ dX1_known_7 ?_
  refine lv_aload_n hx hb dX1_known_10 rfl (lv_at hl 0 rfl) ?_
  refine lv_iload_n hx hb dX1_known_11 rfl (lv_at hl 1 rfl) ?_
  refine zcF (As := [.int (nI i)]) (rest := []) (Cn := RJ2) (x := zyLg) C (ar_get l G o d n mc f i hi hn) (lw_F q553 q556 q236 q46 q238) hE.2.2.2.2.1 zhdLget ⟨Nat.le_of_ble_eq_true rfl, Nat.le_of_ble_eq_true rfl⟩ (hE.1.1 6 _ rfl).2 (zrO (ci := 6) (q0 := 0) hE hP.1 rfl rfl) (hP) hl.1 rfl (Nat.le_of_ble_eq_true rfl) ⟨Nat.le_of_ble_eq_true rfl, Nat.le_of_ble_eq_true rfl⟩ dX1_known_12 ?_
  exact ze_aret C (Or.inl ⟨_, rfl⟩) dX1_known_17
set_option maxHeartbeats 4000000 in
theorem ax_known (l : Launch) (hfl : l.stackTraces = false) (G : zG) (o d n : Nat) (mc : Int32) (f : Nat → Nat) (v : Int32) (hv : ¬ (¬ v < 0 ∧ v < nI n)) : zMx l yX1_known cX1_known 2 (some (.object "java/lang/Object")) 6 G [.ref o, .int v] (fun H => va_P G.1 zCl [(o, .inr (6, [.int mc, .ref d, .int (nI n)]))] H ∧ (0 < n → va_P G.1 zCl [(d, .inl (G.2 3, 10, .inr (.inr (.inr (.inr (zRefs n f))))))] H)) "java/lang/IndexOutOfBoundsException" := by
  refine zMkX [(0, .ref o), (1, .int v)] (by decide) (Nat.le_of_ble_eq_true rfl) rfl ?_
  intro p e s m below meth c ls C hT hx9 hP hl
  generalize ([.ref o, .int v] : List Value).toArray = av at C ⊢
  have hx := C.1
  have hb := C.2.1
  have hml := C.2.2.1
  have hown := C.2.2.2.1
  have hts := C.2.2.2.2.1
  have hE := C.2.2.2.2.2.2.2
  refine lv_iload_n hx hb dX1_known_0 rfl (lv_at hl 1 rfl) ?_
  refine lv_aload_n hx hb dX1_known_1 rfl (lv_at hl 0 rfl) ?_
  refine zcF (As := []) (rest := [.int v]) (Cn := RJ2) (x := zyLs) C (ar_size l G o d n mc f) (lw_F q527 q531 q200 q46 q202) hE.2.2.2.1 zhdLsize ⟨Nat.le_of_ble_eq_true rfl, Nat.le_of_ble_eq_true rfl⟩ (hE.1.1 6 _ rfl).2 (zrO (ci := 6) (q0 := 0) hE hP.1 rfl rfl) (hP) hl.1 rfl (Nat.le_of_ble_eq_true rfl) ⟨Nat.le_of_ble_eq_true rfl, Nat.le_of_ble_eq_true rfl⟩ dX1_known_2 ?_
  exact zxS (As := [.int v, .int (nI n)]) (rest := []) C hT hx9 (ax_requireIndex l hfl G v (nI n) hv) (lw_S q534 q535 q43 q536) hdX1_requireIndex.2 ⟨Nat.le_of_ble_eq_true rfl, Nat.le_of_ble_eq_true rfl⟩ (trivial) hl.1 rfl (Nat.le_of_ble_eq_true rfl) ⟨Nat.le_of_ble_eq_true rfl, Nat.le_of_ble_eq_true rfl⟩ dX1_known_7

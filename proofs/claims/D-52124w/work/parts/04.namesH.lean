/-! PennyArcade$Machine -/
set_option maxRecDepth 100000
def RX4 : String := "PennyArcade$Machine"
abbrev cX4_init : ByteArray := prog_3_method_1_code
def yX4_init : MethodName := ⟨RX4, "<init>", "(I)V"⟩
def dkwX4_init_0 : List UInt8 := [42, 183, 0, 1, 42, 27, 181, 0, 7, 177]
abbrev dktX4_init_0 : List UInt8 := dkwX4_init_0 ++ []
theorem dksX4_init_0 : cX4_init.data.toList.drop 0 = dktX4_init_0 := by decide +kernel
theorem dX4_init_0 : decode cX4_init 0 = .ok (.aload_n 0, 1) := dk_42 (dk_at dksX4_init_0 0 rfl rfl)
theorem dX4_init_1 : decode cX4_init 1 = .ok (.invokespecial 1, 3) := dk_183 0 1 (dk_at dksX4_init_0 1 rfl rfl)
theorem dX4_init_4 : decode cX4_init 4 = .ok (.aload_n 0, 1) := dk_42 (dk_at dksX4_init_0 4 rfl rfl)
theorem dX4_init_5 : decode cX4_init 5 = .ok (.iload_n 1, 1) := dk_27 (dk_at dksX4_init_0 5 rfl rfl)
theorem dX4_init_6 : decode cX4_init 6 = .ok (.putfield 7, 3) := dk_181 0 7 (dk_at dksX4_init_0 6 rfl rfl)
theorem dX4_init_9 : decode cX4_init 9 = .ok (.return_, 1) := dk_177 (dk_at dksX4_init_0 9 rfl rfl)
theorem q54 : (Jvm.Cond.initialized "PennyArcade$Machine") ∈ lw_all := lw_g (lw_at lw_m1 12 rfl) rfl
theorem q251 : (Jvm.Cond.declares ({ cls := "PennyArcade$Machine", name := "told", desc := "(I)I" } : Jvm.MethodName)) ∈ lw_tbl := lw_at lw_m1 209 rfl
theorem q252 : (Jvm.Cond.sameMethod "PennyArcade$Machine" "PennyArcade$Machine" "told" "(I)I") ∈ lw_all := lw_g (lw_at lw_m1 210 rfl) rfl
theorem q372 : (Jvm.Cond.instanceMethod ({ cls := "PennyArcade$Machine", name := "<init>", desc := "(I)V" } : Jvm.MethodName)) ∈ lw_all := lw_g (lw_at lw_m2 90 rfl) rfl
theorem q373 : (Jvm.Cond.code ({ cls := "PennyArcade$Machine", name := "<init>", desc := "(I)V" } : Jvm.MethodName) prog_3_method_1_code (2 : Nat) (Option.none : Option Jvm.ClassFile.FieldType)) ∈ lw_all := lw_g (lw_at lw_m2 91 rfl) rfl
theorem q374 : (Jvm.Cond.methodLink "PennyArcade$Machine" (1 : Nat) ({ cls := "java/lang/Object", name := "<init>", desc := "()V" } : Jvm.MethodName)) ∈ lw_all := lw_g (lw_at lw_m2 92 rfl) rfl
theorem q381 : (Jvm.Cond.fieldLink "PennyArcade$Machine" (7 : Nat) "PennyArcade$Machine" "number" "I") ∈ lw_all := lw_g (lw_at lw_m2 99 rfl) rfl
theorem q397 : (Jvm.Cond.soleField "PennyArcade$Machine" "number") ∈ lw_all := lw_g (lw_at lw_m2 115 rfl) rfl
theorem q673 : (Jvm.Cond.declares ({ cls := "PennyArcade$Machine", name := "requirePlay", desc := "(II)V" } : Jvm.MethodName)) ∈ lw_tbl := lw_at lw_m3 151 rfl
theorem q674 : (Jvm.Cond.sameMethod "PennyArcade$Machine" "PennyArcade$Machine" "requirePlay" "(II)V") ∈ lw_all := lw_g (lw_at lw_m3 152 rfl) rfl
theorem q684 : (Jvm.Cond.declares ({ cls := "PennyArcade$Machine", name := "take", desc := "(LPennyArcade$Hall;II)I" } : Jvm.MethodName)) ∈ lw_tbl := lw_at lw_m3 162 rfl
theorem q685 : (Jvm.Cond.sameMethod "PennyArcade$Machine" "PennyArcade$Machine" "take" "(LPennyArcade$Hall;II)I") ∈ lw_all := lw_g (lw_at lw_m3 163 rfl) rfl
theorem q756 : (Jvm.Cond.declares ({ cls := "PennyArcade$Machine", name := "columnIn", desc := "(I)I" } : Jvm.MethodName)) ∈ lw_tbl := lw_at lw_m3 234 rfl
theorem q757 : (Jvm.Cond.sameMethod "PennyArcade$Machine" "PennyArcade$Machine" "columnIn" "(I)I") ∈ lw_all := lw_g (lw_at lw_m3 235 rfl) rfl
theorem q765 : (Jvm.Cond.declares ({ cls := "PennyArcade$Machine", name := "tiltAt", desc := "(I)I" } : Jvm.MethodName)) ∈ lw_tbl := lw_at lw_m4 3 rfl
theorem q766 : (Jvm.Cond.sameMethod "PennyArcade$Machine" "PennyArcade$Machine" "tiltAt" "(I)I") ∈ lw_all := lw_g (lw_at lw_m4 4 rfl) rfl

/-! PennyArcade$Table -/
set_option maxRecDepth 100000
def RX5 : String := "PennyArcade$Table"
def TX5 : u_T := fun k => match k with
  | 0 => ("PennyArcade$Machine", "number", "I", true)
  | 1 => ("PennyArcade$Table", "columns", "I", true)
  | 2 => ("PennyArcade$Table", "rows", "I", true)
  | 3 => ("PennyArcade$Table", "sides", "[I", true)
  | _ => ("PennyArcade$Table", "cups", "[I", true)
def tyX5 : Nat → FieldType := fun k => match k with
  | 0 => .int
  | 1 => .int
  | 2 => .int
  | 3 => .array .int
  | _ => .array .int
abbrev wsX50 : List Cond := u_ws RX5 TX5 5
theorem nmX5 : ∀ a, a < 5 → ∀ b, b < 5 → a ≠ b → (TX5 a).2.1 ≠ (TX5 b).2.1 := by decide +kernel
theorem tyX5_ok : ∀ k, k < 5 → parseFieldDescriptor (TX5 k).2.2.1 = some (tyX5 k) := by decide +kernel
abbrev cX5_told : ByteArray := prog_6_method_10_code
def yX5_told : MethodName := ⟨RX5, "told", "(I)I"⟩
def dkwX5_told_1 : List UInt8 := [3, 172]
abbrev dktX5_told_1 : List UInt8 := dkwX5_told_1 ++ []
def dkwX5_told_0 : List UInt8 := [27, 4, 160, 0, 10, 42, 180, 0, 7, 167, 0, 16, 27, 5, 160, 0, 10, 42, 180, 0, 13, 167, 0, 4]
abbrev dktX5_told_0 : List UInt8 := dkwX5_told_0 ++ dktX5_told_1
theorem dksX5_told_0 : cX5_told.data.toList.drop 0 = dktX5_told_0 := by decide +kernel
theorem dksX5_told_1 : cX5_told.data.toList.drop 24 = dktX5_told_1 := dk_seg dksX5_told_0 24 rfl rfl
theorem dX5_told_0 : decode cX5_told 0 = .ok (.iload_n 1, 1) := dk_27 (dk_at dksX5_told_0 0 rfl rfl)
theorem dX5_told_1 : decode cX5_told 1 = .ok (.iconst 1, 1) := dk_4 (dk_at dksX5_told_0 1 rfl rfl)
theorem dX5_told_2 : decode cX5_told 2 = .ok (.if_icmp .ne 10, 3) := dk_160 0 10 (dk_at dksX5_told_0 2 rfl rfl)
theorem dX5_told_5 : decode cX5_told 5 = .ok (.aload_n 0, 1) := dk_42 (dk_at dksX5_told_0 5 rfl rfl)
theorem dX5_told_6 : decode cX5_told 6 = .ok (.getfield 7, 3) := dk_180 0 7 (dk_at dksX5_told_0 6 rfl rfl)
theorem dX5_told_9 : decode cX5_told 9 = .ok (.goto 16, 3) := dk_167 0 16 (dk_at dksX5_told_0 9 rfl rfl)
theorem dX5_told_12 : decode cX5_told 12 = .ok (.iload_n 1, 1) := dk_27 (dk_at dksX5_told_0 12 rfl rfl)
theorem dX5_told_13 : decode cX5_told 13 = .ok (.iconst 2, 1) := dk_5 (dk_at dksX5_told_0 13 rfl rfl)
theorem dX5_told_14 : decode cX5_told 14 = .ok (.if_icmp .ne 10, 3) := dk_160 0 10 (dk_at dksX5_told_0 14 rfl rfl)
theorem dX5_told_17 : decode cX5_told 17 = .ok (.aload_n 0, 1) := dk_42 (dk_at dksX5_told_0 17 rfl rfl)
theorem dX5_told_18 : decode cX5_told 18 = .ok (.getfield 13, 3) := dk_180 0 13 (dk_at dksX5_told_0 18 rfl rfl)
theorem dX5_told_21 : decode cX5_told 21 = .ok (.goto 4, 3) := dk_167 0 4 (dk_at dksX5_told_0 21 rfl rfl)
theorem dX5_told_24 : decode cX5_told 24 = .ok (.iconst 0, 1) := dk_3 (dk_at dksX5_told_1 0 rfl rfl)
theorem dX5_told_25 : decode cX5_told 25 = .ok (.ireturn, 1) := dk_172 (dk_at dksX5_told_1 1 rfl rfl)
abbrev cX5_init : ByteArray := prog_6_method_1_code
def yX5_init : MethodName := ⟨RX5, "<init>", "(III)V"⟩
def dkwX5_init_1 : List UInt8 := [42, 28, 188, 10, 181, 0, 20, 177]
abbrev dktX5_init_1 : List UInt8 := dkwX5_init_1 ++ []
def dkwX5_init_0 : List UInt8 := [42, 27, 183, 0, 1, 42, 28, 181, 0, 7, 42, 29, 181, 0, 13, 42, 29, 28, 104, 188, 10, 181, 0, 16]
abbrev dktX5_init_0 : List UInt8 := dkwX5_init_0 ++ dktX5_init_1
theorem dksX5_init_0 : cX5_init.data.toList.drop 0 = dktX5_init_0 := by decide +kernel
theorem dksX5_init_1 : cX5_init.data.toList.drop 24 = dktX5_init_1 := dk_seg dksX5_init_0 24 rfl rfl
theorem dX5_init_0 : decode cX5_init 0 = .ok (.aload_n 0, 1) := dk_42 (dk_at dksX5_init_0 0 rfl rfl)
theorem dX5_init_1 : decode cX5_init 1 = .ok (.iload_n 1, 1) := dk_27 (dk_at dksX5_init_0 1 rfl rfl)
theorem dX5_init_2 : decode cX5_init 2 = .ok (.invokespecial 1, 3) := dk_183 0 1 (dk_at dksX5_init_0 2 rfl rfl)
theorem dX5_init_5 : decode cX5_init 5 = .ok (.aload_n 0, 1) := dk_42 (dk_at dksX5_init_0 5 rfl rfl)
theorem dX5_init_6 : decode cX5_init 6 = .ok (.iload_n 2, 1) := dk_28 (dk_at dksX5_init_0 6 rfl rfl)
theorem dX5_init_7 : decode cX5_init 7 = .ok (.putfield 7, 3) := dk_181 0 7 (dk_at dksX5_init_0 7 rfl rfl)
theorem dX5_init_10 : decode cX5_init 10 = .ok (.aload_n 0, 1) := dk_42 (dk_at dksX5_init_0 10 rfl rfl)
theorem dX5_init_11 : decode cX5_init 11 = .ok (.iload_n 3, 1) := dk_29 (dk_at dksX5_init_0 11 rfl rfl)
theorem dX5_init_12 : decode cX5_init 12 = .ok (.putfield 13, 3) := dk_181 0 13 (dk_at dksX5_init_0 12 rfl rfl)
theorem dX5_init_15 : decode cX5_init 15 = .ok (.aload_n 0, 1) := dk_42 (dk_at dksX5_init_0 15 rfl rfl)
theorem dX5_init_16 : decode cX5_init 16 = .ok (.iload_n 3, 1) := dk_29 (dk_at dksX5_init_0 16 rfl rfl)
theorem dX5_init_17 : decode cX5_init 17 = .ok (.iload_n 2, 1) := dk_28 (dk_at dksX5_init_0 17 rfl rfl)
theorem dX5_init_18 : decode cX5_init 18 = .ok (.imul, 1) := dk_104 (dk_at dksX5_init_0 18 rfl rfl)
theorem dX5_init_19 : decode cX5_init 19 = .ok (.newarray .int, 2) := dk_188_10 (dk_at dksX5_init_0 19 rfl rfl)
theorem dX5_init_21 : decode cX5_init 21 = .ok (.putfield 16, 3) := dk_181 0 16 (dk_at dksX5_init_0 21 rfl rfl)
theorem dX5_init_24 : decode cX5_init 24 = .ok (.aload_n 0, 1) := dk_42 (dk_at dksX5_init_1 0 rfl rfl)
theorem dX5_init_25 : decode cX5_init 25 = .ok (.iload_n 2, 1) := dk_28 (dk_at dksX5_init_1 1 rfl rfl)
theorem dX5_init_26 : decode cX5_init 26 = .ok (.newarray .int, 2) := dk_188_10 (dk_at dksX5_init_1 2 rfl rfl)
theorem dX5_init_28 : decode cX5_init 28 = .ok (.putfield 20, 3) := dk_181 0 20 (dk_at dksX5_init_1 4 rfl rfl)
theorem dX5_init_31 : decode cX5_init 31 = .ok (.return_, 1) := dk_177 (dk_at dksX5_init_1 7 rfl rfl)
abbrev cX5_pinAt : ByteArray := prog_6_method_4_code
def yX5_pinAt : MethodName := ⟨RX5, "pinAt", "(II)I"⟩
def dkwX5_pinAt_1 : List UInt8 := [172]
abbrev dktX5_pinAt_1 : List UInt8 := dkwX5_pinAt_1 ++ []
def dkwX5_pinAt_0 : List UInt8 := [3, 42, 180, 0, 13, 4, 100, 27, 184, 0, 23, 42, 28, 182, 0, 29, 42, 180, 0, 7, 27, 104, 28, 96]
abbrev dktX5_pinAt_0 : List UInt8 := dkwX5_pinAt_0 ++ dktX5_pinAt_1
theorem dksX5_pinAt_0 : cX5_pinAt.data.toList.drop 0 = dktX5_pinAt_0 := by decide +kernel
theorem dksX5_pinAt_1 : cX5_pinAt.data.toList.drop 24 = dktX5_pinAt_1 := dk_seg dksX5_pinAt_0 24 rfl rfl
theorem dX5_pinAt_0 : decode cX5_pinAt 0 = .ok (.iconst 0, 1) := dk_3 (dk_at dksX5_pinAt_0 0 rfl rfl)
theorem dX5_pinAt_1 : decode cX5_pinAt 1 = .ok (.aload_n 0, 1) := dk_42 (dk_at dksX5_pinAt_0 1 rfl rfl)
theorem dX5_pinAt_2 : decode cX5_pinAt 2 = .ok (.getfield 13, 3) := dk_180 0 13 (dk_at dksX5_pinAt_0 2 rfl rfl)
theorem dX5_pinAt_5 : decode cX5_pinAt 5 = .ok (.iconst 1, 1) := dk_4 (dk_at dksX5_pinAt_0 5 rfl rfl)
theorem dX5_pinAt_6 : decode cX5_pinAt 6 = .ok (.isub, 1) := dk_100 (dk_at dksX5_pinAt_0 6 rfl rfl)
theorem dX5_pinAt_7 : decode cX5_pinAt 7 = .ok (.iload_n 1, 1) := dk_27 (dk_at dksX5_pinAt_0 7 rfl rfl)
theorem dX5_pinAt_8 : decode cX5_pinAt 8 = .ok (.invokestatic 23, 3) := dk_184 0 23 (dk_at dksX5_pinAt_0 8 rfl rfl)
theorem dX5_pinAt_11 : decode cX5_pinAt 11 = .ok (.aload_n 0, 1) := dk_42 (dk_at dksX5_pinAt_0 11 rfl rfl)
theorem dX5_pinAt_12 : decode cX5_pinAt 12 = .ok (.iload_n 2, 1) := dk_28 (dk_at dksX5_pinAt_0 12 rfl rfl)
theorem dX5_pinAt_13 : decode cX5_pinAt 13 = .ok (.invokevirtual 29, 3) := dk_182 0 29 (dk_at dksX5_pinAt_0 13 rfl rfl)
theorem dX5_pinAt_16 : decode cX5_pinAt 16 = .ok (.aload_n 0, 1) := dk_42 (dk_at dksX5_pinAt_0 16 rfl rfl)
theorem dX5_pinAt_17 : decode cX5_pinAt 17 = .ok (.getfield 7, 3) := dk_180 0 7 (dk_at dksX5_pinAt_0 17 rfl rfl)
theorem dX5_pinAt_20 : decode cX5_pinAt 20 = .ok (.iload_n 1, 1) := dk_27 (dk_at dksX5_pinAt_0 20 rfl rfl)
theorem dX5_pinAt_21 : decode cX5_pinAt 21 = .ok (.imul, 1) := dk_104 (dk_at dksX5_pinAt_0 21 rfl rfl)
theorem dX5_pinAt_22 : decode cX5_pinAt 22 = .ok (.iload_n 2, 1) := dk_28 (dk_at dksX5_pinAt_0 22 rfl rfl)
theorem dX5_pinAt_23 : decode cX5_pinAt 23 = .ok (.iadd, 1) := dk_96 (dk_at dksX5_pinAt_0 23 rfl rfl)
theorem dX5_pinAt_24 : decode cX5_pinAt 24 = .ok (.ireturn, 1) := dk_172 (dk_at dksX5_pinAt_1 0 rfl rfl)
abbrev cX5_requireColumn : ByteArray := prog_6_method_2_code
def yX5_requireColumn : MethodName := ⟨RX5, "requireColumn", "(I)V"⟩
def dkwX5_requireColumn_0 : List UInt8 := [3, 42, 180, 0, 7, 4, 100, 27, 184, 0, 23, 177]
abbrev dktX5_requireColumn_0 : List UInt8 := dkwX5_requireColumn_0 ++ []
theorem dksX5_requireColumn_0 : cX5_requireColumn.data.toList.drop 0 = dktX5_requireColumn_0 := by decide +kernel
theorem dX5_requireColumn_0 : decode cX5_requireColumn 0 = .ok (.iconst 0, 1) := dk_3 (dk_at dksX5_requireColumn_0 0 rfl rfl)
theorem dX5_requireColumn_1 : decode cX5_requireColumn 1 = .ok (.aload_n 0, 1) := dk_42 (dk_at dksX5_requireColumn_0 1 rfl rfl)
theorem dX5_requireColumn_2 : decode cX5_requireColumn 2 = .ok (.getfield 7, 3) := dk_180 0 7 (dk_at dksX5_requireColumn_0 2 rfl rfl)
theorem dX5_requireColumn_5 : decode cX5_requireColumn 5 = .ok (.iconst 1, 1) := dk_4 (dk_at dksX5_requireColumn_0 5 rfl rfl)
theorem dX5_requireColumn_6 : decode cX5_requireColumn 6 = .ok (.isub, 1) := dk_100 (dk_at dksX5_requireColumn_0 6 rfl rfl)
theorem dX5_requireColumn_7 : decode cX5_requireColumn 7 = .ok (.iload_n 1, 1) := dk_27 (dk_at dksX5_requireColumn_0 7 rfl rfl)
theorem dX5_requireColumn_8 : decode cX5_requireColumn 8 = .ok (.invokestatic 23, 3) := dk_184 0 23 (dk_at dksX5_requireColumn_0 8 rfl rfl)
theorem dX5_requireColumn_11 : decode cX5_requireColumn 11 = .ok (.return_, 1) := dk_177 (dk_at dksX5_requireColumn_0 11 rfl rfl)
abbrev cX5_requirePlay : ByteArray := prog_6_method_3_code
def yX5_requirePlay : MethodName := ⟨RX5, "requirePlay", "(II)V"⟩
def dkwX5_requirePlay_0 : List UInt8 := [42, 27, 182, 0, 29, 2, 4, 28, 184, 0, 23, 177]
abbrev dktX5_requirePlay_0 : List UInt8 := dkwX5_requirePlay_0 ++ []
theorem dksX5_requirePlay_0 : cX5_requirePlay.data.toList.drop 0 = dktX5_requirePlay_0 := by decide +kernel
theorem dX5_requirePlay_0 : decode cX5_requirePlay 0 = .ok (.aload_n 0, 1) := dk_42 (dk_at dksX5_requirePlay_0 0 rfl rfl)
theorem dX5_requirePlay_1 : decode cX5_requirePlay 1 = .ok (.iload_n 1, 1) := dk_27 (dk_at dksX5_requirePlay_0 1 rfl rfl)
theorem dX5_requirePlay_2 : decode cX5_requirePlay 2 = .ok (.invokevirtual 29, 3) := dk_182 0 29 (dk_at dksX5_requirePlay_0 2 rfl rfl)
theorem dX5_requirePlay_5 : decode cX5_requirePlay 5 = .ok (.iconst (-1), 1) := dk_2 (dk_at dksX5_requirePlay_0 5 rfl rfl)
theorem dX5_requirePlay_6 : decode cX5_requirePlay 6 = .ok (.iconst 1, 1) := dk_4 (dk_at dksX5_requirePlay_0 6 rfl rfl)
theorem dX5_requirePlay_7 : decode cX5_requirePlay 7 = .ok (.iload_n 2, 1) := dk_28 (dk_at dksX5_requirePlay_0 7 rfl rfl)
theorem dX5_requirePlay_8 : decode cX5_requirePlay 8 = .ok (.invokestatic 23, 3) := dk_184 0 23 (dk_at dksX5_requirePlay_0 8 rfl rfl)
theorem dX5_requirePlay_11 : decode cX5_requirePlay 11 = .ok (.return_, 1) := dk_177 (dk_at dksX5_requirePlay_0 11 rfl rfl)
abbrev cX5_ends : ByteArray := prog_6_method_5_code
def yX5_ends : MethodName := ⟨RX5, "ends", "(II)I"⟩
def dkwX5_ends_3 : List UInt8 := [172]
abbrev dktX5_ends_3 : List UInt8 := dkwX5_ends_3 ++ []
def dkwX5_ends_2 : List UInt8 := [42, 180, 0, 7, 4, 100, 29, 21, 5, 96, 184, 0, 32, 184, 0, 38, 62, 132, 4, 1, 167, 255, 193, 29]
abbrev dktX5_ends_2 : List UInt8 := dkwX5_ends_2 ++ dktX5_ends_3
def dkwX5_ends_1 : List UInt8 := [104, 29, 96, 46, 54, 5, 21, 5, 154, 0, 15, 21, 4, 29, 96, 5, 112, 154, 0, 6, 28, 54, 5, 3]
abbrev dktX5_ends_1 : List UInt8 := dkwX5_ends_1 ++ dktX5_ends_2
def dkwX5_ends_0 : List UInt8 := [27, 62, 3, 54, 4, 21, 4, 42, 180, 0, 13, 162, 0, 60, 42, 180, 0, 16, 42, 180, 0, 7, 21, 4]
abbrev dktX5_ends_0 : List UInt8 := dkwX5_ends_0 ++ dktX5_ends_1
theorem dksX5_ends_0 : cX5_ends.data.toList.drop 0 = dktX5_ends_0 := by decide +kernel
theorem dksX5_ends_1 : cX5_ends.data.toList.drop 24 = dktX5_ends_1 := dk_seg dksX5_ends_0 24 rfl rfl
theorem dksX5_ends_2 : cX5_ends.data.toList.drop 48 = dktX5_ends_2 := dk_seg dksX5_ends_1 24 rfl rfl
theorem dksX5_ends_3 : cX5_ends.data.toList.drop 72 = dktX5_ends_3 := dk_seg dksX5_ends_2 24 rfl rfl
theorem dX5_ends_0 : decode cX5_ends 0 = .ok (.iload_n 1, 1) := dk_27 (dk_at dksX5_ends_0 0 rfl rfl)
theorem dX5_ends_1 : decode cX5_ends 1 = .ok (.istore_n 3, 1) := dk_62 (dk_at dksX5_ends_0 1 rfl rfl)
theorem dX5_ends_2 : decode cX5_ends 2 = .ok (.iconst 0, 1) := dk_3 (dk_at dksX5_ends_0 2 rfl rfl)
theorem dX5_ends_3 : decode cX5_ends 3 = .ok (.istore 4, 2) := dk_54 4 (dk_at dksX5_ends_0 3 rfl rfl)
theorem dX5_ends_5 : decode cX5_ends 5 = .ok (.iload 4, 2) := dk_21 4 (dk_at dksX5_ends_0 5 rfl rfl)
theorem dX5_ends_7 : decode cX5_ends 7 = .ok (.aload_n 0, 1) := dk_42 (dk_at dksX5_ends_0 7 rfl rfl)
theorem dX5_ends_8 : decode cX5_ends 8 = .ok (.getfield 13, 3) := dk_180 0 13 (dk_at dksX5_ends_0 8 rfl rfl)
theorem dX5_ends_11 : decode cX5_ends 11 = .ok (.if_icmp .ge 60, 3) := dk_162 0 60 (dk_at dksX5_ends_0 11 rfl rfl)
theorem dX5_ends_14 : decode cX5_ends 14 = .ok (.aload_n 0, 1) := dk_42 (dk_at dksX5_ends_0 14 rfl rfl)
theorem dX5_ends_15 : decode cX5_ends 15 = .ok (.getfield 16, 3) := dk_180 0 16 (dk_at dksX5_ends_0 15 rfl rfl)
theorem dX5_ends_18 : decode cX5_ends 18 = .ok (.aload_n 0, 1) := dk_42 (dk_at dksX5_ends_0 18 rfl rfl)
theorem dX5_ends_19 : decode cX5_ends 19 = .ok (.getfield 7, 3) := dk_180 0 7 (dk_at dksX5_ends_0 19 rfl rfl)
theorem dX5_ends_22 : decode cX5_ends 22 = .ok (.iload 4, 2) := dk_21 4 (dk_at dksX5_ends_0 22 rfl rfl)
theorem dX5_ends_24 : decode cX5_ends 24 = .ok (.imul, 1) := dk_104 (dk_at dksX5_ends_1 0 rfl rfl)
theorem dX5_ends_25 : decode cX5_ends 25 = .ok (.iload_n 3, 1) := dk_29 (dk_at dksX5_ends_1 1 rfl rfl)
theorem dX5_ends_26 : decode cX5_ends 26 = .ok (.iadd, 1) := dk_96 (dk_at dksX5_ends_1 2 rfl rfl)
theorem dX5_ends_27 : decode cX5_ends 27 = .ok (.iaload, 1) := dk_46 (dk_at dksX5_ends_1 3 rfl rfl)
theorem dX5_ends_28 : decode cX5_ends 28 = .ok (.istore 5, 2) := dk_54 5 (dk_at dksX5_ends_1 4 rfl rfl)
theorem dX5_ends_30 : decode cX5_ends 30 = .ok (.iload 5, 2) := dk_21 5 (dk_at dksX5_ends_1 6 rfl rfl)
theorem dX5_ends_32 : decode cX5_ends 32 = .ok (.ifCond .ne 15, 3) := dk_154 0 15 (dk_at dksX5_ends_1 8 rfl rfl)
theorem dX5_ends_35 : decode cX5_ends 35 = .ok (.iload 4, 2) := dk_21 4 (dk_at dksX5_ends_1 11 rfl rfl)
theorem dX5_ends_37 : decode cX5_ends 37 = .ok (.iload_n 3, 1) := dk_29 (dk_at dksX5_ends_1 13 rfl rfl)
theorem dX5_ends_38 : decode cX5_ends 38 = .ok (.iadd, 1) := dk_96 (dk_at dksX5_ends_1 14 rfl rfl)
theorem dX5_ends_39 : decode cX5_ends 39 = .ok (.iconst 2, 1) := dk_5 (dk_at dksX5_ends_1 15 rfl rfl)
theorem dX5_ends_40 : decode cX5_ends 40 = .ok (.irem, 1) := dk_112 (dk_at dksX5_ends_1 16 rfl rfl)
theorem dX5_ends_41 : decode cX5_ends 41 = .ok (.ifCond .ne 6, 3) := dk_154 0 6 (dk_at dksX5_ends_1 17 rfl rfl)
theorem dX5_ends_44 : decode cX5_ends 44 = .ok (.iload_n 2, 1) := dk_28 (dk_at dksX5_ends_1 20 rfl rfl)
theorem dX5_ends_45 : decode cX5_ends 45 = .ok (.istore 5, 2) := dk_54 5 (dk_at dksX5_ends_1 21 rfl rfl)
theorem dX5_ends_47 : decode cX5_ends 47 = .ok (.iconst 0, 1) := dk_3 (dk_at dksX5_ends_1 23 rfl rfl)
theorem dX5_ends_48 : decode cX5_ends 48 = .ok (.aload_n 0, 1) := dk_42 (dk_at dksX5_ends_2 0 rfl rfl)
theorem dX5_ends_49 : decode cX5_ends 49 = .ok (.getfield 7, 3) := dk_180 0 7 (dk_at dksX5_ends_2 1 rfl rfl)
theorem dX5_ends_52 : decode cX5_ends 52 = .ok (.iconst 1, 1) := dk_4 (dk_at dksX5_ends_2 4 rfl rfl)
theorem dX5_ends_53 : decode cX5_ends 53 = .ok (.isub, 1) := dk_100 (dk_at dksX5_ends_2 5 rfl rfl)
theorem dX5_ends_54 : decode cX5_ends 54 = .ok (.iload_n 3, 1) := dk_29 (dk_at dksX5_ends_2 6 rfl rfl)
theorem dX5_ends_55 : decode cX5_ends 55 = .ok (.iload 5, 2) := dk_21 5 (dk_at dksX5_ends_2 7 rfl rfl)
theorem dX5_ends_57 : decode cX5_ends 57 = .ok (.iadd, 1) := dk_96 (dk_at dksX5_ends_2 9 rfl rfl)
theorem dX5_ends_58 : decode cX5_ends 58 = .ok (.invokestatic 32, 3) := dk_184 0 32 (dk_at dksX5_ends_2 10 rfl rfl)
theorem dX5_ends_61 : decode cX5_ends 61 = .ok (.invokestatic 38, 3) := dk_184 0 38 (dk_at dksX5_ends_2 13 rfl rfl)
theorem dX5_ends_64 : decode cX5_ends 64 = .ok (.istore_n 3, 1) := dk_62 (dk_at dksX5_ends_2 16 rfl rfl)
theorem dX5_ends_65 : decode cX5_ends 65 = .ok (.iinc 4 1, 3) := dk_132 4 1 (dk_at dksX5_ends_2 17 rfl rfl)
theorem dX5_ends_68 : decode cX5_ends 68 = .ok (.goto (-63), 3) := dk_167 255 193 (dk_at dksX5_ends_2 20 rfl rfl)
theorem dX5_ends_71 : decode cX5_ends 71 = .ok (.iload_n 3, 1) := dk_29 (dk_at dksX5_ends_2 23 rfl rfl)
theorem dX5_ends_72 : decode cX5_ends 72 = .ok (.ireturn, 1) := dk_172 (dk_at dksX5_ends_3 0 rfl rfl)
abbrev cX5_tiltAt : ByteArray := prog_6_method_6_code
def yX5_tiltAt : MethodName := ⟨RX5, "tiltAt", "(I)I"⟩
def dkwX5_tiltAt_1 : List UInt8 := [42, 27, 28, 182, 0, 41, 46, 164, 0, 7, 29, 167, 0, 4, 28, 61, 132, 3, 1, 167, 255, 217, 28, 172]
abbrev dktX5_tiltAt_1 : List UInt8 := dkwX5_tiltAt_1 ++ []
def dkwX5_tiltAt_0 : List UInt8 := [2, 61, 3, 62, 29, 4, 163, 0, 40, 42, 180, 0, 20, 42, 27, 29, 182, 0, 41, 46, 42, 180, 0, 20]
abbrev dktX5_tiltAt_0 : List UInt8 := dkwX5_tiltAt_0 ++ dktX5_tiltAt_1
theorem dksX5_tiltAt_0 : cX5_tiltAt.data.toList.drop 0 = dktX5_tiltAt_0 := by decide +kernel
theorem dksX5_tiltAt_1 : cX5_tiltAt.data.toList.drop 24 = dktX5_tiltAt_1 := dk_seg dksX5_tiltAt_0 24 rfl rfl
theorem dX5_tiltAt_0 : decode cX5_tiltAt 0 = .ok (.iconst (-1), 1) := dk_2 (dk_at dksX5_tiltAt_0 0 rfl rfl)
theorem dX5_tiltAt_1 : decode cX5_tiltAt 1 = .ok (.istore_n 2, 1) := dk_61 (dk_at dksX5_tiltAt_0 1 rfl rfl)
theorem dX5_tiltAt_2 : decode cX5_tiltAt 2 = .ok (.iconst 0, 1) := dk_3 (dk_at dksX5_tiltAt_0 2 rfl rfl)
theorem dX5_tiltAt_3 : decode cX5_tiltAt 3 = .ok (.istore_n 3, 1) := dk_62 (dk_at dksX5_tiltAt_0 3 rfl rfl)
theorem dX5_tiltAt_4 : decode cX5_tiltAt 4 = .ok (.iload_n 3, 1) := dk_29 (dk_at dksX5_tiltAt_0 4 rfl rfl)
theorem dX5_tiltAt_5 : decode cX5_tiltAt 5 = .ok (.iconst 1, 1) := dk_4 (dk_at dksX5_tiltAt_0 5 rfl rfl)
theorem dX5_tiltAt_6 : decode cX5_tiltAt 6 = .ok (.if_icmp .gt 40, 3) := dk_163 0 40 (dk_at dksX5_tiltAt_0 6 rfl rfl)
theorem dX5_tiltAt_9 : decode cX5_tiltAt 9 = .ok (.aload_n 0, 1) := dk_42 (dk_at dksX5_tiltAt_0 9 rfl rfl)
theorem dX5_tiltAt_10 : decode cX5_tiltAt 10 = .ok (.getfield 20, 3) := dk_180 0 20 (dk_at dksX5_tiltAt_0 10 rfl rfl)
theorem dX5_tiltAt_13 : decode cX5_tiltAt 13 = .ok (.aload_n 0, 1) := dk_42 (dk_at dksX5_tiltAt_0 13 rfl rfl)
theorem dX5_tiltAt_14 : decode cX5_tiltAt 14 = .ok (.iload_n 1, 1) := dk_27 (dk_at dksX5_tiltAt_0 14 rfl rfl)
theorem dX5_tiltAt_15 : decode cX5_tiltAt 15 = .ok (.iload_n 3, 1) := dk_29 (dk_at dksX5_tiltAt_0 15 rfl rfl)
theorem dX5_tiltAt_16 : decode cX5_tiltAt 16 = .ok (.invokevirtual 41, 3) := dk_182 0 41 (dk_at dksX5_tiltAt_0 16 rfl rfl)
theorem dX5_tiltAt_19 : decode cX5_tiltAt 19 = .ok (.iaload, 1) := dk_46 (dk_at dksX5_tiltAt_0 19 rfl rfl)
theorem dX5_tiltAt_20 : decode cX5_tiltAt 20 = .ok (.aload_n 0, 1) := dk_42 (dk_at dksX5_tiltAt_0 20 rfl rfl)
theorem dX5_tiltAt_21 : decode cX5_tiltAt 21 = .ok (.getfield 20, 3) := dk_180 0 20 (dk_at dksX5_tiltAt_0 21 rfl rfl)
theorem dX5_tiltAt_24 : decode cX5_tiltAt 24 = .ok (.aload_n 0, 1) := dk_42 (dk_at dksX5_tiltAt_1 0 rfl rfl)
theorem dX5_tiltAt_25 : decode cX5_tiltAt 25 = .ok (.iload_n 1, 1) := dk_27 (dk_at dksX5_tiltAt_1 1 rfl rfl)
theorem dX5_tiltAt_26 : decode cX5_tiltAt 26 = .ok (.iload_n 2, 1) := dk_28 (dk_at dksX5_tiltAt_1 2 rfl rfl)
theorem dX5_tiltAt_27 : decode cX5_tiltAt 27 = .ok (.invokevirtual 41, 3) := dk_182 0 41 (dk_at dksX5_tiltAt_1 3 rfl rfl)
theorem dX5_tiltAt_30 : decode cX5_tiltAt 30 = .ok (.iaload, 1) := dk_46 (dk_at dksX5_tiltAt_1 6 rfl rfl)
theorem dX5_tiltAt_31 : decode cX5_tiltAt 31 = .ok (.if_icmp .le 7, 3) := dk_164 0 7 (dk_at dksX5_tiltAt_1 7 rfl rfl)
theorem dX5_tiltAt_34 : decode cX5_tiltAt 34 = .ok (.iload_n 3, 1) := dk_29 (dk_at dksX5_tiltAt_1 10 rfl rfl)
theorem dX5_tiltAt_35 : decode cX5_tiltAt 35 = .ok (.goto 4, 3) := dk_167 0 4 (dk_at dksX5_tiltAt_1 11 rfl rfl)
theorem dX5_tiltAt_38 : decode cX5_tiltAt 38 = .ok (.iload_n 2, 1) := dk_28 (dk_at dksX5_tiltAt_1 14 rfl rfl)
theorem dX5_tiltAt_39 : decode cX5_tiltAt 39 = .ok (.istore_n 2, 1) := dk_61 (dk_at dksX5_tiltAt_1 15 rfl rfl)
theorem dX5_tiltAt_40 : decode cX5_tiltAt 40 = .ok (.iinc 3 1, 3) := dk_132 3 1 (dk_at dksX5_tiltAt_1 16 rfl rfl)
theorem dX5_tiltAt_43 : decode cX5_tiltAt 43 = .ok (.goto (-39), 3) := dk_167 255 217 (dk_at dksX5_tiltAt_1 19 rfl rfl)
theorem dX5_tiltAt_46 : decode cX5_tiltAt 46 = .ok (.iload_n 2, 1) := dk_28 (dk_at dksX5_tiltAt_1 22 rfl rfl)
theorem dX5_tiltAt_47 : decode cX5_tiltAt 47 = .ok (.ireturn, 1) := dk_172 (dk_at dksX5_tiltAt_1 23 rfl rfl)
abbrev cX5_dead : ByteArray := prog_6_method_7_code
def yX5_dead : MethodName := ⟨RX5, "dead", "()I"⟩
def dkwX5_dead_2 : List UInt8 := [184, 0, 44, 100, 172]
abbrev dktX5_dead_2 : List UInt8 := dkwX5_dead_2 ++ []
def dkwX5_dead_1 : List UInt8 := [182, 0, 41, 120, 128, 60, 132, 3, 1, 167, 255, 237, 132, 2, 1, 167, 255, 221, 42, 180, 0, 7, 27]
abbrev dktX5_dead_1 : List UInt8 := dkwX5_dead_1 ++ dktX5_dead_2
def dkwX5_dead_0 : List UInt8 := [3, 60, 3, 61, 28, 42, 180, 0, 7, 162, 0, 33, 2, 62, 29, 4, 163, 0, 20, 27, 4, 42, 28, 29]
abbrev dktX5_dead_0 : List UInt8 := dkwX5_dead_0 ++ dktX5_dead_1
theorem dksX5_dead_0 : cX5_dead.data.toList.drop 0 = dktX5_dead_0 := by decide +kernel
theorem dksX5_dead_1 : cX5_dead.data.toList.drop 24 = dktX5_dead_1 := dk_seg dksX5_dead_0 24 rfl rfl
theorem dksX5_dead_2 : cX5_dead.data.toList.drop 47 = dktX5_dead_2 := dk_seg dksX5_dead_1 23 rfl rfl
theorem dX5_dead_0 : decode cX5_dead 0 = .ok (.iconst 0, 1) := dk_3 (dk_at dksX5_dead_0 0 rfl rfl)
theorem dX5_dead_1 : decode cX5_dead 1 = .ok (.istore_n 1, 1) := dk_60 (dk_at dksX5_dead_0 1 rfl rfl)
theorem dX5_dead_2 : decode cX5_dead 2 = .ok (.iconst 0, 1) := dk_3 (dk_at dksX5_dead_0 2 rfl rfl)
theorem dX5_dead_3 : decode cX5_dead 3 = .ok (.istore_n 2, 1) := dk_61 (dk_at dksX5_dead_0 3 rfl rfl)
theorem dX5_dead_4 : decode cX5_dead 4 = .ok (.iload_n 2, 1) := dk_28 (dk_at dksX5_dead_0 4 rfl rfl)
theorem dX5_dead_5 : decode cX5_dead 5 = .ok (.aload_n 0, 1) := dk_42 (dk_at dksX5_dead_0 5 rfl rfl)
theorem dX5_dead_6 : decode cX5_dead 6 = .ok (.getfield 7, 3) := dk_180 0 7 (dk_at dksX5_dead_0 6 rfl rfl)
theorem dX5_dead_9 : decode cX5_dead 9 = .ok (.if_icmp .ge 33, 3) := dk_162 0 33 (dk_at dksX5_dead_0 9 rfl rfl)
theorem dX5_dead_12 : decode cX5_dead 12 = .ok (.iconst (-1), 1) := dk_2 (dk_at dksX5_dead_0 12 rfl rfl)
theorem dX5_dead_13 : decode cX5_dead 13 = .ok (.istore_n 3, 1) := dk_62 (dk_at dksX5_dead_0 13 rfl rfl)
theorem dX5_dead_14 : decode cX5_dead 14 = .ok (.iload_n 3, 1) := dk_29 (dk_at dksX5_dead_0 14 rfl rfl)
theorem dX5_dead_15 : decode cX5_dead 15 = .ok (.iconst 1, 1) := dk_4 (dk_at dksX5_dead_0 15 rfl rfl)
theorem dX5_dead_16 : decode cX5_dead 16 = .ok (.if_icmp .gt 20, 3) := dk_163 0 20 (dk_at dksX5_dead_0 16 rfl rfl)
theorem dX5_dead_19 : decode cX5_dead 19 = .ok (.iload_n 1, 1) := dk_27 (dk_at dksX5_dead_0 19 rfl rfl)
theorem dX5_dead_20 : decode cX5_dead 20 = .ok (.iconst 1, 1) := dk_4 (dk_at dksX5_dead_0 20 rfl rfl)
theorem dX5_dead_21 : decode cX5_dead 21 = .ok (.aload_n 0, 1) := dk_42 (dk_at dksX5_dead_0 21 rfl rfl)
theorem dX5_dead_22 : decode cX5_dead 22 = .ok (.iload_n 2, 1) := dk_28 (dk_at dksX5_dead_0 22 rfl rfl)
theorem dX5_dead_23 : decode cX5_dead 23 = .ok (.iload_n 3, 1) := dk_29 (dk_at dksX5_dead_0 23 rfl rfl)
theorem dX5_dead_24 : decode cX5_dead 24 = .ok (.invokevirtual 41, 3) := dk_182 0 41 (dk_at dksX5_dead_1 0 rfl rfl)
theorem dX5_dead_27 : decode cX5_dead 27 = .ok (.ishl, 1) := dk_120 (dk_at dksX5_dead_1 3 rfl rfl)
theorem dX5_dead_28 : decode cX5_dead 28 = .ok (.ior, 1) := dk_128 (dk_at dksX5_dead_1 4 rfl rfl)
theorem dX5_dead_29 : decode cX5_dead 29 = .ok (.istore_n 1, 1) := dk_60 (dk_at dksX5_dead_1 5 rfl rfl)
theorem dX5_dead_30 : decode cX5_dead 30 = .ok (.iinc 3 1, 3) := dk_132 3 1 (dk_at dksX5_dead_1 6 rfl rfl)
theorem dX5_dead_33 : decode cX5_dead 33 = .ok (.goto (-19), 3) := dk_167 255 237 (dk_at dksX5_dead_1 9 rfl rfl)
theorem dX5_dead_36 : decode cX5_dead 36 = .ok (.iinc 2 1, 3) := dk_132 2 1 (dk_at dksX5_dead_1 12 rfl rfl)
theorem dX5_dead_39 : decode cX5_dead 39 = .ok (.goto (-35), 3) := dk_167 255 221 (dk_at dksX5_dead_1 15 rfl rfl)
theorem dX5_dead_42 : decode cX5_dead 42 = .ok (.aload_n 0, 1) := dk_42 (dk_at dksX5_dead_1 18 rfl rfl)
theorem dX5_dead_43 : decode cX5_dead 43 = .ok (.getfield 7, 3) := dk_180 0 7 (dk_at dksX5_dead_1 19 rfl rfl)
theorem dX5_dead_46 : decode cX5_dead 46 = .ok (.iload_n 1, 1) := dk_27 (dk_at dksX5_dead_1 22 rfl rfl)
theorem dX5_dead_47 : decode cX5_dead 47 = .ok (.invokestatic 44, 3) := dk_184 0 44 (dk_at dksX5_dead_2 0 rfl rfl)
theorem dX5_dead_50 : decode cX5_dead 50 = .ok (.isub, 1) := dk_100 (dk_at dksX5_dead_2 3 rfl rfl)
theorem dX5_dead_51 : decode cX5_dead 51 = .ok (.ireturn, 1) := dk_172 (dk_at dksX5_dead_2 4 rfl rfl)
abbrev cX5_take : ByteArray := prog_6_method_9_code
def yX5_take : MethodName := ⟨RX5, "take", "(LPennyArcade$Hall;II)I"⟩
def dkwX5_take_2 : List UInt8 := [46, 21, 4, 100, 79, 21, 4, 172]
abbrev dktX5_take_2 : List UInt8 := dkwX5_take_2 ++ []
def dkwX5_take_1 : List UInt8 := [180, 0, 20, 42, 28, 29, 182, 0, 41, 46, 184, 0, 32, 54, 4, 43, 180, 0, 50, 42, 180, 0, 55, 92]
abbrev dktX5_take_1 : List UInt8 := dkwX5_take_1 ++ dktX5_take_2
def dkwX5_take_0 : List UInt8 := [43, 180, 0, 50, 42, 180, 0, 55, 92, 46, 4, 96, 79, 43, 180, 0, 50, 42, 180, 0, 55, 46, 42]
abbrev dktX5_take_0 : List UInt8 := dkwX5_take_0 ++ dktX5_take_1
theorem dksX5_take_0 : cX5_take.data.toList.drop 0 = dktX5_take_0 := by decide +kernel
theorem dksX5_take_1 : cX5_take.data.toList.drop 23 = dktX5_take_1 := dk_seg dksX5_take_0 23 rfl rfl
theorem dksX5_take_2 : cX5_take.data.toList.drop 47 = dktX5_take_2 := dk_seg dksX5_take_1 24 rfl rfl
theorem dX5_take_0 : decode cX5_take 0 = .ok (.aload_n 1, 1) := dk_43 (dk_at dksX5_take_0 0 rfl rfl)
theorem dX5_take_1 : decode cX5_take 1 = .ok (.getfield 50, 3) := dk_180 0 50 (dk_at dksX5_take_0 1 rfl rfl)
theorem dX5_take_4 : decode cX5_take 4 = .ok (.aload_n 0, 1) := dk_42 (dk_at dksX5_take_0 4 rfl rfl)
theorem dX5_take_5 : decode cX5_take 5 = .ok (.getfield 55, 3) := dk_180 0 55 (dk_at dksX5_take_0 5 rfl rfl)
theorem dX5_take_8 : decode cX5_take 8 = .ok (.dup2, 1) := dk_92 (dk_at dksX5_take_0 8 rfl rfl)
theorem dX5_take_9 : decode cX5_take 9 = .ok (.iaload, 1) := dk_46 (dk_at dksX5_take_0 9 rfl rfl)
theorem dX5_take_10 : decode cX5_take 10 = .ok (.iconst 1, 1) := dk_4 (dk_at dksX5_take_0 10 rfl rfl)
theorem dX5_take_11 : decode cX5_take 11 = .ok (.iadd, 1) := dk_96 (dk_at dksX5_take_0 11 rfl rfl)
theorem dX5_take_12 : decode cX5_take 12 = .ok (.iastore, 1) := dk_79 (dk_at dksX5_take_0 12 rfl rfl)
theorem dX5_take_13 : decode cX5_take 13 = .ok (.aload_n 1, 1) := dk_43 (dk_at dksX5_take_0 13 rfl rfl)
theorem dX5_take_14 : decode cX5_take 14 = .ok (.getfield 50, 3) := dk_180 0 50 (dk_at dksX5_take_0 14 rfl rfl)
theorem dX5_take_17 : decode cX5_take 17 = .ok (.aload_n 0, 1) := dk_42 (dk_at dksX5_take_0 17 rfl rfl)
theorem dX5_take_18 : decode cX5_take 18 = .ok (.getfield 55, 3) := dk_180 0 55 (dk_at dksX5_take_0 18 rfl rfl)
theorem dX5_take_21 : decode cX5_take 21 = .ok (.iaload, 1) := dk_46 (dk_at dksX5_take_0 21 rfl rfl)
theorem dX5_take_22 : decode cX5_take 22 = .ok (.aload_n 0, 1) := dk_42 (dk_at dksX5_take_0 22 rfl rfl)
theorem dX5_take_23 : decode cX5_take 23 = .ok (.getfield 20, 3) := dk_180 0 20 (dk_at dksX5_take_1 0 rfl rfl)
theorem dX5_take_26 : decode cX5_take 26 = .ok (.aload_n 0, 1) := dk_42 (dk_at dksX5_take_1 3 rfl rfl)
theorem dX5_take_27 : decode cX5_take 27 = .ok (.iload_n 2, 1) := dk_28 (dk_at dksX5_take_1 4 rfl rfl)
theorem dX5_take_28 : decode cX5_take 28 = .ok (.iload_n 3, 1) := dk_29 (dk_at dksX5_take_1 5 rfl rfl)
theorem dX5_take_29 : decode cX5_take 29 = .ok (.invokevirtual 41, 3) := dk_182 0 41 (dk_at dksX5_take_1 6 rfl rfl)
theorem dX5_take_32 : decode cX5_take 32 = .ok (.iaload, 1) := dk_46 (dk_at dksX5_take_1 9 rfl rfl)
theorem dX5_take_33 : decode cX5_take 33 = .ok (.invokestatic 32, 3) := dk_184 0 32 (dk_at dksX5_take_1 10 rfl rfl)
theorem dX5_take_36 : decode cX5_take 36 = .ok (.istore 4, 2) := dk_54 4 (dk_at dksX5_take_1 13 rfl rfl)
theorem dX5_take_38 : decode cX5_take 38 = .ok (.aload_n 1, 1) := dk_43 (dk_at dksX5_take_1 15 rfl rfl)
theorem dX5_take_39 : decode cX5_take 39 = .ok (.getfield 50, 3) := dk_180 0 50 (dk_at dksX5_take_1 16 rfl rfl)
theorem dX5_take_42 : decode cX5_take 42 = .ok (.aload_n 0, 1) := dk_42 (dk_at dksX5_take_1 19 rfl rfl)
theorem dX5_take_43 : decode cX5_take 43 = .ok (.getfield 55, 3) := dk_180 0 55 (dk_at dksX5_take_1 20 rfl rfl)
theorem dX5_take_46 : decode cX5_take 46 = .ok (.dup2, 1) := dk_92 (dk_at dksX5_take_1 23 rfl rfl)
theorem dX5_take_47 : decode cX5_take 47 = .ok (.iaload, 1) := dk_46 (dk_at dksX5_take_2 0 rfl rfl)
theorem dX5_take_48 : decode cX5_take 48 = .ok (.iload 4, 2) := dk_21 4 (dk_at dksX5_take_2 1 rfl rfl)
theorem dX5_take_50 : decode cX5_take 50 = .ok (.isub, 1) := dk_100 (dk_at dksX5_take_2 3 rfl rfl)
theorem dX5_take_51 : decode cX5_take 51 = .ok (.iastore, 1) := dk_79 (dk_at dksX5_take_2 4 rfl rfl)
theorem dX5_take_52 : decode cX5_take 52 = .ok (.iload 4, 2) := dk_21 4 (dk_at dksX5_take_2 5 rfl rfl)
theorem dX5_take_54 : decode cX5_take 54 = .ok (.ireturn, 1) := dk_172 (dk_at dksX5_take_2 7 rfl rfl)
abbrev cX5_columnIn : ByteArray := prog_6_method_8_code
def yX5_columnIn : MethodName := ⟨RX5, "columnIn", "(I)I"⟩
def dkwX5_columnIn_0 : List UInt8 := [27, 42, 180, 0, 7, 112, 172]
abbrev dktX5_columnIn_0 : List UInt8 := dkwX5_columnIn_0 ++ []
theorem dksX5_columnIn_0 : cX5_columnIn.data.toList.drop 0 = dktX5_columnIn_0 := by decide +kernel
theorem dX5_columnIn_0 : decode cX5_columnIn 0 = .ok (.iload_n 1, 1) := dk_27 (dk_at dksX5_columnIn_0 0 rfl rfl)
theorem dX5_columnIn_1 : decode cX5_columnIn 1 = .ok (.aload_n 0, 1) := dk_42 (dk_at dksX5_columnIn_0 1 rfl rfl)
theorem dX5_columnIn_2 : decode cX5_columnIn 2 = .ok (.getfield 7, 3) := dk_180 0 7 (dk_at dksX5_columnIn_0 2 rfl rfl)
theorem dX5_columnIn_5 : decode cX5_columnIn 5 = .ok (.irem, 1) := dk_112 (dk_at dksX5_columnIn_0 5 rfl rfl)
theorem dX5_columnIn_6 : decode cX5_columnIn 6 = .ok (.ireturn, 1) := dk_172 (dk_at dksX5_columnIn_0 6 rfl rfl)
theorem q55 : (Jvm.Cond.initialized "PennyArcade$Table") ∈ lw_all := lw_g (lw_at lw_m1 13 rfl) rfl
theorem q112 : (Jvm.Cond.fieldLinkNest "PennyArcade$Table" (50 : Nat) "PennyArcade$Hall" "boxes" "[I" "PennyArcade") ∈ lw_tbl := lw_at lw_m1 70 rfl
theorem q256 : (Jvm.Cond.selects "PennyArcade$Table" ({ cls := "PennyArcade$Machine", name := "told", desc := "(I)I" } : Jvm.MethodName) ({ cls := "PennyArcade$Table", name := "told", desc := "(I)I" } : Jvm.MethodName)) ∈ lw_all := lw_g (lw_at lw_m1 214 rfl) rfl
theorem q257 : (Jvm.Cond.instanceMethod ({ cls := "PennyArcade$Table", name := "told", desc := "(I)I" } : Jvm.MethodName)) ∈ lw_all := lw_g (lw_at lw_m1 215 rfl) rfl
theorem q258 : (Jvm.Cond.code ({ cls := "PennyArcade$Table", name := "told", desc := "(I)I" } : Jvm.MethodName) prog_6_method_10_code (2 : Nat) (Option.some Jvm.ClassFile.FieldType.int)) ∈ lw_all := lw_g (lw_at lw_m1 216 rfl) rfl
theorem q367 : (Jvm.Cond.instantiable "PennyArcade$Table" (5 : Nat)) ∈ lw_all := lw_g (lw_at lw_m2 85 rfl) rfl
theorem q369 : (Jvm.Cond.instanceMethod ({ cls := "PennyArcade$Table", name := "<init>", desc := "(III)V" } : Jvm.MethodName)) ∈ lw_all := lw_g (lw_at lw_m2 87 rfl) rfl
theorem q370 : (Jvm.Cond.code ({ cls := "PennyArcade$Table", name := "<init>", desc := "(III)V" } : Jvm.MethodName) prog_6_method_1_code (4 : Nat) (Option.none : Option Jvm.ClassFile.FieldType)) ∈ lw_all := lw_g (lw_at lw_m2 88 rfl) rfl
theorem q371 : (Jvm.Cond.methodLink "PennyArcade$Table" (1 : Nat) ({ cls := "PennyArcade$Machine", name := "<init>", desc := "(I)V" } : Jvm.MethodName)) ∈ lw_all := lw_g (lw_at lw_m2 89 rfl) rfl
theorem q375 : (Jvm.Cond.fieldLink "PennyArcade$Table" (7 : Nat) "PennyArcade$Table" "columns" "I") ∈ lw_all := lw_g (lw_at lw_m2 93 rfl) rfl
theorem q376 : (Jvm.Cond.fieldLink "PennyArcade$Table" (13 : Nat) "PennyArcade$Table" "rows" "I") ∈ lw_all := lw_g (lw_at lw_m2 94 rfl) rfl
theorem q377 : (Jvm.Cond.fieldLink "PennyArcade$Table" (16 : Nat) "PennyArcade$Table" "sides" "[I") ∈ lw_all := lw_g (lw_at lw_m2 95 rfl) rfl
theorem q379 : (Jvm.Cond.fieldLink "PennyArcade$Table" (20 : Nat) "PennyArcade$Table" "cups" "[I") ∈ lw_all := lw_g (lw_at lw_m2 97 rfl) rfl
theorem q386 : (Jvm.Cond.fieldLink "PennyArcade$Table" (55 : Nat) "PennyArcade$Table" "number" "I") ∈ lw_all := lw_g (lw_at lw_m2 104 rfl) rfl
theorem q387 : (Jvm.Cond.sameField "PennyArcade$Table" "PennyArcade$Machine" "number" "I") ∈ lw_all := lw_g (lw_at lw_m2 105 rfl) rfl
theorem q388 : (Jvm.Cond.laysFinal "PennyArcade$Table" "PennyArcade$Table" "columns" "I") ∈ lw_all := lw_g (lw_at lw_m2 106 rfl) rfl
theorem q389 : (Jvm.Cond.soleField "PennyArcade$Table" "columns") ∈ lw_all := lw_g (lw_at lw_m2 107 rfl) rfl
theorem q390 : (Jvm.Cond.laysFinal "PennyArcade$Table" "PennyArcade$Table" "rows" "I") ∈ lw_all := lw_g (lw_at lw_m2 108 rfl) rfl
theorem q391 : (Jvm.Cond.soleField "PennyArcade$Table" "rows") ∈ lw_all := lw_g (lw_at lw_m2 109 rfl) rfl
theorem q392 : (Jvm.Cond.laysFinal "PennyArcade$Table" "PennyArcade$Table" "sides" "[I") ∈ lw_all := lw_g (lw_at lw_m2 110 rfl) rfl
theorem q393 : (Jvm.Cond.soleField "PennyArcade$Table" "sides") ∈ lw_all := lw_g (lw_at lw_m2 111 rfl) rfl
theorem q394 : (Jvm.Cond.laysFinal "PennyArcade$Table" "PennyArcade$Table" "cups" "[I") ∈ lw_all := lw_g (lw_at lw_m2 112 rfl) rfl
theorem q395 : (Jvm.Cond.soleField "PennyArcade$Table" "cups") ∈ lw_all := lw_g (lw_at lw_m2 113 rfl) rfl
theorem q396 : (Jvm.Cond.laysFinal "PennyArcade$Table" "PennyArcade$Machine" "number" "I") ∈ lw_all := lw_g (lw_at lw_m2 114 rfl) rfl
theorem q398 : (Jvm.Cond.superclass "PennyArcade$Table" "PennyArcade$Machine") ∈ lw_all := lw_g (lw_at lw_m2 116 rfl) rfl
theorem q439 : (Jvm.Cond.selects "PennyArcade$Table" ({ cls := "java/lang/Object", name := "getClass", desc := "()Ljava/lang/Class;" } : Jvm.MethodName) ({ cls := "java/lang/Object", name := "getClass", desc := "()Ljava/lang/Class;" } : Jvm.MethodName)) ∈ lw_all := lw_g (lw_at lw_m2 157 rfl) rfl
theorem q560 : (Jvm.Cond.instanceMethod ({ cls := "PennyArcade$Table", name := "pinAt", desc := "(II)I" } : Jvm.MethodName)) ∈ lw_all := lw_g (lw_at lw_m3 38 rfl) rfl
theorem q561 : (Jvm.Cond.selects "PennyArcade$Table" ({ cls := "PennyArcade$Table", name := "pinAt", desc := "(II)I" } : Jvm.MethodName) ({ cls := "PennyArcade$Table", name := "pinAt", desc := "(II)I" } : Jvm.MethodName)) ∈ lw_all := lw_g (lw_at lw_m3 39 rfl) rfl
theorem q562 : (Jvm.Cond.code ({ cls := "PennyArcade$Table", name := "pinAt", desc := "(II)I" } : Jvm.MethodName) prog_6_method_4_code (3 : Nat) (Option.some Jvm.ClassFile.FieldType.int)) ∈ lw_all := lw_g (lw_at lw_m3 40 rfl) rfl
theorem q563 : (Jvm.Cond.methodLinkNest "PennyArcade$Table" (23 : Nat) ({ cls := "PennyArcade", name := "requireFrom", desc := "(III)V" } : Jvm.MethodName) "PennyArcade") ∈ lw_tbl := lw_at lw_m3 41 rfl
theorem q564 : (Jvm.Cond.methodLink "PennyArcade$Table" (29 : Nat) ({ cls := "PennyArcade$Table", name := "requireColumn", desc := "(I)V" } : Jvm.MethodName)) ∈ lw_all := lw_g (lw_at lw_m3 42 rfl) rfl
theorem q565 : (Jvm.Cond.instanceMethod ({ cls := "PennyArcade$Table", name := "requireColumn", desc := "(I)V" } : Jvm.MethodName)) ∈ lw_all := lw_g (lw_at lw_m3 43 rfl) rfl
theorem q566 : (Jvm.Cond.selects "PennyArcade$Table" ({ cls := "PennyArcade$Table", name := "requireColumn", desc := "(I)V" } : Jvm.MethodName) ({ cls := "PennyArcade$Table", name := "requireColumn", desc := "(I)V" } : Jvm.MethodName)) ∈ lw_all := lw_g (lw_at lw_m3 44 rfl) rfl
theorem q567 : (Jvm.Cond.code ({ cls := "PennyArcade$Table", name := "requireColumn", desc := "(I)V" } : Jvm.MethodName) prog_6_method_2_code (2 : Nat) (Option.none : Option Jvm.ClassFile.FieldType)) ∈ lw_all := lw_g (lw_at lw_m3 45 rfl) rfl
theorem q591 : (Jvm.Cond.instanceMethod ({ cls := "PennyArcade$Table", name := "requirePlay", desc := "(II)V" } : Jvm.MethodName)) ∈ lw_all := lw_g (lw_at lw_m3 69 rfl) rfl
theorem q592 : (Jvm.Cond.selects "PennyArcade$Table" ({ cls := "PennyArcade$Table", name := "requirePlay", desc := "(II)V" } : Jvm.MethodName) ({ cls := "PennyArcade$Table", name := "requirePlay", desc := "(II)V" } : Jvm.MethodName)) ∈ lw_all := lw_g (lw_at lw_m3 70 rfl) rfl
theorem q593 : (Jvm.Cond.code ({ cls := "PennyArcade$Table", name := "requirePlay", desc := "(II)V" } : Jvm.MethodName) prog_6_method_3_code (3 : Nat) (Option.none : Option Jvm.ClassFile.FieldType)) ∈ lw_all := lw_g (lw_at lw_m3 71 rfl) rfl
theorem q595 : (Jvm.Cond.instanceMethod ({ cls := "PennyArcade$Table", name := "ends", desc := "(II)I" } : Jvm.MethodName)) ∈ lw_all := lw_g (lw_at lw_m3 73 rfl) rfl
theorem q596 : (Jvm.Cond.selects "PennyArcade$Table" ({ cls := "PennyArcade$Table", name := "ends", desc := "(II)I" } : Jvm.MethodName) ({ cls := "PennyArcade$Table", name := "ends", desc := "(II)I" } : Jvm.MethodName)) ∈ lw_all := lw_g (lw_at lw_m3 74 rfl) rfl
theorem q597 : (Jvm.Cond.code ({ cls := "PennyArcade$Table", name := "ends", desc := "(II)I" } : Jvm.MethodName) prog_6_method_5_code (6 : Nat) (Option.some Jvm.ClassFile.FieldType.int)) ∈ lw_all := lw_g (lw_at lw_m3 75 rfl) rfl
theorem q598 : (Jvm.Cond.methodLink "PennyArcade$Table" (32 : Nat) ({ cls := "java/lang/Math", name := "min", desc := "(II)I" } : Jvm.MethodName)) ∈ lw_all := lw_g (lw_at lw_m3 76 rfl) rfl
theorem q599 : (Jvm.Cond.methodLink "PennyArcade$Table" (38 : Nat) ({ cls := "java/lang/Math", name := "max", desc := "(II)I" } : Jvm.MethodName)) ∈ lw_all := lw_g (lw_at lw_m3 77 rfl) rfl
theorem q608 : (Jvm.Cond.instanceMethod ({ cls := "PennyArcade$Table", name := "tiltAt", desc := "(I)I" } : Jvm.MethodName)) ∈ lw_all := lw_g (lw_at lw_m3 86 rfl) rfl
theorem q609 : (Jvm.Cond.selects "PennyArcade$Table" ({ cls := "PennyArcade$Table", name := "tiltAt", desc := "(I)I" } : Jvm.MethodName) ({ cls := "PennyArcade$Table", name := "tiltAt", desc := "(I)I" } : Jvm.MethodName)) ∈ lw_all := lw_g (lw_at lw_m3 87 rfl) rfl
theorem q610 : (Jvm.Cond.code ({ cls := "PennyArcade$Table", name := "tiltAt", desc := "(I)I" } : Jvm.MethodName) prog_6_method_6_code (4 : Nat) (Option.some Jvm.ClassFile.FieldType.int)) ∈ lw_all := lw_g (lw_at lw_m3 88 rfl) rfl
theorem q611 : (Jvm.Cond.methodLink "PennyArcade$Table" (41 : Nat) ({ cls := "PennyArcade$Table", name := "ends", desc := "(II)I" } : Jvm.MethodName)) ∈ lw_all := lw_g (lw_at lw_m3 89 rfl) rfl
theorem q620 : (Jvm.Cond.instanceMethod ({ cls := "PennyArcade$Table", name := "dead", desc := "()I" } : Jvm.MethodName)) ∈ lw_all := lw_g (lw_at lw_m3 98 rfl) rfl
theorem q621 : (Jvm.Cond.selects "PennyArcade$Table" ({ cls := "PennyArcade$Table", name := "dead", desc := "()I" } : Jvm.MethodName) ({ cls := "PennyArcade$Table", name := "dead", desc := "()I" } : Jvm.MethodName)) ∈ lw_all := lw_g (lw_at lw_m3 99 rfl) rfl
theorem q622 : (Jvm.Cond.code ({ cls := "PennyArcade$Table", name := "dead", desc := "()I" } : Jvm.MethodName) prog_6_method_7_code (4 : Nat) (Option.some Jvm.ClassFile.FieldType.int)) ∈ lw_all := lw_g (lw_at lw_m3 100 rfl) rfl
theorem q623 : (Jvm.Cond.methodLink "PennyArcade$Table" (44 : Nat) ({ cls := "java/lang/Integer", name := "bitCount", desc := "(I)I" } : Jvm.MethodName)) ∈ lw_all := lw_g (lw_at lw_m3 101 rfl) rfl
theorem q678 : (Jvm.Cond.selects "PennyArcade$Table" ({ cls := "PennyArcade$Machine", name := "requirePlay", desc := "(II)V" } : Jvm.MethodName) ({ cls := "PennyArcade$Table", name := "requirePlay", desc := "(II)V" } : Jvm.MethodName)) ∈ lw_all := lw_g (lw_at lw_m3 156 rfl) rfl
theorem q689 : (Jvm.Cond.selects "PennyArcade$Table" ({ cls := "PennyArcade$Machine", name := "take", desc := "(LPennyArcade$Hall;II)I" } : Jvm.MethodName) ({ cls := "PennyArcade$Table", name := "take", desc := "(LPennyArcade$Hall;II)I" } : Jvm.MethodName)) ∈ lw_all := lw_g (lw_at lw_m3 167 rfl) rfl
theorem q690 : (Jvm.Cond.instanceMethod ({ cls := "PennyArcade$Table", name := "take", desc := "(LPennyArcade$Hall;II)I" } : Jvm.MethodName)) ∈ lw_all := lw_g (lw_at lw_m3 168 rfl) rfl
theorem q691 : (Jvm.Cond.code ({ cls := "PennyArcade$Table", name := "take", desc := "(LPennyArcade$Hall;II)I" } : Jvm.MethodName) prog_6_method_9_code (5 : Nat) (Option.some Jvm.ClassFile.FieldType.int)) ∈ lw_all := lw_g (lw_at lw_m3 169 rfl) rfl
theorem q761 : (Jvm.Cond.selects "PennyArcade$Table" ({ cls := "PennyArcade$Machine", name := "columnIn", desc := "(I)I" } : Jvm.MethodName) ({ cls := "PennyArcade$Table", name := "columnIn", desc := "(I)I" } : Jvm.MethodName)) ∈ lw_all := lw_g (lw_at lw_m3 239 rfl) rfl
theorem q762 : (Jvm.Cond.instanceMethod ({ cls := "PennyArcade$Table", name := "columnIn", desc := "(I)I" } : Jvm.MethodName)) ∈ lw_all := lw_g (lw_at lw_m4 0 rfl) rfl
theorem q763 : (Jvm.Cond.code ({ cls := "PennyArcade$Table", name := "columnIn", desc := "(I)I" } : Jvm.MethodName) prog_6_method_8_code (2 : Nat) (Option.some Jvm.ClassFile.FieldType.int)) ∈ lw_all := lw_g (lw_at lw_m4 1 rfl) rfl
theorem q770 : (Jvm.Cond.selects "PennyArcade$Table" ({ cls := "PennyArcade$Machine", name := "tiltAt", desc := "(I)I" } : Jvm.MethodName) ({ cls := "PennyArcade$Table", name := "tiltAt", desc := "(I)I" } : Jvm.MethodName)) ∈ lw_all := lw_g (lw_at lw_m4 8 rfl) rfl
theorem q1081 : (Jvm.Cond.castable "PennyArcade$Table" "PennyArcade$Machine") ∈ lw_tbl := lw_at lw_m5 79 rfl
theorem q1088 : (Jvm.Cond.castable "PennyArcade$Table" "java/lang/Object") ∈ lw_tbl := lw_at lw_m5 86 rfl
theorem in_X5 : ∀ w ∈ wsX50, w ∈ lw_all := lw_in wsX50 [396, 388, 390, 392, 394] (by decide +kernel) (by decide +kernel)

/-! PennyArcade$Pusher -/
set_option maxRecDepth 100000
def RX6 : String := "PennyArcade$Pusher"
def TX6 : u_T := fun k => match k with
  | 0 => ("PennyArcade$Machine", "number", "I", true)
  | _ => ("PennyArcade$Pusher", "strength", "I", true)
def tyX6 : Nat → FieldType := fun k => match k with
  | 0 => .int
  | _ => .int
abbrev wsX60 : List Cond := u_ws RX6 TX6 2
theorem nmX6 : ∀ a, a < 2 → ∀ b, b < 2 → a ≠ b → (TX6 a).2.1 ≠ (TX6 b).2.1 := by decide +kernel
theorem tyX6_ok : ∀ k, k < 2 → parseFieldDescriptor (TX6 k).2.2.1 = some (tyX6 k) := by decide +kernel
abbrev cX6_told : ByteArray := prog_5_method_6_code
def yX6_told : MethodName := ⟨RX6, "told", "(I)I"⟩
def dkwX6_told_0 : List UInt8 := [27, 154, 0, 7, 4, 167, 0, 16, 27, 6, 160, 0, 10, 42, 180, 0, 9, 167, 0, 4, 3, 172]
abbrev dktX6_told_0 : List UInt8 := dkwX6_told_0 ++ []
theorem dksX6_told_0 : cX6_told.data.toList.drop 0 = dktX6_told_0 := by decide +kernel
theorem dX6_told_0 : decode cX6_told 0 = .ok (.iload_n 1, 1) := dk_27 (dk_at dksX6_told_0 0 rfl rfl)
theorem dX6_told_1 : decode cX6_told 1 = .ok (.ifCond .ne 7, 3) := dk_154 0 7 (dk_at dksX6_told_0 1 rfl rfl)
theorem dX6_told_4 : decode cX6_told 4 = .ok (.iconst 1, 1) := dk_4 (dk_at dksX6_told_0 4 rfl rfl)
theorem dX6_told_5 : decode cX6_told 5 = .ok (.goto 16, 3) := dk_167 0 16 (dk_at dksX6_told_0 5 rfl rfl)
theorem dX6_told_8 : decode cX6_told 8 = .ok (.iload_n 1, 1) := dk_27 (dk_at dksX6_told_0 8 rfl rfl)
theorem dX6_told_9 : decode cX6_told 9 = .ok (.iconst 3, 1) := dk_6 (dk_at dksX6_told_0 9 rfl rfl)
theorem dX6_told_10 : decode cX6_told 10 = .ok (.if_icmp .ne 10, 3) := dk_160 0 10 (dk_at dksX6_told_0 10 rfl rfl)
theorem dX6_told_13 : decode cX6_told 13 = .ok (.aload_n 0, 1) := dk_42 (dk_at dksX6_told_0 13 rfl rfl)
theorem dX6_told_14 : decode cX6_told 14 = .ok (.getfield 9, 3) := dk_180 0 9 (dk_at dksX6_told_0 14 rfl rfl)
theorem dX6_told_17 : decode cX6_told 17 = .ok (.goto 4, 3) := dk_167 0 4 (dk_at dksX6_told_0 17 rfl rfl)
theorem dX6_told_20 : decode cX6_told 20 = .ok (.iconst 0, 1) := dk_3 (dk_at dksX6_told_0 20 rfl rfl)
theorem dX6_told_21 : decode cX6_told 21 = .ok (.ireturn, 1) := dk_172 (dk_at dksX6_told_0 21 rfl rfl)
abbrev cX6_init : ByteArray := prog_5_method_1_code
def yX6_init : MethodName := ⟨RX6, "<init>", "(II)V"⟩
def dkwX6_init_0 : List UInt8 := [42, 27, 183, 0, 3, 42, 28, 181, 0, 9, 177]
abbrev dktX6_init_0 : List UInt8 := dkwX6_init_0 ++ []
theorem dksX6_init_0 : cX6_init.data.toList.drop 0 = dktX6_init_0 := by decide +kernel
theorem dX6_init_0 : decode cX6_init 0 = .ok (.aload_n 0, 1) := dk_42 (dk_at dksX6_init_0 0 rfl rfl)
theorem dX6_init_1 : decode cX6_init 1 = .ok (.iload_n 1, 1) := dk_27 (dk_at dksX6_init_0 1 rfl rfl)
theorem dX6_init_2 : decode cX6_init 2 = .ok (.invokespecial 3, 3) := dk_183 0 3 (dk_at dksX6_init_0 2 rfl rfl)
theorem dX6_init_5 : decode cX6_init 5 = .ok (.aload_n 0, 1) := dk_42 (dk_at dksX6_init_0 5 rfl rfl)
theorem dX6_init_6 : decode cX6_init 6 = .ok (.iload_n 2, 1) := dk_28 (dk_at dksX6_init_0 6 rfl rfl)
theorem dX6_init_7 : decode cX6_init 7 = .ok (.putfield 9, 3) := dk_181 0 9 (dk_at dksX6_init_0 7 rfl rfl)
theorem dX6_init_10 : decode cX6_init 10 = .ok (.return_, 1) := dk_177 (dk_at dksX6_init_0 10 rfl rfl)
abbrev cX6_requirePlay : ByteArray := prog_5_method_2_code
def yX6_requirePlay : MethodName := ⟨RX6, "requirePlay", "(II)V"⟩
theorem dX6_requirePlay_0 : decode cX6_requirePlay 0 = .ok (.return_, 1) := by decide +kernel
abbrev cX6_take : ByteArray := prog_5_method_5_code
def yX6_take : MethodName := ⟨RX6, "take", "(LPennyArcade$Hall;II)I"⟩
def dkwX6_take_4 : List UInt8 := [21, 7, 5, 108, 96, 79, 167, 0, 9, 21, 7, 5, 108, 54, 5, 132, 6, 1, 167, 255, 170, 21, 5, 172]
abbrev dktX6_take_4 : List UInt8 := dkwX6_take_4 ++ []
def dkwX6_take_3 : List UInt8 := [100, 79, 21, 6, 4, 96, 8, 162, 0, 25, 43, 180, 0, 18, 21, 4, 21, 6, 96, 4, 96, 92, 46]
abbrev dktX6_take_3 : List UInt8 := dkwX6_take_3 ++ dktX6_take_4
def dkwX6_take_2 : List UInt8 := [180, 0, 9, 163, 0, 6, 167, 0, 56, 43, 180, 0, 18, 21, 4, 21, 6, 96, 92, 46, 21, 7, 5, 108]
abbrev dktX6_take_2 : List UInt8 := dkwX6_take_2 ++ dktX6_take_3
def dkwX6_take_1 : List UInt8 := [54, 6, 21, 6, 8, 162, 0, 86, 43, 180, 0, 18, 21, 4, 21, 6, 96, 46, 54, 7, 21, 7, 42]
abbrev dktX6_take_1 : List UInt8 := dkwX6_take_1 ++ dktX6_take_2
def dkwX6_take_0 : List UInt8 := [8, 42, 180, 0, 15, 104, 54, 4, 43, 180, 0, 18, 21, 4, 92, 46, 4, 96, 79, 3, 54, 5, 3]
abbrev dktX6_take_0 : List UInt8 := dkwX6_take_0 ++ dktX6_take_1
theorem dksX6_take_0 : cX6_take.data.toList.drop 0 = dktX6_take_0 := by decide +kernel
theorem dksX6_take_1 : cX6_take.data.toList.drop 23 = dktX6_take_1 := dk_seg dksX6_take_0 23 rfl rfl
theorem dksX6_take_2 : cX6_take.data.toList.drop 46 = dktX6_take_2 := dk_seg dksX6_take_1 23 rfl rfl
theorem dksX6_take_3 : cX6_take.data.toList.drop 70 = dktX6_take_3 := dk_seg dksX6_take_2 24 rfl rfl
theorem dksX6_take_4 : cX6_take.data.toList.drop 93 = dktX6_take_4 := dk_seg dksX6_take_3 23 rfl rfl
theorem dX6_take_0 : decode cX6_take 0 = .ok (.iconst 5, 1) := dk_8 (dk_at dksX6_take_0 0 rfl rfl)
theorem dX6_take_1 : decode cX6_take 1 = .ok (.aload_n 0, 1) := dk_42 (dk_at dksX6_take_0 1 rfl rfl)
theorem dX6_take_2 : decode cX6_take 2 = .ok (.getfield 15, 3) := dk_180 0 15 (dk_at dksX6_take_0 2 rfl rfl)
theorem dX6_take_5 : decode cX6_take 5 = .ok (.imul, 1) := dk_104 (dk_at dksX6_take_0 5 rfl rfl)
theorem dX6_take_6 : decode cX6_take 6 = .ok (.istore 4, 2) := dk_54 4 (dk_at dksX6_take_0 6 rfl rfl)
theorem dX6_take_8 : decode cX6_take 8 = .ok (.aload_n 1, 1) := dk_43 (dk_at dksX6_take_0 8 rfl rfl)
theorem dX6_take_9 : decode cX6_take 9 = .ok (.getfield 18, 3) := dk_180 0 18 (dk_at dksX6_take_0 9 rfl rfl)
theorem dX6_take_12 : decode cX6_take 12 = .ok (.iload 4, 2) := dk_21 4 (dk_at dksX6_take_0 12 rfl rfl)
theorem dX6_take_14 : decode cX6_take 14 = .ok (.dup2, 1) := dk_92 (dk_at dksX6_take_0 14 rfl rfl)
theorem dX6_take_15 : decode cX6_take 15 = .ok (.iaload, 1) := dk_46 (dk_at dksX6_take_0 15 rfl rfl)
theorem dX6_take_16 : decode cX6_take 16 = .ok (.iconst 1, 1) := dk_4 (dk_at dksX6_take_0 16 rfl rfl)
theorem dX6_take_17 : decode cX6_take 17 = .ok (.iadd, 1) := dk_96 (dk_at dksX6_take_0 17 rfl rfl)
theorem dX6_take_18 : decode cX6_take 18 = .ok (.iastore, 1) := dk_79 (dk_at dksX6_take_0 18 rfl rfl)
theorem dX6_take_19 : decode cX6_take 19 = .ok (.iconst 0, 1) := dk_3 (dk_at dksX6_take_0 19 rfl rfl)
theorem dX6_take_20 : decode cX6_take 20 = .ok (.istore 5, 2) := dk_54 5 (dk_at dksX6_take_0 20 rfl rfl)
theorem dX6_take_22 : decode cX6_take 22 = .ok (.iconst 0, 1) := dk_3 (dk_at dksX6_take_0 22 rfl rfl)
theorem dX6_take_23 : decode cX6_take 23 = .ok (.istore 6, 2) := dk_54 6 (dk_at dksX6_take_1 0 rfl rfl)
theorem dX6_take_25 : decode cX6_take 25 = .ok (.iload 6, 2) := dk_21 6 (dk_at dksX6_take_1 2 rfl rfl)
theorem dX6_take_27 : decode cX6_take 27 = .ok (.iconst 5, 1) := dk_8 (dk_at dksX6_take_1 4 rfl rfl)
theorem dX6_take_28 : decode cX6_take 28 = .ok (.if_icmp .ge 86, 3) := dk_162 0 86 (dk_at dksX6_take_1 5 rfl rfl)
theorem dX6_take_31 : decode cX6_take 31 = .ok (.aload_n 1, 1) := dk_43 (dk_at dksX6_take_1 8 rfl rfl)
theorem dX6_take_32 : decode cX6_take 32 = .ok (.getfield 18, 3) := dk_180 0 18 (dk_at dksX6_take_1 9 rfl rfl)
theorem dX6_take_35 : decode cX6_take 35 = .ok (.iload 4, 2) := dk_21 4 (dk_at dksX6_take_1 12 rfl rfl)
theorem dX6_take_37 : decode cX6_take 37 = .ok (.iload 6, 2) := dk_21 6 (dk_at dksX6_take_1 14 rfl rfl)
theorem dX6_take_39 : decode cX6_take 39 = .ok (.iadd, 1) := dk_96 (dk_at dksX6_take_1 16 rfl rfl)
theorem dX6_take_40 : decode cX6_take 40 = .ok (.iaload, 1) := dk_46 (dk_at dksX6_take_1 17 rfl rfl)
theorem dX6_take_41 : decode cX6_take 41 = .ok (.istore 7, 2) := dk_54 7 (dk_at dksX6_take_1 18 rfl rfl)
theorem dX6_take_43 : decode cX6_take 43 = .ok (.iload 7, 2) := dk_21 7 (dk_at dksX6_take_1 20 rfl rfl)
theorem dX6_take_45 : decode cX6_take 45 = .ok (.aload_n 0, 1) := dk_42 (dk_at dksX6_take_1 22 rfl rfl)
theorem dX6_take_46 : decode cX6_take 46 = .ok (.getfield 9, 3) := dk_180 0 9 (dk_at dksX6_take_2 0 rfl rfl)
theorem dX6_take_49 : decode cX6_take 49 = .ok (.if_icmp .gt 6, 3) := dk_163 0 6 (dk_at dksX6_take_2 3 rfl rfl)
theorem dX6_take_52 : decode cX6_take 52 = .ok (.goto 56, 3) := dk_167 0 56 (dk_at dksX6_take_2 6 rfl rfl)
theorem dX6_take_55 : decode cX6_take 55 = .ok (.aload_n 1, 1) := dk_43 (dk_at dksX6_take_2 9 rfl rfl)
theorem dX6_take_56 : decode cX6_take 56 = .ok (.getfield 18, 3) := dk_180 0 18 (dk_at dksX6_take_2 10 rfl rfl)
theorem dX6_take_59 : decode cX6_take 59 = .ok (.iload 4, 2) := dk_21 4 (dk_at dksX6_take_2 13 rfl rfl)
theorem dX6_take_61 : decode cX6_take 61 = .ok (.iload 6, 2) := dk_21 6 (dk_at dksX6_take_2 15 rfl rfl)
theorem dX6_take_63 : decode cX6_take 63 = .ok (.iadd, 1) := dk_96 (dk_at dksX6_take_2 17 rfl rfl)
theorem dX6_take_64 : decode cX6_take 64 = .ok (.dup2, 1) := dk_92 (dk_at dksX6_take_2 18 rfl rfl)
theorem dX6_take_65 : decode cX6_take 65 = .ok (.iaload, 1) := dk_46 (dk_at dksX6_take_2 19 rfl rfl)
theorem dX6_take_66 : decode cX6_take 66 = .ok (.iload 7, 2) := dk_21 7 (dk_at dksX6_take_2 20 rfl rfl)
theorem dX6_take_68 : decode cX6_take 68 = .ok (.iconst 2, 1) := dk_5 (dk_at dksX6_take_2 22 rfl rfl)
theorem dX6_take_69 : decode cX6_take 69 = .ok (.idiv, 1) := dk_108 (dk_at dksX6_take_2 23 rfl rfl)
theorem dX6_take_70 : decode cX6_take 70 = .ok (.isub, 1) := dk_100 (dk_at dksX6_take_3 0 rfl rfl)
theorem dX6_take_71 : decode cX6_take 71 = .ok (.iastore, 1) := dk_79 (dk_at dksX6_take_3 1 rfl rfl)
theorem dX6_take_72 : decode cX6_take 72 = .ok (.iload 6, 2) := dk_21 6 (dk_at dksX6_take_3 2 rfl rfl)
theorem dX6_take_74 : decode cX6_take 74 = .ok (.iconst 1, 1) := dk_4 (dk_at dksX6_take_3 4 rfl rfl)
theorem dX6_take_75 : decode cX6_take 75 = .ok (.iadd, 1) := dk_96 (dk_at dksX6_take_3 5 rfl rfl)
theorem dX6_take_76 : decode cX6_take 76 = .ok (.iconst 5, 1) := dk_8 (dk_at dksX6_take_3 6 rfl rfl)
theorem dX6_take_77 : decode cX6_take 77 = .ok (.if_icmp .ge 25, 3) := dk_162 0 25 (dk_at dksX6_take_3 7 rfl rfl)
theorem dX6_take_80 : decode cX6_take 80 = .ok (.aload_n 1, 1) := dk_43 (dk_at dksX6_take_3 10 rfl rfl)
theorem dX6_take_81 : decode cX6_take 81 = .ok (.getfield 18, 3) := dk_180 0 18 (dk_at dksX6_take_3 11 rfl rfl)
theorem dX6_take_84 : decode cX6_take 84 = .ok (.iload 4, 2) := dk_21 4 (dk_at dksX6_take_3 14 rfl rfl)
theorem dX6_take_86 : decode cX6_take 86 = .ok (.iload 6, 2) := dk_21 6 (dk_at dksX6_take_3 16 rfl rfl)
theorem dX6_take_88 : decode cX6_take 88 = .ok (.iadd, 1) := dk_96 (dk_at dksX6_take_3 18 rfl rfl)
theorem dX6_take_89 : decode cX6_take 89 = .ok (.iconst 1, 1) := dk_4 (dk_at dksX6_take_3 19 rfl rfl)
theorem dX6_take_90 : decode cX6_take 90 = .ok (.iadd, 1) := dk_96 (dk_at dksX6_take_3 20 rfl rfl)
theorem dX6_take_91 : decode cX6_take 91 = .ok (.dup2, 1) := dk_92 (dk_at dksX6_take_3 21 rfl rfl)
theorem dX6_take_92 : decode cX6_take 92 = .ok (.iaload, 1) := dk_46 (dk_at dksX6_take_3 22 rfl rfl)
theorem dX6_take_93 : decode cX6_take 93 = .ok (.iload 7, 2) := dk_21 7 (dk_at dksX6_take_4 0 rfl rfl)
theorem dX6_take_95 : decode cX6_take 95 = .ok (.iconst 2, 1) := dk_5 (dk_at dksX6_take_4 2 rfl rfl)
theorem dX6_take_96 : decode cX6_take 96 = .ok (.idiv, 1) := dk_108 (dk_at dksX6_take_4 3 rfl rfl)
theorem dX6_take_97 : decode cX6_take 97 = .ok (.iadd, 1) := dk_96 (dk_at dksX6_take_4 4 rfl rfl)
theorem dX6_take_98 : decode cX6_take 98 = .ok (.iastore, 1) := dk_79 (dk_at dksX6_take_4 5 rfl rfl)
theorem dX6_take_99 : decode cX6_take 99 = .ok (.goto 9, 3) := dk_167 0 9 (dk_at dksX6_take_4 6 rfl rfl)
theorem dX6_take_102 : decode cX6_take 102 = .ok (.iload 7, 2) := dk_21 7 (dk_at dksX6_take_4 9 rfl rfl)
theorem dX6_take_104 : decode cX6_take 104 = .ok (.iconst 2, 1) := dk_5 (dk_at dksX6_take_4 11 rfl rfl)
theorem dX6_take_105 : decode cX6_take 105 = .ok (.idiv, 1) := dk_108 (dk_at dksX6_take_4 12 rfl rfl)
theorem dX6_take_106 : decode cX6_take 106 = .ok (.istore 5, 2) := dk_54 5 (dk_at dksX6_take_4 13 rfl rfl)
theorem dX6_take_108 : decode cX6_take 108 = .ok (.iinc 6 1, 3) := dk_132 6 1 (dk_at dksX6_take_4 15 rfl rfl)
theorem dX6_take_111 : decode cX6_take 111 = .ok (.goto (-86), 3) := dk_167 255 170 (dk_at dksX6_take_4 18 rfl rfl)
theorem dX6_take_114 : decode cX6_take 114 = .ok (.iload 5, 2) := dk_21 5 (dk_at dksX6_take_4 21 rfl rfl)
theorem dX6_take_116 : decode cX6_take 116 = .ok (.ireturn, 1) := dk_172 (dk_at dksX6_take_4 23 rfl rfl)
abbrev cX6_columnIn : ByteArray := prog_5_method_3_code
def yX6_columnIn : MethodName := ⟨RX6, "columnIn", "(I)I"⟩
theorem dX6_columnIn_0 : decode cX6_columnIn 0 = .ok (.iconst 0, 1) := by decide +kernel
theorem dX6_columnIn_1 : decode cX6_columnIn 1 = .ok (.ireturn, 1) := by decide +kernel
abbrev cX6_tiltAt : ByteArray := prog_5_method_4_code
def yX6_tiltAt : MethodName := ⟨RX6, "tiltAt", "(I)I"⟩
theorem dX6_tiltAt_0 : decode cX6_tiltAt 0 = .ok (.iconst 0, 1) := by decide +kernel
theorem dX6_tiltAt_1 : decode cX6_tiltAt 1 = .ok (.ireturn, 1) := by decide +kernel
theorem q60 : (Jvm.Cond.initialized "PennyArcade$Pusher") ∈ lw_all := lw_g (lw_at lw_m1 18 rfl) rfl
theorem q122 : (Jvm.Cond.fieldLinkNest "PennyArcade$Pusher" (18 : Nat) "PennyArcade$Hall" "ledges" "[I" "PennyArcade") ∈ lw_tbl := lw_at lw_m1 80 rfl
theorem q253 : (Jvm.Cond.selects "PennyArcade$Pusher" ({ cls := "PennyArcade$Machine", name := "told", desc := "(I)I" } : Jvm.MethodName) ({ cls := "PennyArcade$Pusher", name := "told", desc := "(I)I" } : Jvm.MethodName)) ∈ lw_all := lw_g (lw_at lw_m1 211 rfl) rfl
theorem q254 : (Jvm.Cond.instanceMethod ({ cls := "PennyArcade$Pusher", name := "told", desc := "(I)I" } : Jvm.MethodName)) ∈ lw_all := lw_g (lw_at lw_m1 212 rfl) rfl
theorem q255 : (Jvm.Cond.code ({ cls := "PennyArcade$Pusher", name := "told", desc := "(I)I" } : Jvm.MethodName) prog_5_method_6_code (2 : Nat) (Option.some Jvm.ClassFile.FieldType.int)) ∈ lw_all := lw_g (lw_at lw_m1 213 rfl) rfl
theorem q383 : (Jvm.Cond.fieldLink "PennyArcade$Pusher" (15 : Nat) "PennyArcade$Pusher" "number" "I") ∈ lw_all := lw_g (lw_at lw_m2 101 rfl) rfl
theorem q384 : (Jvm.Cond.sameField "PennyArcade$Pusher" "PennyArcade$Machine" "number" "I") ∈ lw_all := lw_g (lw_at lw_m2 102 rfl) rfl
theorem q438 : (Jvm.Cond.selects "PennyArcade$Pusher" ({ cls := "java/lang/Object", name := "getClass", desc := "()Ljava/lang/Class;" } : Jvm.MethodName) ({ cls := "java/lang/Object", name := "getClass", desc := "()Ljava/lang/Class;" } : Jvm.MethodName)) ∈ lw_all := lw_g (lw_at lw_m2 156 rfl) rfl
theorem q469 : (Jvm.Cond.instantiable "PennyArcade$Pusher" (2 : Nat)) ∈ lw_all := lw_g (lw_at lw_m2 187 rfl) rfl
theorem q471 : (Jvm.Cond.instanceMethod ({ cls := "PennyArcade$Pusher", name := "<init>", desc := "(II)V" } : Jvm.MethodName)) ∈ lw_all := lw_g (lw_at lw_m2 189 rfl) rfl
theorem q472 : (Jvm.Cond.code ({ cls := "PennyArcade$Pusher", name := "<init>", desc := "(II)V" } : Jvm.MethodName) prog_5_method_1_code (3 : Nat) (Option.none : Option Jvm.ClassFile.FieldType)) ∈ lw_all := lw_g (lw_at lw_m2 190 rfl) rfl
theorem q473 : (Jvm.Cond.methodLink "PennyArcade$Pusher" (3 : Nat) ({ cls := "PennyArcade$Machine", name := "<init>", desc := "(I)V" } : Jvm.MethodName)) ∈ lw_all := lw_g (lw_at lw_m2 191 rfl) rfl
theorem q474 : (Jvm.Cond.fieldLink "PennyArcade$Pusher" (9 : Nat) "PennyArcade$Pusher" "strength" "I") ∈ lw_all := lw_g (lw_at lw_m2 192 rfl) rfl
theorem q475 : (Jvm.Cond.laysFinal "PennyArcade$Pusher" "PennyArcade$Pusher" "strength" "I") ∈ lw_all := lw_g (lw_at lw_m2 193 rfl) rfl
theorem q476 : (Jvm.Cond.soleField "PennyArcade$Pusher" "strength") ∈ lw_all := lw_g (lw_at lw_m2 194 rfl) rfl
theorem q477 : (Jvm.Cond.laysFinal "PennyArcade$Pusher" "PennyArcade$Machine" "number" "I") ∈ lw_all := lw_g (lw_at lw_m2 195 rfl) rfl
theorem q478 : (Jvm.Cond.superclass "PennyArcade$Pusher" "PennyArcade$Machine") ∈ lw_all := lw_g (lw_at lw_m2 196 rfl) rfl
theorem q675 : (Jvm.Cond.selects "PennyArcade$Pusher" ({ cls := "PennyArcade$Machine", name := "requirePlay", desc := "(II)V" } : Jvm.MethodName) ({ cls := "PennyArcade$Pusher", name := "requirePlay", desc := "(II)V" } : Jvm.MethodName)) ∈ lw_all := lw_g (lw_at lw_m3 153 rfl) rfl
theorem q676 : (Jvm.Cond.instanceMethod ({ cls := "PennyArcade$Pusher", name := "requirePlay", desc := "(II)V" } : Jvm.MethodName)) ∈ lw_all := lw_g (lw_at lw_m3 154 rfl) rfl
theorem q677 : (Jvm.Cond.code ({ cls := "PennyArcade$Pusher", name := "requirePlay", desc := "(II)V" } : Jvm.MethodName) prog_5_method_2_code (3 : Nat) (Option.none : Option Jvm.ClassFile.FieldType)) ∈ lw_all := lw_g (lw_at lw_m3 155 rfl) rfl
theorem q686 : (Jvm.Cond.selects "PennyArcade$Pusher" ({ cls := "PennyArcade$Machine", name := "take", desc := "(LPennyArcade$Hall;II)I" } : Jvm.MethodName) ({ cls := "PennyArcade$Pusher", name := "take", desc := "(LPennyArcade$Hall;II)I" } : Jvm.MethodName)) ∈ lw_all := lw_g (lw_at lw_m3 164 rfl) rfl
theorem q687 : (Jvm.Cond.instanceMethod ({ cls := "PennyArcade$Pusher", name := "take", desc := "(LPennyArcade$Hall;II)I" } : Jvm.MethodName)) ∈ lw_all := lw_g (lw_at lw_m3 165 rfl) rfl
theorem q688 : (Jvm.Cond.code ({ cls := "PennyArcade$Pusher", name := "take", desc := "(LPennyArcade$Hall;II)I" } : Jvm.MethodName) prog_5_method_5_code (8 : Nat) (Option.some Jvm.ClassFile.FieldType.int)) ∈ lw_all := lw_g (lw_at lw_m3 166 rfl) rfl
theorem q758 : (Jvm.Cond.selects "PennyArcade$Pusher" ({ cls := "PennyArcade$Machine", name := "columnIn", desc := "(I)I" } : Jvm.MethodName) ({ cls := "PennyArcade$Pusher", name := "columnIn", desc := "(I)I" } : Jvm.MethodName)) ∈ lw_all := lw_g (lw_at lw_m3 236 rfl) rfl
theorem q759 : (Jvm.Cond.instanceMethod ({ cls := "PennyArcade$Pusher", name := "columnIn", desc := "(I)I" } : Jvm.MethodName)) ∈ lw_all := lw_g (lw_at lw_m3 237 rfl) rfl
theorem q760 : (Jvm.Cond.code ({ cls := "PennyArcade$Pusher", name := "columnIn", desc := "(I)I" } : Jvm.MethodName) prog_5_method_3_code (2 : Nat) (Option.some Jvm.ClassFile.FieldType.int)) ∈ lw_all := lw_g (lw_at lw_m3 238 rfl) rfl
theorem q767 : (Jvm.Cond.selects "PennyArcade$Pusher" ({ cls := "PennyArcade$Machine", name := "tiltAt", desc := "(I)I" } : Jvm.MethodName) ({ cls := "PennyArcade$Pusher", name := "tiltAt", desc := "(I)I" } : Jvm.MethodName)) ∈ lw_all := lw_g (lw_at lw_m4 5 rfl) rfl
theorem q768 : (Jvm.Cond.instanceMethod ({ cls := "PennyArcade$Pusher", name := "tiltAt", desc := "(I)I" } : Jvm.MethodName)) ∈ lw_all := lw_g (lw_at lw_m4 6 rfl) rfl
theorem q769 : (Jvm.Cond.code ({ cls := "PennyArcade$Pusher", name := "tiltAt", desc := "(I)I" } : Jvm.MethodName) prog_5_method_4_code (2 : Nat) (Option.some Jvm.ClassFile.FieldType.int)) ∈ lw_all := lw_g (lw_at lw_m4 7 rfl) rfl
theorem q1080 : (Jvm.Cond.castable "PennyArcade$Pusher" "PennyArcade$Machine") ∈ lw_tbl := lw_at lw_m5 78 rfl
theorem q1089 : (Jvm.Cond.castable "PennyArcade$Pusher" "java/lang/Object") ∈ lw_tbl := lw_at lw_m5 87 rfl
theorem in_X6 : ∀ w ∈ wsX60, w ∈ lw_all := lw_in wsX60 [477, 475] (by decide +kernel) (by decide +kernel)

/-! PennyArcade$Player -/
set_option maxRecDepth 100000
def RX7 : String := "PennyArcade$Player"
def TX7 : u_T := fun k => match k with
  | _ => ("PennyArcade$Player", "temper", "I", true)
def tyX7 : Nat → FieldType := fun k => match k with
  | _ => .int
abbrev wsX70 : List Cond := u_ws RX7 TX7 1
theorem nmX7 : ∀ a, a < 1 → ∀ b, b < 1 → a ≠ b → (TX7 a).2.1 ≠ (TX7 b).2.1 := by decide +kernel
theorem tyX7_ok : ∀ k, k < 1 → parseFieldDescriptor (TX7 k).2.2.1 = some (tyX7 k) := by decide +kernel
abbrev cX7_init : ByteArray := prog_4_method_1_code
def yX7_init : MethodName := ⟨RX7, "<init>", "(I)V"⟩
def dkwX7_init_0 : List UInt8 := [42, 183, 0, 1, 42, 27, 181, 0, 7, 177]
abbrev dktX7_init_0 : List UInt8 := dkwX7_init_0 ++ []
theorem dksX7_init_0 : cX7_init.data.toList.drop 0 = dktX7_init_0 := by decide +kernel
theorem dX7_init_0 : decode cX7_init 0 = .ok (.aload_n 0, 1) := dk_42 (dk_at dksX7_init_0 0 rfl rfl)
theorem dX7_init_1 : decode cX7_init 1 = .ok (.invokespecial 1, 3) := dk_183 0 1 (dk_at dksX7_init_0 1 rfl rfl)
theorem dX7_init_4 : decode cX7_init 4 = .ok (.aload_n 0, 1) := dk_42 (dk_at dksX7_init_0 4 rfl rfl)
theorem dX7_init_5 : decode cX7_init 5 = .ok (.iload_n 1, 1) := dk_27 (dk_at dksX7_init_0 5 rfl rfl)
theorem dX7_init_6 : decode cX7_init 6 = .ok (.putfield 7, 3) := dk_181 0 7 (dk_at dksX7_init_0 6 rfl rfl)
theorem dX7_init_9 : decode cX7_init 9 = .ok (.return_, 1) := dk_177 (dk_at dksX7_init_0 9 rfl rfl)
theorem q67 : (Jvm.Cond.initialized "PennyArcade$Player") ∈ lw_all := lw_g (lw_at lw_m1 25 rfl) rfl
theorem q437 : (Jvm.Cond.selects "PennyArcade$Player" ({ cls := "java/lang/Object", name := "getClass", desc := "()Ljava/lang/Class;" } : Jvm.MethodName) ({ cls := "java/lang/Object", name := "getClass", desc := "()Ljava/lang/Class;" } : Jvm.MethodName)) ∈ lw_all := lw_g (lw_at lw_m2 155 rfl) rfl
theorem q643 : (Jvm.Cond.instantiable "PennyArcade$Player" (1 : Nat)) ∈ lw_all := lw_g (lw_at lw_m3 121 rfl) rfl
theorem q645 : (Jvm.Cond.instanceMethod ({ cls := "PennyArcade$Player", name := "<init>", desc := "(I)V" } : Jvm.MethodName)) ∈ lw_all := lw_g (lw_at lw_m3 123 rfl) rfl
theorem q646 : (Jvm.Cond.code ({ cls := "PennyArcade$Player", name := "<init>", desc := "(I)V" } : Jvm.MethodName) prog_4_method_1_code (2 : Nat) (Option.none : Option Jvm.ClassFile.FieldType)) ∈ lw_all := lw_g (lw_at lw_m3 124 rfl) rfl
theorem q647 : (Jvm.Cond.methodLink "PennyArcade$Player" (1 : Nat) ({ cls := "java/lang/Object", name := "<init>", desc := "()V" } : Jvm.MethodName)) ∈ lw_all := lw_g (lw_at lw_m3 125 rfl) rfl
theorem q648 : (Jvm.Cond.fieldLink "PennyArcade$Player" (7 : Nat) "PennyArcade$Player" "temper" "I") ∈ lw_all := lw_g (lw_at lw_m3 126 rfl) rfl
theorem q651 : (Jvm.Cond.laysFinal "PennyArcade$Player" "PennyArcade$Player" "temper" "I") ∈ lw_all := lw_g (lw_at lw_m3 129 rfl) rfl
theorem q652 : (Jvm.Cond.soleField "PennyArcade$Player" "temper") ∈ lw_all := lw_g (lw_at lw_m3 130 rfl) rfl
theorem q653 : (Jvm.Cond.superclass "PennyArcade$Player" "java/lang/Object") ∈ lw_all := lw_g (lw_at lw_m3 131 rfl) rfl
theorem q1092 : (Jvm.Cond.castable "PennyArcade$Player" "java/lang/Object") ∈ lw_tbl := lw_at lw_m5 90 rfl
theorem in_X7 : ∀ w ∈ wsX70, w ∈ lw_all := lw_in wsX70 [651] (by decide +kernel) (by decide +kernel)

/-! PennyArcade$Hall -/
set_option maxRecDepth 100000
def RX2 : String := "PennyArcade$Hall"
def TX2 : u_T := fun k => match k with
  | 0 => ("PennyArcade$Hall", "round", "I", false)
  | 1 => ("PennyArcade$Hall", "boxes", "[I", true)
  | 2 => ("PennyArcade$Hall", "wears", "[I", true)
  | 3 => ("PennyArcade$Hall", "areJammed", "[Z", true)
  | 4 => ("PennyArcade$Hall", "letIn", "[I", true)
  | 5 => ("PennyArcade$Hall", "paid", "[I", true)
  | 6 => ("PennyArcade$Hall", "ledges", "[I", true)
  | 7 => ("PennyArcade$Hall", "purses", "[I", true)
  | 8 => ("PennyArcade$Hall", "at", "[I", true)
  | 9 => ("PennyArcade$Hall", "lost", "[I", true)
  | 10 => ("PennyArcade$Hall", "played", "[I", true)
  | 11 => ("PennyArcade$Hall", "won", "[I", true)
  | 12 => ("PennyArcade$Hall", "row", "[I", true)
  | 13 => ("PennyArcade$Hall", "calls", "I", false)
  | 14 => ("PennyArcade$Hall", "left", "I", false)
  | _ => ("PennyArcade$Hall", "this$0", "LPennyArcade;", true)
def tyX2 : Nat → FieldType := fun k => match k with
  | 0 => .int
  | 1 => .array .int
  | 2 => .array .int
  | 3 => .array .boolean
  | 4 => .array .int
  | 5 => .array .int
  | 6 => .array .int
  | 7 => .array .int
  | 8 => .array .int
  | 9 => .array .int
  | 10 => .array .int
  | 11 => .array .int
  | 12 => .array .int
  | 13 => .int
  | 14 => .int
  | _ => .object "PennyArcade"
abbrev wsX20 : List Cond := u_ws RX2 TX2 16
set_option maxRecDepth 100000 in
theorem nmX2 : ∀ a, a < 16 → ∀ b, b < 16 → a ≠ b → (TX2 a).2.1 ≠ (TX2 b).2.1 := by decide +kernel
set_option maxRecDepth 100000 in
theorem tyX2_ok : ∀ k, k < 16 → parseFieldDescriptor (TX2 k).2.2.1 = some (tyX2 k) := by decide +kernel
abbrev cX2_init : ByteArray := prog_2_method_1_code
def yX2_init : MethodName := ⟨RX2, "<init>", "(LPennyArcade;)V"⟩
def dkwX2_init_4 : List UInt8 := [181, 0, 47, 42, 16, 8, 188, 10, 181, 0, 50, 177]
abbrev dktX2_init_4 : List UInt8 := dkwX2_init_4 ++ []
def dkwX2_init_3 : List UInt8 := [181, 0, 38, 42, 16, 10, 188, 10, 181, 0, 41, 42, 16, 10, 188, 10, 181, 0, 44, 42, 16, 10, 188, 10]
abbrev dktX2_init_3 : List UInt8 := dkwX2_init_3 ++ dktX2_init_4
def dkwX2_init_2 : List UInt8 := [181, 0, 29, 42, 16, 40, 188, 10, 181, 0, 32, 42, 16, 10, 188, 10, 181, 0, 35, 42, 16, 10, 188, 10]
abbrev dktX2_init_2 : List UInt8 := dkwX2_init_2 ++ dktX2_init_3
def dkwX2_init_1 : List UInt8 := [181, 0, 19, 42, 16, 8, 188, 4, 181, 0, 22, 42, 16, 8, 188, 10, 181, 0, 26, 42, 16, 8, 188, 10]
abbrev dktX2_init_1 : List UInt8 := dkwX2_init_1 ++ dktX2_init_2
def dkwX2_init_0 : List UInt8 := [42, 43, 181, 0, 3, 42, 183, 0, 9, 42, 16, 8, 188, 10, 181, 0, 15, 42, 16, 8, 188, 10]
abbrev dktX2_init_0 : List UInt8 := dkwX2_init_0 ++ dktX2_init_1
theorem dksX2_init_0 : cX2_init.data.toList.drop 0 = dktX2_init_0 := by decide +kernel
theorem dksX2_init_1 : cX2_init.data.toList.drop 22 = dktX2_init_1 := dk_seg dksX2_init_0 22 rfl rfl
theorem dksX2_init_2 : cX2_init.data.toList.drop 46 = dktX2_init_2 := dk_seg dksX2_init_1 24 rfl rfl
theorem dksX2_init_3 : cX2_init.data.toList.drop 70 = dktX2_init_3 := dk_seg dksX2_init_2 24 rfl rfl
theorem dksX2_init_4 : cX2_init.data.toList.drop 94 = dktX2_init_4 := dk_seg dksX2_init_3 24 rfl rfl
theorem dX2_init_0 : decode cX2_init 0 = .ok (.aload_n 0, 1) := dk_42 (dk_at dksX2_init_0 0 rfl rfl)
theorem dX2_init_1 : decode cX2_init 1 = .ok (.aload_n 1, 1) := dk_43 (dk_at dksX2_init_0 1 rfl rfl)
theorem dX2_init_2 : decode cX2_init 2 = .ok (.putfield 3, 3) := dk_181 0 3 (dk_at dksX2_init_0 2 rfl rfl)
theorem dX2_init_5 : decode cX2_init 5 = .ok (.aload_n 0, 1) := dk_42 (dk_at dksX2_init_0 5 rfl rfl)
theorem dX2_init_6 : decode cX2_init 6 = .ok (.invokespecial 9, 3) := dk_183 0 9 (dk_at dksX2_init_0 6 rfl rfl)
theorem dX2_init_9 : decode cX2_init 9 = .ok (.aload_n 0, 1) := dk_42 (dk_at dksX2_init_0 9 rfl rfl)
theorem dX2_init_10 : decode cX2_init 10 = .ok (.bipush 8, 2) := dk_16 8 (dk_at dksX2_init_0 10 rfl rfl)
theorem dX2_init_12 : decode cX2_init 12 = .ok (.newarray .int, 2) := dk_188_10 (dk_at dksX2_init_0 12 rfl rfl)
theorem dX2_init_14 : decode cX2_init 14 = .ok (.putfield 15, 3) := dk_181 0 15 (dk_at dksX2_init_0 14 rfl rfl)
theorem dX2_init_17 : decode cX2_init 17 = .ok (.aload_n 0, 1) := dk_42 (dk_at dksX2_init_0 17 rfl rfl)
theorem dX2_init_18 : decode cX2_init 18 = .ok (.bipush 8, 2) := dk_16 8 (dk_at dksX2_init_0 18 rfl rfl)
theorem dX2_init_20 : decode cX2_init 20 = .ok (.newarray .int, 2) := dk_188_10 (dk_at dksX2_init_0 20 rfl rfl)
theorem dX2_init_22 : decode cX2_init 22 = .ok (.putfield 19, 3) := dk_181 0 19 (dk_at dksX2_init_1 0 rfl rfl)
theorem dX2_init_25 : decode cX2_init 25 = .ok (.aload_n 0, 1) := dk_42 (dk_at dksX2_init_1 3 rfl rfl)
theorem dX2_init_26 : decode cX2_init 26 = .ok (.bipush 8, 2) := dk_16 8 (dk_at dksX2_init_1 4 rfl rfl)
theorem dX2_init_28 : decode cX2_init 28 = .ok (.newarray .boolean, 2) := dk_188_4 (dk_at dksX2_init_1 6 rfl rfl)
theorem dX2_init_30 : decode cX2_init 30 = .ok (.putfield 22, 3) := dk_181 0 22 (dk_at dksX2_init_1 8 rfl rfl)
theorem dX2_init_33 : decode cX2_init 33 = .ok (.aload_n 0, 1) := dk_42 (dk_at dksX2_init_1 11 rfl rfl)
theorem dX2_init_34 : decode cX2_init 34 = .ok (.bipush 8, 2) := dk_16 8 (dk_at dksX2_init_1 12 rfl rfl)
theorem dX2_init_36 : decode cX2_init 36 = .ok (.newarray .int, 2) := dk_188_10 (dk_at dksX2_init_1 14 rfl rfl)
theorem dX2_init_38 : decode cX2_init 38 = .ok (.putfield 26, 3) := dk_181 0 26 (dk_at dksX2_init_1 16 rfl rfl)
theorem dX2_init_41 : decode cX2_init 41 = .ok (.aload_n 0, 1) := dk_42 (dk_at dksX2_init_1 19 rfl rfl)
theorem dX2_init_42 : decode cX2_init 42 = .ok (.bipush 8, 2) := dk_16 8 (dk_at dksX2_init_1 20 rfl rfl)
theorem dX2_init_44 : decode cX2_init 44 = .ok (.newarray .int, 2) := dk_188_10 (dk_at dksX2_init_1 22 rfl rfl)
theorem dX2_init_46 : decode cX2_init 46 = .ok (.putfield 29, 3) := dk_181 0 29 (dk_at dksX2_init_2 0 rfl rfl)
theorem dX2_init_49 : decode cX2_init 49 = .ok (.aload_n 0, 1) := dk_42 (dk_at dksX2_init_2 3 rfl rfl)
theorem dX2_init_50 : decode cX2_init 50 = .ok (.bipush 40, 2) := dk_16 40 (dk_at dksX2_init_2 4 rfl rfl)
theorem dX2_init_52 : decode cX2_init 52 = .ok (.newarray .int, 2) := dk_188_10 (dk_at dksX2_init_2 6 rfl rfl)
theorem dX2_init_54 : decode cX2_init 54 = .ok (.putfield 32, 3) := dk_181 0 32 (dk_at dksX2_init_2 8 rfl rfl)
theorem dX2_init_57 : decode cX2_init 57 = .ok (.aload_n 0, 1) := dk_42 (dk_at dksX2_init_2 11 rfl rfl)
theorem dX2_init_58 : decode cX2_init 58 = .ok (.bipush 10, 2) := dk_16 10 (dk_at dksX2_init_2 12 rfl rfl)
theorem dX2_init_60 : decode cX2_init 60 = .ok (.newarray .int, 2) := dk_188_10 (dk_at dksX2_init_2 14 rfl rfl)
theorem dX2_init_62 : decode cX2_init 62 = .ok (.putfield 35, 3) := dk_181 0 35 (dk_at dksX2_init_2 16 rfl rfl)
theorem dX2_init_65 : decode cX2_init 65 = .ok (.aload_n 0, 1) := dk_42 (dk_at dksX2_init_2 19 rfl rfl)
theorem dX2_init_66 : decode cX2_init 66 = .ok (.bipush 10, 2) := dk_16 10 (dk_at dksX2_init_2 20 rfl rfl)
theorem dX2_init_68 : decode cX2_init 68 = .ok (.newarray .int, 2) := dk_188_10 (dk_at dksX2_init_2 22 rfl rfl)
theorem dX2_init_70 : decode cX2_init 70 = .ok (.putfield 38, 3) := dk_181 0 38 (dk_at dksX2_init_3 0 rfl rfl)
theorem dX2_init_73 : decode cX2_init 73 = .ok (.aload_n 0, 1) := dk_42 (dk_at dksX2_init_3 3 rfl rfl)
theorem dX2_init_74 : decode cX2_init 74 = .ok (.bipush 10, 2) := dk_16 10 (dk_at dksX2_init_3 4 rfl rfl)
theorem dX2_init_76 : decode cX2_init 76 = .ok (.newarray .int, 2) := dk_188_10 (dk_at dksX2_init_3 6 rfl rfl)
theorem dX2_init_78 : decode cX2_init 78 = .ok (.putfield 41, 3) := dk_181 0 41 (dk_at dksX2_init_3 8 rfl rfl)
theorem dX2_init_81 : decode cX2_init 81 = .ok (.aload_n 0, 1) := dk_42 (dk_at dksX2_init_3 11 rfl rfl)
theorem dX2_init_82 : decode cX2_init 82 = .ok (.bipush 10, 2) := dk_16 10 (dk_at dksX2_init_3 12 rfl rfl)
theorem dX2_init_84 : decode cX2_init 84 = .ok (.newarray .int, 2) := dk_188_10 (dk_at dksX2_init_3 14 rfl rfl)
theorem dX2_init_86 : decode cX2_init 86 = .ok (.putfield 44, 3) := dk_181 0 44 (dk_at dksX2_init_3 16 rfl rfl)
theorem dX2_init_89 : decode cX2_init 89 = .ok (.aload_n 0, 1) := dk_42 (dk_at dksX2_init_3 19 rfl rfl)
theorem dX2_init_90 : decode cX2_init 90 = .ok (.bipush 10, 2) := dk_16 10 (dk_at dksX2_init_3 20 rfl rfl)
theorem dX2_init_92 : decode cX2_init 92 = .ok (.newarray .int, 2) := dk_188_10 (dk_at dksX2_init_3 22 rfl rfl)
theorem dX2_init_94 : decode cX2_init 94 = .ok (.putfield 47, 3) := dk_181 0 47 (dk_at dksX2_init_4 0 rfl rfl)
theorem dX2_init_97 : decode cX2_init 97 = .ok (.aload_n 0, 1) := dk_42 (dk_at dksX2_init_4 3 rfl rfl)
theorem dX2_init_98 : decode cX2_init 98 = .ok (.bipush 8, 2) := dk_16 8 (dk_at dksX2_init_4 4 rfl rfl)
theorem dX2_init_100 : decode cX2_init 100 = .ok (.newarray .int, 2) := dk_188_10 (dk_at dksX2_init_4 6 rfl rfl)
theorem dX2_init_102 : decode cX2_init 102 = .ok (.putfield 50, 3) := dk_181 0 50 (dk_at dksX2_init_4 8 rfl rfl)
theorem dX2_init_105 : decode cX2_init 105 = .ok (.return_, 1) := dk_177 (dk_at dksX2_init_4 11 rfl rfl)
abbrev cX2_over : ByteArray := prog_2_method_12_code
def yX2_over : MethodName := ⟨RX2, "over", "([II)I"⟩
def dkwX2_over_1 : List UInt8 := [29, 172]
abbrev dktX2_over_1 : List UInt8 := dkwX2_over_1 ++ []
def dkwX2_over_0 : List UInt8 := [3, 62, 3, 54, 4, 21, 4, 28, 162, 0, 16, 29, 43, 21, 4, 46, 96, 62, 132, 4, 1, 167, 255, 240]
abbrev dktX2_over_0 : List UInt8 := dkwX2_over_0 ++ dktX2_over_1
theorem dksX2_over_0 : cX2_over.data.toList.drop 0 = dktX2_over_0 := by decide +kernel
theorem dksX2_over_1 : cX2_over.data.toList.drop 24 = dktX2_over_1 := dk_seg dksX2_over_0 24 rfl rfl
theorem dX2_over_0 : decode cX2_over 0 = .ok (.iconst 0, 1) := dk_3 (dk_at dksX2_over_0 0 rfl rfl)
theorem dX2_over_1 : decode cX2_over 1 = .ok (.istore_n 3, 1) := dk_62 (dk_at dksX2_over_0 1 rfl rfl)
theorem dX2_over_2 : decode cX2_over 2 = .ok (.iconst 0, 1) := dk_3 (dk_at dksX2_over_0 2 rfl rfl)
theorem dX2_over_3 : decode cX2_over 3 = .ok (.istore 4, 2) := dk_54 4 (dk_at dksX2_over_0 3 rfl rfl)
theorem dX2_over_5 : decode cX2_over 5 = .ok (.iload 4, 2) := dk_21 4 (dk_at dksX2_over_0 5 rfl rfl)
theorem dX2_over_7 : decode cX2_over 7 = .ok (.iload_n 2, 1) := dk_28 (dk_at dksX2_over_0 7 rfl rfl)
theorem dX2_over_8 : decode cX2_over 8 = .ok (.if_icmp .ge 16, 3) := dk_162 0 16 (dk_at dksX2_over_0 8 rfl rfl)
theorem dX2_over_11 : decode cX2_over 11 = .ok (.iload_n 3, 1) := dk_29 (dk_at dksX2_over_0 11 rfl rfl)
theorem dX2_over_12 : decode cX2_over 12 = .ok (.aload_n 1, 1) := dk_43 (dk_at dksX2_over_0 12 rfl rfl)
theorem dX2_over_13 : decode cX2_over 13 = .ok (.iload 4, 2) := dk_21 4 (dk_at dksX2_over_0 13 rfl rfl)
theorem dX2_over_15 : decode cX2_over 15 = .ok (.iaload, 1) := dk_46 (dk_at dksX2_over_0 15 rfl rfl)
theorem dX2_over_16 : decode cX2_over 16 = .ok (.iadd, 1) := dk_96 (dk_at dksX2_over_0 16 rfl rfl)
theorem dX2_over_17 : decode cX2_over 17 = .ok (.istore_n 3, 1) := dk_62 (dk_at dksX2_over_0 17 rfl rfl)
theorem dX2_over_18 : decode cX2_over 18 = .ok (.iinc 4 1, 3) := dk_132 4 1 (dk_at dksX2_over_0 18 rfl rfl)
theorem dX2_over_21 : decode cX2_over 21 = .ok (.goto (-16), 3) := dk_167 255 240 (dk_at dksX2_over_0 21 rfl rfl)
theorem dX2_over_24 : decode cX2_over 24 = .ok (.iload_n 3, 1) := dk_29 (dk_at dksX2_over_1 0 rfl rfl)
theorem dX2_over_25 : decode cX2_over 25 = .ok (.ireturn, 1) := dk_172 (dk_at dksX2_over_1 1 rfl rfl)
abbrev cX2_jammed : ByteArray := prog_2_method_14_code
def yX2_jammed : MethodName := ⟨RX2, "jammed", "()I"⟩
def dkwX2_jammed_1 : List UInt8 := [51, 153, 0, 7, 4, 167, 0, 4, 3, 96, 60, 132, 2, 1, 167, 255, 222, 27, 172]
abbrev dktX2_jammed_1 : List UInt8 := dkwX2_jammed_1 ++ []
def dkwX2_jammed_0 : List UInt8 := [3, 60, 3, 61, 28, 42, 180, 0, 3, 180, 0, 92, 182, 0, 121, 162, 0, 26, 27, 42, 180, 0, 22, 28]
abbrev dktX2_jammed_0 : List UInt8 := dkwX2_jammed_0 ++ dktX2_jammed_1
theorem dksX2_jammed_0 : cX2_jammed.data.toList.drop 0 = dktX2_jammed_0 := by decide +kernel
theorem dksX2_jammed_1 : cX2_jammed.data.toList.drop 24 = dktX2_jammed_1 := dk_seg dksX2_jammed_0 24 rfl rfl
theorem dX2_jammed_0 : decode cX2_jammed 0 = .ok (.iconst 0, 1) := dk_3 (dk_at dksX2_jammed_0 0 rfl rfl)
theorem dX2_jammed_1 : decode cX2_jammed 1 = .ok (.istore_n 1, 1) := dk_60 (dk_at dksX2_jammed_0 1 rfl rfl)
theorem dX2_jammed_2 : decode cX2_jammed 2 = .ok (.iconst 0, 1) := dk_3 (dk_at dksX2_jammed_0 2 rfl rfl)
theorem dX2_jammed_3 : decode cX2_jammed 3 = .ok (.istore_n 2, 1) := dk_61 (dk_at dksX2_jammed_0 3 rfl rfl)
theorem dX2_jammed_4 : decode cX2_jammed 4 = .ok (.iload_n 2, 1) := dk_28 (dk_at dksX2_jammed_0 4 rfl rfl)
theorem dX2_jammed_5 : decode cX2_jammed 5 = .ok (.aload_n 0, 1) := dk_42 (dk_at dksX2_jammed_0 5 rfl rfl)
theorem dX2_jammed_6 : decode cX2_jammed 6 = .ok (.getfield 3, 3) := dk_180 0 3 (dk_at dksX2_jammed_0 6 rfl rfl)
theorem dX2_jammed_9 : decode cX2_jammed 9 = .ok (.getfield 92, 3) := dk_180 0 92 (dk_at dksX2_jammed_0 9 rfl rfl)
theorem dX2_jammed_12 : decode cX2_jammed 12 = .ok (.invokevirtual 121, 3) := dk_182 0 121 (dk_at dksX2_jammed_0 12 rfl rfl)
theorem dX2_jammed_15 : decode cX2_jammed 15 = .ok (.if_icmp .ge 26, 3) := dk_162 0 26 (dk_at dksX2_jammed_0 15 rfl rfl)
theorem dX2_jammed_18 : decode cX2_jammed 18 = .ok (.iload_n 1, 1) := dk_27 (dk_at dksX2_jammed_0 18 rfl rfl)
theorem dX2_jammed_19 : decode cX2_jammed 19 = .ok (.aload_n 0, 1) := dk_42 (dk_at dksX2_jammed_0 19 rfl rfl)
theorem dX2_jammed_20 : decode cX2_jammed 20 = .ok (.getfield 22, 3) := dk_180 0 22 (dk_at dksX2_jammed_0 20 rfl rfl)
theorem dX2_jammed_23 : decode cX2_jammed 23 = .ok (.iload_n 2, 1) := dk_28 (dk_at dksX2_jammed_0 23 rfl rfl)
theorem dX2_jammed_24 : decode cX2_jammed 24 = .ok (.baload, 1) := dk_51 (dk_at dksX2_jammed_1 0 rfl rfl)
theorem dX2_jammed_25 : decode cX2_jammed 25 = .ok (.ifCond .eq 7, 3) := dk_153 0 7 (dk_at dksX2_jammed_1 1 rfl rfl)
theorem dX2_jammed_28 : decode cX2_jammed 28 = .ok (.iconst 1, 1) := dk_4 (dk_at dksX2_jammed_1 4 rfl rfl)
theorem dX2_jammed_29 : decode cX2_jammed 29 = .ok (.goto 4, 3) := dk_167 0 4 (dk_at dksX2_jammed_1 5 rfl rfl)
theorem dX2_jammed_32 : decode cX2_jammed 32 = .ok (.iconst 0, 1) := dk_3 (dk_at dksX2_jammed_1 8 rfl rfl)
theorem dX2_jammed_33 : decode cX2_jammed 33 = .ok (.iadd, 1) := dk_96 (dk_at dksX2_jammed_1 9 rfl rfl)
theorem dX2_jammed_34 : decode cX2_jammed 34 = .ok (.istore_n 1, 1) := dk_60 (dk_at dksX2_jammed_1 10 rfl rfl)
theorem dX2_jammed_35 : decode cX2_jammed 35 = .ok (.iinc 2 1, 3) := dk_132 2 1 (dk_at dksX2_jammed_1 11 rfl rfl)
theorem dX2_jammed_38 : decode cX2_jammed 38 = .ok (.goto (-34), 3) := dk_167 255 222 (dk_at dksX2_jammed_1 14 rfl rfl)
theorem dX2_jammed_41 : decode cX2_jammed 41 = .ok (.iload_n 1, 1) := dk_27 (dk_at dksX2_jammed_1 17 rfl rfl)
theorem dX2_jammed_42 : decode cX2_jammed 42 = .ok (.ireturn, 1) := dk_172 (dk_at dksX2_jammed_1 18 rfl rfl)
abbrev cX2_playersAt : ByteArray := prog_2_method_15_code
def yX2_playersAt : MethodName := ⟨RX2, "playersAt", "(I)I"⟩
def dkwX2_playersAt_1 : List UInt8 := [46, 27, 160, 0, 7, 4, 167, 0, 4, 3, 96, 61, 132, 3, 1, 167, 255, 221, 28, 172]
abbrev dktX2_playersAt_1 : List UInt8 := dkwX2_playersAt_1 ++ []
def dkwX2_playersAt_0 : List UInt8 := [3, 61, 3, 62, 29, 42, 180, 0, 3, 180, 0, 113, 182, 0, 121, 162, 0, 27, 28, 42, 180, 0, 38, 29]
abbrev dktX2_playersAt_0 : List UInt8 := dkwX2_playersAt_0 ++ dktX2_playersAt_1
theorem dksX2_playersAt_0 : cX2_playersAt.data.toList.drop 0 = dktX2_playersAt_0 := by decide +kernel
theorem dksX2_playersAt_1 : cX2_playersAt.data.toList.drop 24 = dktX2_playersAt_1 := dk_seg dksX2_playersAt_0 24 rfl rfl
theorem dX2_playersAt_0 : decode cX2_playersAt 0 = .ok (.iconst 0, 1) := dk_3 (dk_at dksX2_playersAt_0 0 rfl rfl)
theorem dX2_playersAt_1 : decode cX2_playersAt 1 = .ok (.istore_n 2, 1) := dk_61 (dk_at dksX2_playersAt_0 1 rfl rfl)
theorem dX2_playersAt_2 : decode cX2_playersAt 2 = .ok (.iconst 0, 1) := dk_3 (dk_at dksX2_playersAt_0 2 rfl rfl)
theorem dX2_playersAt_3 : decode cX2_playersAt 3 = .ok (.istore_n 3, 1) := dk_62 (dk_at dksX2_playersAt_0 3 rfl rfl)
theorem dX2_playersAt_4 : decode cX2_playersAt 4 = .ok (.iload_n 3, 1) := dk_29 (dk_at dksX2_playersAt_0 4 rfl rfl)
theorem dX2_playersAt_5 : decode cX2_playersAt 5 = .ok (.aload_n 0, 1) := dk_42 (dk_at dksX2_playersAt_0 5 rfl rfl)
theorem dX2_playersAt_6 : decode cX2_playersAt 6 = .ok (.getfield 3, 3) := dk_180 0 3 (dk_at dksX2_playersAt_0 6 rfl rfl)
theorem dX2_playersAt_9 : decode cX2_playersAt 9 = .ok (.getfield 113, 3) := dk_180 0 113 (dk_at dksX2_playersAt_0 9 rfl rfl)
theorem dX2_playersAt_12 : decode cX2_playersAt 12 = .ok (.invokevirtual 121, 3) := dk_182 0 121 (dk_at dksX2_playersAt_0 12 rfl rfl)
theorem dX2_playersAt_15 : decode cX2_playersAt 15 = .ok (.if_icmp .ge 27, 3) := dk_162 0 27 (dk_at dksX2_playersAt_0 15 rfl rfl)
theorem dX2_playersAt_18 : decode cX2_playersAt 18 = .ok (.iload_n 2, 1) := dk_28 (dk_at dksX2_playersAt_0 18 rfl rfl)
theorem dX2_playersAt_19 : decode cX2_playersAt 19 = .ok (.aload_n 0, 1) := dk_42 (dk_at dksX2_playersAt_0 19 rfl rfl)
theorem dX2_playersAt_20 : decode cX2_playersAt 20 = .ok (.getfield 38, 3) := dk_180 0 38 (dk_at dksX2_playersAt_0 20 rfl rfl)
theorem dX2_playersAt_23 : decode cX2_playersAt 23 = .ok (.iload_n 3, 1) := dk_29 (dk_at dksX2_playersAt_0 23 rfl rfl)
theorem dX2_playersAt_24 : decode cX2_playersAt 24 = .ok (.iaload, 1) := dk_46 (dk_at dksX2_playersAt_1 0 rfl rfl)
theorem dX2_playersAt_25 : decode cX2_playersAt 25 = .ok (.iload_n 1, 1) := dk_27 (dk_at dksX2_playersAt_1 1 rfl rfl)
theorem dX2_playersAt_26 : decode cX2_playersAt 26 = .ok (.if_icmp .ne 7, 3) := dk_160 0 7 (dk_at dksX2_playersAt_1 2 rfl rfl)
theorem dX2_playersAt_29 : decode cX2_playersAt 29 = .ok (.iconst 1, 1) := dk_4 (dk_at dksX2_playersAt_1 5 rfl rfl)
theorem dX2_playersAt_30 : decode cX2_playersAt 30 = .ok (.goto 4, 3) := dk_167 0 4 (dk_at dksX2_playersAt_1 6 rfl rfl)
theorem dX2_playersAt_33 : decode cX2_playersAt 33 = .ok (.iconst 0, 1) := dk_3 (dk_at dksX2_playersAt_1 9 rfl rfl)
theorem dX2_playersAt_34 : decode cX2_playersAt 34 = .ok (.iadd, 1) := dk_96 (dk_at dksX2_playersAt_1 10 rfl rfl)
theorem dX2_playersAt_35 : decode cX2_playersAt 35 = .ok (.istore_n 2, 1) := dk_61 (dk_at dksX2_playersAt_1 11 rfl rfl)
theorem dX2_playersAt_36 : decode cX2_playersAt 36 = .ok (.iinc 3 1, 3) := dk_132 3 1 (dk_at dksX2_playersAt_1 12 rfl rfl)
theorem dX2_playersAt_39 : decode cX2_playersAt 39 = .ok (.goto (-35), 3) := dk_167 255 221 (dk_at dksX2_playersAt_1 15 rfl rfl)
theorem dX2_playersAt_42 : decode cX2_playersAt 42 = .ok (.iload_n 2, 1) := dk_28 (dk_at dksX2_playersAt_1 18 rfl rfl)
theorem dX2_playersAt_43 : decode cX2_playersAt 43 = .ok (.ireturn, 1) := dk_172 (dk_at dksX2_playersAt_1 19 rfl rfl)
abbrev cX2_inBoxes : ByteArray := prog_2_method_13_code
def yX2_inBoxes : MethodName := ⟨RX2, "inBoxes", "()I"⟩
def dkwX2_inBoxes_0 : List UInt8 := [42, 42, 180, 0, 15, 42, 180, 0, 3, 180, 0, 92, 182, 0, 121, 182, 0, 139, 172]
abbrev dktX2_inBoxes_0 : List UInt8 := dkwX2_inBoxes_0 ++ []
theorem dksX2_inBoxes_0 : cX2_inBoxes.data.toList.drop 0 = dktX2_inBoxes_0 := by decide +kernel
theorem dX2_inBoxes_0 : decode cX2_inBoxes 0 = .ok (.aload_n 0, 1) := dk_42 (dk_at dksX2_inBoxes_0 0 rfl rfl)
theorem dX2_inBoxes_1 : decode cX2_inBoxes 1 = .ok (.aload_n 0, 1) := dk_42 (dk_at dksX2_inBoxes_0 1 rfl rfl)
theorem dX2_inBoxes_2 : decode cX2_inBoxes 2 = .ok (.getfield 15, 3) := dk_180 0 15 (dk_at dksX2_inBoxes_0 2 rfl rfl)
theorem dX2_inBoxes_5 : decode cX2_inBoxes 5 = .ok (.aload_n 0, 1) := dk_42 (dk_at dksX2_inBoxes_0 5 rfl rfl)
theorem dX2_inBoxes_6 : decode cX2_inBoxes 6 = .ok (.getfield 3, 3) := dk_180 0 3 (dk_at dksX2_inBoxes_0 6 rfl rfl)
theorem dX2_inBoxes_9 : decode cX2_inBoxes 9 = .ok (.getfield 92, 3) := dk_180 0 92 (dk_at dksX2_inBoxes_0 9 rfl rfl)
theorem dX2_inBoxes_12 : decode cX2_inBoxes 12 = .ok (.invokevirtual 121, 3) := dk_182 0 121 (dk_at dksX2_inBoxes_0 12 rfl rfl)
theorem dX2_inBoxes_15 : decode cX2_inBoxes 15 = .ok (.invokevirtual 139, 3) := dk_182 0 139 (dk_at dksX2_inBoxes_0 15 rfl rfl)
theorem dX2_inBoxes_18 : decode cX2_inBoxes 18 = .ok (.ireturn, 1) := dk_172 (dk_at dksX2_inBoxes_0 18 rfl rfl)
abbrev cX2_onLedge : ByteArray := prog_2_method_3_code
def yX2_onLedge : MethodName := ⟨RX2, "onLedge", "(I)I"⟩
def dkwX2_onLedge_1 : List UInt8 := [132, 3, 1, 167, 255, 235, 28, 172]
abbrev dktX2_onLedge_1 : List UInt8 := dkwX2_onLedge_1 ++ []
def dkwX2_onLedge_0 : List UInt8 := [3, 61, 3, 62, 29, 8, 162, 0, 22, 28, 42, 180, 0, 32, 8, 27, 104, 29, 96, 46, 96, 61]
abbrev dktX2_onLedge_0 : List UInt8 := dkwX2_onLedge_0 ++ dktX2_onLedge_1
theorem dksX2_onLedge_0 : cX2_onLedge.data.toList.drop 0 = dktX2_onLedge_0 := by decide +kernel
theorem dksX2_onLedge_1 : cX2_onLedge.data.toList.drop 22 = dktX2_onLedge_1 := dk_seg dksX2_onLedge_0 22 rfl rfl
theorem dX2_onLedge_0 : decode cX2_onLedge 0 = .ok (.iconst 0, 1) := dk_3 (dk_at dksX2_onLedge_0 0 rfl rfl)
theorem dX2_onLedge_1 : decode cX2_onLedge 1 = .ok (.istore_n 2, 1) := dk_61 (dk_at dksX2_onLedge_0 1 rfl rfl)
theorem dX2_onLedge_2 : decode cX2_onLedge 2 = .ok (.iconst 0, 1) := dk_3 (dk_at dksX2_onLedge_0 2 rfl rfl)
theorem dX2_onLedge_3 : decode cX2_onLedge 3 = .ok (.istore_n 3, 1) := dk_62 (dk_at dksX2_onLedge_0 3 rfl rfl)
theorem dX2_onLedge_4 : decode cX2_onLedge 4 = .ok (.iload_n 3, 1) := dk_29 (dk_at dksX2_onLedge_0 4 rfl rfl)
theorem dX2_onLedge_5 : decode cX2_onLedge 5 = .ok (.iconst 5, 1) := dk_8 (dk_at dksX2_onLedge_0 5 rfl rfl)
theorem dX2_onLedge_6 : decode cX2_onLedge 6 = .ok (.if_icmp .ge 22, 3) := dk_162 0 22 (dk_at dksX2_onLedge_0 6 rfl rfl)
theorem dX2_onLedge_9 : decode cX2_onLedge 9 = .ok (.iload_n 2, 1) := dk_28 (dk_at dksX2_onLedge_0 9 rfl rfl)
theorem dX2_onLedge_10 : decode cX2_onLedge 10 = .ok (.aload_n 0, 1) := dk_42 (dk_at dksX2_onLedge_0 10 rfl rfl)
theorem dX2_onLedge_11 : decode cX2_onLedge 11 = .ok (.getfield 32, 3) := dk_180 0 32 (dk_at dksX2_onLedge_0 11 rfl rfl)
theorem dX2_onLedge_14 : decode cX2_onLedge 14 = .ok (.iconst 5, 1) := dk_8 (dk_at dksX2_onLedge_0 14 rfl rfl)
theorem dX2_onLedge_15 : decode cX2_onLedge 15 = .ok (.iload_n 1, 1) := dk_27 (dk_at dksX2_onLedge_0 15 rfl rfl)
theorem dX2_onLedge_16 : decode cX2_onLedge 16 = .ok (.imul, 1) := dk_104 (dk_at dksX2_onLedge_0 16 rfl rfl)
theorem dX2_onLedge_17 : decode cX2_onLedge 17 = .ok (.iload_n 3, 1) := dk_29 (dk_at dksX2_onLedge_0 17 rfl rfl)
theorem dX2_onLedge_18 : decode cX2_onLedge 18 = .ok (.iadd, 1) := dk_96 (dk_at dksX2_onLedge_0 18 rfl rfl)
theorem dX2_onLedge_19 : decode cX2_onLedge 19 = .ok (.iaload, 1) := dk_46 (dk_at dksX2_onLedge_0 19 rfl rfl)
theorem dX2_onLedge_20 : decode cX2_onLedge 20 = .ok (.iadd, 1) := dk_96 (dk_at dksX2_onLedge_0 20 rfl rfl)
theorem dX2_onLedge_21 : decode cX2_onLedge 21 = .ok (.istore_n 2, 1) := dk_61 (dk_at dksX2_onLedge_0 21 rfl rfl)
theorem dX2_onLedge_22 : decode cX2_onLedge 22 = .ok (.iinc 3 1, 3) := dk_132 3 1 (dk_at dksX2_onLedge_1 0 rfl rfl)
theorem dX2_onLedge_25 : decode cX2_onLedge 25 = .ok (.goto (-21), 3) := dk_167 255 235 (dk_at dksX2_onLedge_1 3 rfl rfl)
theorem dX2_onLedge_28 : decode cX2_onLedge 28 = .ok (.iload_n 2, 1) := dk_28 (dk_at dksX2_onLedge_1 6 rfl rfl)
theorem dX2_onLedge_29 : decode cX2_onLedge 29 = .ok (.ireturn, 1) := dk_172 (dk_at dksX2_onLedge_1 7 rfl rfl)
abbrev cX2_send : ByteArray := prog_2_method_5_code
def yX2_send : MethodName := ⟨RX2, "send", "(II)V"⟩
def dkwX2_send_0 : List UInt8 := [42, 180, 0, 38, 27, 28, 79, 42, 180, 0, 41, 27, 3, 79, 177]
abbrev dktX2_send_0 : List UInt8 := dkwX2_send_0 ++ []
theorem dksX2_send_0 : cX2_send.data.toList.drop 0 = dktX2_send_0 := by decide +kernel
theorem dX2_send_0 : decode cX2_send 0 = .ok (.aload_n 0, 1) := dk_42 (dk_at dksX2_send_0 0 rfl rfl)
theorem dX2_send_1 : decode cX2_send 1 = .ok (.getfield 38, 3) := dk_180 0 38 (dk_at dksX2_send_0 1 rfl rfl)
theorem dX2_send_4 : decode cX2_send 4 = .ok (.iload_n 1, 1) := dk_27 (dk_at dksX2_send_0 4 rfl rfl)
theorem dX2_send_5 : decode cX2_send 5 = .ok (.iload_n 2, 1) := dk_28 (dk_at dksX2_send_0 5 rfl rfl)
theorem dX2_send_6 : decode cX2_send 6 = .ok (.iastore, 1) := dk_79 (dk_at dksX2_send_0 6 rfl rfl)
theorem dX2_send_7 : decode cX2_send 7 = .ok (.aload_n 0, 1) := dk_42 (dk_at dksX2_send_0 7 rfl rfl)
theorem dX2_send_8 : decode cX2_send 8 = .ok (.getfield 41, 3) := dk_180 0 41 (dk_at dksX2_send_0 8 rfl rfl)
theorem dX2_send_11 : decode cX2_send 11 = .ok (.iload_n 1, 1) := dk_27 (dk_at dksX2_send_0 11 rfl rfl)
theorem dX2_send_12 : decode cX2_send 12 = .ok (.iconst 0, 1) := dk_3 (dk_at dksX2_send_0 12 rfl rfl)
theorem dX2_send_13 : decode cX2_send 13 = .ok (.iastore, 1) := dk_79 (dk_at dksX2_send_0 13 rfl rfl)
theorem dX2_send_14 : decode cX2_send 14 = .ok (.return_, 1) := dk_177 (dk_at dksX2_send_0 14 rfl rfl)
abbrev cX2_play : ByteArray := prog_2_method_4_code
def yX2_play : MethodName := ⟨RX2, "play", "(ILPennyArcade$Machine;II)I"⟩
def dkwX2_play_6 : List UInt8 := [21, 6, 172]
abbrev dktX2_play_6 : List UInt8 := dkwX2_play_6 ++ []
def dkwX2_play_5 : List UInt8 := [161, 0, 20, 42, 180, 0, 19, 21, 5, 46, 16, 10, 112, 154, 0, 7, 4, 167, 0, 4, 3, 128, 84]
abbrev dktX2_play_5 : List UInt8 := dkwX2_play_5 ++ dktX2_play_6
def dkwX2_play_4 : List UInt8 := [46, 4, 96, 184, 0, 78, 79, 42, 180, 0, 22, 21, 5, 92, 51, 42, 180, 0, 19, 21, 5, 46, 16, 20]
abbrev dktX2_play_4 : List UInt8 := dkwX2_play_4 ++ dktX2_play_5
def dkwX2_play_3 : List UInt8 := [180, 0, 35, 27, 92, 46, 21, 6, 96, 79, 42, 180, 0, 19, 21, 5, 16, 100, 42, 180, 0, 19, 21, 5]
abbrev dktX2_play_3 : List UInt8 := dkwX2_play_3 ++ dktX2_play_4
def dkwX2_play_2 : List UInt8 := [180, 0, 29, 21, 5, 92, 46, 21, 6, 96, 79, 42, 180, 0, 47, 27, 92, 46, 21, 6, 96, 79, 42]
abbrev dktX2_play_2 : List UInt8 := dkwX2_play_2 ++ dktX2_play_3
def dkwX2_play_1 : List UInt8 := [96, 79, 42, 180, 0, 26, 21, 5, 92, 46, 4, 96, 79, 44, 42, 29, 21, 4, 182, 0, 74, 54, 6, 42]
abbrev dktX2_play_1 : List UInt8 := dkwX2_play_1 ++ dktX2_play_2
def dkwX2_play_0 : List UInt8 := [44, 180, 0, 69, 54, 5, 42, 180, 0, 35, 27, 92, 46, 4, 100, 79, 42, 180, 0, 44, 27, 92, 46, 4]
abbrev dktX2_play_0 : List UInt8 := dkwX2_play_0 ++ dktX2_play_1
theorem dksX2_play_0 : cX2_play.data.toList.drop 0 = dktX2_play_0 := by decide +kernel
theorem dksX2_play_1 : cX2_play.data.toList.drop 24 = dktX2_play_1 := dk_seg dksX2_play_0 24 rfl rfl
theorem dksX2_play_2 : cX2_play.data.toList.drop 48 = dktX2_play_2 := dk_seg dksX2_play_1 24 rfl rfl
theorem dksX2_play_3 : cX2_play.data.toList.drop 71 = dktX2_play_3 := dk_seg dksX2_play_2 23 rfl rfl
theorem dksX2_play_4 : cX2_play.data.toList.drop 95 = dktX2_play_4 := dk_seg dksX2_play_3 24 rfl rfl
theorem dksX2_play_5 : cX2_play.data.toList.drop 119 = dktX2_play_5 := dk_seg dksX2_play_4 24 rfl rfl
theorem dksX2_play_6 : cX2_play.data.toList.drop 142 = dktX2_play_6 := dk_seg dksX2_play_5 23 rfl rfl
theorem dX2_play_0 : decode cX2_play 0 = .ok (.aload_n 2, 1) := dk_44 (dk_at dksX2_play_0 0 rfl rfl)
theorem dX2_play_1 : decode cX2_play 1 = .ok (.getfield 69, 3) := dk_180 0 69 (dk_at dksX2_play_0 1 rfl rfl)
theorem dX2_play_4 : decode cX2_play 4 = .ok (.istore 5, 2) := dk_54 5 (dk_at dksX2_play_0 4 rfl rfl)
theorem dX2_play_6 : decode cX2_play 6 = .ok (.aload_n 0, 1) := dk_42 (dk_at dksX2_play_0 6 rfl rfl)
theorem dX2_play_7 : decode cX2_play 7 = .ok (.getfield 35, 3) := dk_180 0 35 (dk_at dksX2_play_0 7 rfl rfl)
theorem dX2_play_10 : decode cX2_play 10 = .ok (.iload_n 1, 1) := dk_27 (dk_at dksX2_play_0 10 rfl rfl)
theorem dX2_play_11 : decode cX2_play 11 = .ok (.dup2, 1) := dk_92 (dk_at dksX2_play_0 11 rfl rfl)
theorem dX2_play_12 : decode cX2_play 12 = .ok (.iaload, 1) := dk_46 (dk_at dksX2_play_0 12 rfl rfl)
theorem dX2_play_13 : decode cX2_play 13 = .ok (.iconst 1, 1) := dk_4 (dk_at dksX2_play_0 13 rfl rfl)
theorem dX2_play_14 : decode cX2_play 14 = .ok (.isub, 1) := dk_100 (dk_at dksX2_play_0 14 rfl rfl)
theorem dX2_play_15 : decode cX2_play 15 = .ok (.iastore, 1) := dk_79 (dk_at dksX2_play_0 15 rfl rfl)
theorem dX2_play_16 : decode cX2_play 16 = .ok (.aload_n 0, 1) := dk_42 (dk_at dksX2_play_0 16 rfl rfl)
theorem dX2_play_17 : decode cX2_play 17 = .ok (.getfield 44, 3) := dk_180 0 44 (dk_at dksX2_play_0 17 rfl rfl)
theorem dX2_play_20 : decode cX2_play 20 = .ok (.iload_n 1, 1) := dk_27 (dk_at dksX2_play_0 20 rfl rfl)
theorem dX2_play_21 : decode cX2_play 21 = .ok (.dup2, 1) := dk_92 (dk_at dksX2_play_0 21 rfl rfl)
theorem dX2_play_22 : decode cX2_play 22 = .ok (.iaload, 1) := dk_46 (dk_at dksX2_play_0 22 rfl rfl)
theorem dX2_play_23 : decode cX2_play 23 = .ok (.iconst 1, 1) := dk_4 (dk_at dksX2_play_0 23 rfl rfl)
theorem dX2_play_24 : decode cX2_play 24 = .ok (.iadd, 1) := dk_96 (dk_at dksX2_play_1 0 rfl rfl)
theorem dX2_play_25 : decode cX2_play 25 = .ok (.iastore, 1) := dk_79 (dk_at dksX2_play_1 1 rfl rfl)
theorem dX2_play_26 : decode cX2_play 26 = .ok (.aload_n 0, 1) := dk_42 (dk_at dksX2_play_1 2 rfl rfl)
theorem dX2_play_27 : decode cX2_play 27 = .ok (.getfield 26, 3) := dk_180 0 26 (dk_at dksX2_play_1 3 rfl rfl)
theorem dX2_play_30 : decode cX2_play 30 = .ok (.iload 5, 2) := dk_21 5 (dk_at dksX2_play_1 6 rfl rfl)
theorem dX2_play_32 : decode cX2_play 32 = .ok (.dup2, 1) := dk_92 (dk_at dksX2_play_1 8 rfl rfl)
theorem dX2_play_33 : decode cX2_play 33 = .ok (.iaload, 1) := dk_46 (dk_at dksX2_play_1 9 rfl rfl)
theorem dX2_play_34 : decode cX2_play 34 = .ok (.iconst 1, 1) := dk_4 (dk_at dksX2_play_1 10 rfl rfl)
theorem dX2_play_35 : decode cX2_play 35 = .ok (.iadd, 1) := dk_96 (dk_at dksX2_play_1 11 rfl rfl)
theorem dX2_play_36 : decode cX2_play 36 = .ok (.iastore, 1) := dk_79 (dk_at dksX2_play_1 12 rfl rfl)
theorem dX2_play_37 : decode cX2_play 37 = .ok (.aload_n 2, 1) := dk_44 (dk_at dksX2_play_1 13 rfl rfl)
theorem dX2_play_38 : decode cX2_play 38 = .ok (.aload_n 0, 1) := dk_42 (dk_at dksX2_play_1 14 rfl rfl)
theorem dX2_play_39 : decode cX2_play 39 = .ok (.iload_n 3, 1) := dk_29 (dk_at dksX2_play_1 15 rfl rfl)
theorem dX2_play_40 : decode cX2_play 40 = .ok (.iload 4, 2) := dk_21 4 (dk_at dksX2_play_1 16 rfl rfl)
theorem dX2_play_42 : decode cX2_play 42 = .ok (.invokevirtual 74, 3) := dk_182 0 74 (dk_at dksX2_play_1 18 rfl rfl)
theorem dX2_play_45 : decode cX2_play 45 = .ok (.istore 6, 2) := dk_54 6 (dk_at dksX2_play_1 21 rfl rfl)
theorem dX2_play_47 : decode cX2_play 47 = .ok (.aload_n 0, 1) := dk_42 (dk_at dksX2_play_1 23 rfl rfl)
theorem dX2_play_48 : decode cX2_play 48 = .ok (.getfield 29, 3) := dk_180 0 29 (dk_at dksX2_play_2 0 rfl rfl)
theorem dX2_play_51 : decode cX2_play 51 = .ok (.iload 5, 2) := dk_21 5 (dk_at dksX2_play_2 3 rfl rfl)
theorem dX2_play_53 : decode cX2_play 53 = .ok (.dup2, 1) := dk_92 (dk_at dksX2_play_2 5 rfl rfl)
theorem dX2_play_54 : decode cX2_play 54 = .ok (.iaload, 1) := dk_46 (dk_at dksX2_play_2 6 rfl rfl)
theorem dX2_play_55 : decode cX2_play 55 = .ok (.iload 6, 2) := dk_21 6 (dk_at dksX2_play_2 7 rfl rfl)
theorem dX2_play_57 : decode cX2_play 57 = .ok (.iadd, 1) := dk_96 (dk_at dksX2_play_2 9 rfl rfl)
theorem dX2_play_58 : decode cX2_play 58 = .ok (.iastore, 1) := dk_79 (dk_at dksX2_play_2 10 rfl rfl)
theorem dX2_play_59 : decode cX2_play 59 = .ok (.aload_n 0, 1) := dk_42 (dk_at dksX2_play_2 11 rfl rfl)
theorem dX2_play_60 : decode cX2_play 60 = .ok (.getfield 47, 3) := dk_180 0 47 (dk_at dksX2_play_2 12 rfl rfl)
theorem dX2_play_63 : decode cX2_play 63 = .ok (.iload_n 1, 1) := dk_27 (dk_at dksX2_play_2 15 rfl rfl)
theorem dX2_play_64 : decode cX2_play 64 = .ok (.dup2, 1) := dk_92 (dk_at dksX2_play_2 16 rfl rfl)
theorem dX2_play_65 : decode cX2_play 65 = .ok (.iaload, 1) := dk_46 (dk_at dksX2_play_2 17 rfl rfl)
theorem dX2_play_66 : decode cX2_play 66 = .ok (.iload 6, 2) := dk_21 6 (dk_at dksX2_play_2 18 rfl rfl)
theorem dX2_play_68 : decode cX2_play 68 = .ok (.iadd, 1) := dk_96 (dk_at dksX2_play_2 20 rfl rfl)
theorem dX2_play_69 : decode cX2_play 69 = .ok (.iastore, 1) := dk_79 (dk_at dksX2_play_2 21 rfl rfl)
theorem dX2_play_70 : decode cX2_play 70 = .ok (.aload_n 0, 1) := dk_42 (dk_at dksX2_play_2 22 rfl rfl)
theorem dX2_play_71 : decode cX2_play 71 = .ok (.getfield 35, 3) := dk_180 0 35 (dk_at dksX2_play_3 0 rfl rfl)
theorem dX2_play_74 : decode cX2_play 74 = .ok (.iload_n 1, 1) := dk_27 (dk_at dksX2_play_3 3 rfl rfl)
theorem dX2_play_75 : decode cX2_play 75 = .ok (.dup2, 1) := dk_92 (dk_at dksX2_play_3 4 rfl rfl)
theorem dX2_play_76 : decode cX2_play 76 = .ok (.iaload, 1) := dk_46 (dk_at dksX2_play_3 5 rfl rfl)
theorem dX2_play_77 : decode cX2_play 77 = .ok (.iload 6, 2) := dk_21 6 (dk_at dksX2_play_3 6 rfl rfl)
theorem dX2_play_79 : decode cX2_play 79 = .ok (.iadd, 1) := dk_96 (dk_at dksX2_play_3 8 rfl rfl)
theorem dX2_play_80 : decode cX2_play 80 = .ok (.iastore, 1) := dk_79 (dk_at dksX2_play_3 9 rfl rfl)
theorem dX2_play_81 : decode cX2_play 81 = .ok (.aload_n 0, 1) := dk_42 (dk_at dksX2_play_3 10 rfl rfl)
theorem dX2_play_82 : decode cX2_play 82 = .ok (.getfield 19, 3) := dk_180 0 19 (dk_at dksX2_play_3 11 rfl rfl)
theorem dX2_play_85 : decode cX2_play 85 = .ok (.iload 5, 2) := dk_21 5 (dk_at dksX2_play_3 14 rfl rfl)
theorem dX2_play_87 : decode cX2_play 87 = .ok (.bipush 100, 2) := dk_16 100 (dk_at dksX2_play_3 16 rfl rfl)
theorem dX2_play_89 : decode cX2_play 89 = .ok (.aload_n 0, 1) := dk_42 (dk_at dksX2_play_3 18 rfl rfl)
theorem dX2_play_90 : decode cX2_play 90 = .ok (.getfield 19, 3) := dk_180 0 19 (dk_at dksX2_play_3 19 rfl rfl)
theorem dX2_play_93 : decode cX2_play 93 = .ok (.iload 5, 2) := dk_21 5 (dk_at dksX2_play_3 22 rfl rfl)
theorem dX2_play_95 : decode cX2_play 95 = .ok (.iaload, 1) := dk_46 (dk_at dksX2_play_4 0 rfl rfl)
theorem dX2_play_96 : decode cX2_play 96 = .ok (.iconst 1, 1) := dk_4 (dk_at dksX2_play_4 1 rfl rfl)
theorem dX2_play_97 : decode cX2_play 97 = .ok (.iadd, 1) := dk_96 (dk_at dksX2_play_4 2 rfl rfl)
theorem dX2_play_98 : decode cX2_play 98 = .ok (.invokestatic 78, 3) := dk_184 0 78 (dk_at dksX2_play_4 3 rfl rfl)
theorem dX2_play_101 : decode cX2_play 101 = .ok (.iastore, 1) := dk_79 (dk_at dksX2_play_4 6 rfl rfl)
theorem dX2_play_102 : decode cX2_play 102 = .ok (.aload_n 0, 1) := dk_42 (dk_at dksX2_play_4 7 rfl rfl)
theorem dX2_play_103 : decode cX2_play 103 = .ok (.getfield 22, 3) := dk_180 0 22 (dk_at dksX2_play_4 8 rfl rfl)
theorem dX2_play_106 : decode cX2_play 106 = .ok (.iload 5, 2) := dk_21 5 (dk_at dksX2_play_4 11 rfl rfl)
theorem dX2_play_108 : decode cX2_play 108 = .ok (.dup2, 1) := dk_92 (dk_at dksX2_play_4 13 rfl rfl)
theorem dX2_play_109 : decode cX2_play 109 = .ok (.baload, 1) := dk_51 (dk_at dksX2_play_4 14 rfl rfl)
theorem dX2_play_110 : decode cX2_play 110 = .ok (.aload_n 0, 1) := dk_42 (dk_at dksX2_play_4 15 rfl rfl)
theorem dX2_play_111 : decode cX2_play 111 = .ok (.getfield 19, 3) := dk_180 0 19 (dk_at dksX2_play_4 16 rfl rfl)
theorem dX2_play_114 : decode cX2_play 114 = .ok (.iload 5, 2) := dk_21 5 (dk_at dksX2_play_4 19 rfl rfl)
theorem dX2_play_116 : decode cX2_play 116 = .ok (.iaload, 1) := dk_46 (dk_at dksX2_play_4 21 rfl rfl)
theorem dX2_play_117 : decode cX2_play 117 = .ok (.bipush 20, 2) := dk_16 20 (dk_at dksX2_play_4 22 rfl rfl)
theorem dX2_play_119 : decode cX2_play 119 = .ok (.if_icmp .lt 20, 3) := dk_161 0 20 (dk_at dksX2_play_5 0 rfl rfl)
theorem dX2_play_122 : decode cX2_play 122 = .ok (.aload_n 0, 1) := dk_42 (dk_at dksX2_play_5 3 rfl rfl)
theorem dX2_play_123 : decode cX2_play 123 = .ok (.getfield 19, 3) := dk_180 0 19 (dk_at dksX2_play_5 4 rfl rfl)
theorem dX2_play_126 : decode cX2_play 126 = .ok (.iload 5, 2) := dk_21 5 (dk_at dksX2_play_5 7 rfl rfl)
theorem dX2_play_128 : decode cX2_play 128 = .ok (.iaload, 1) := dk_46 (dk_at dksX2_play_5 9 rfl rfl)
theorem dX2_play_129 : decode cX2_play 129 = .ok (.bipush 10, 2) := dk_16 10 (dk_at dksX2_play_5 10 rfl rfl)
theorem dX2_play_131 : decode cX2_play 131 = .ok (.irem, 1) := dk_112 (dk_at dksX2_play_5 12 rfl rfl)
theorem dX2_play_132 : decode cX2_play 132 = .ok (.ifCond .ne 7, 3) := dk_154 0 7 (dk_at dksX2_play_5 13 rfl rfl)
theorem dX2_play_135 : decode cX2_play 135 = .ok (.iconst 1, 1) := dk_4 (dk_at dksX2_play_5 16 rfl rfl)
theorem dX2_play_136 : decode cX2_play 136 = .ok (.goto 4, 3) := dk_167 0 4 (dk_at dksX2_play_5 17 rfl rfl)
theorem dX2_play_139 : decode cX2_play 139 = .ok (.iconst 0, 1) := dk_3 (dk_at dksX2_play_5 20 rfl rfl)
theorem dX2_play_140 : decode cX2_play 140 = .ok (.ior, 1) := dk_128 (dk_at dksX2_play_5 21 rfl rfl)
theorem dX2_play_141 : decode cX2_play 141 = .ok (.bastore, 1) := dk_84 (dk_at dksX2_play_5 22 rfl rfl)
theorem dX2_play_142 : decode cX2_play 142 = .ok (.iload 6, 2) := dk_21 6 (dk_at dksX2_play_6 0 rfl rfl)
theorem dX2_play_144 : decode cX2_play 144 = .ok (.ireturn, 1) := dk_172 (dk_at dksX2_play_6 2 rfl rfl)
abbrev cX2_placeOf : ByteArray := prog_2_method_8_code
def yX2_placeOf : MethodName := ⟨RX2, "placeOf", "(I)I"⟩
def dkwX2_placeOf_1 : List UInt8 := [132, 2, 1, 167, 255, 233, 2, 172]
abbrev dktX2_placeOf_1 : List UInt8 := dkwX2_placeOf_1 ++ []
def dkwX2_placeOf_0 : List UInt8 := [3, 61, 28, 42, 180, 0, 63, 162, 0, 21, 42, 180, 0, 50, 28, 46, 27, 160, 0, 5, 28, 172]
abbrev dktX2_placeOf_0 : List UInt8 := dkwX2_placeOf_0 ++ dktX2_placeOf_1
theorem dksX2_placeOf_0 : cX2_placeOf.data.toList.drop 0 = dktX2_placeOf_0 := by decide +kernel
theorem dksX2_placeOf_1 : cX2_placeOf.data.toList.drop 22 = dktX2_placeOf_1 := dk_seg dksX2_placeOf_0 22 rfl rfl
theorem dX2_placeOf_0 : decode cX2_placeOf 0 = .ok (.iconst 0, 1) := dk_3 (dk_at dksX2_placeOf_0 0 rfl rfl)
theorem dX2_placeOf_1 : decode cX2_placeOf 1 = .ok (.istore_n 2, 1) := dk_61 (dk_at dksX2_placeOf_0 1 rfl rfl)
theorem dX2_placeOf_2 : decode cX2_placeOf 2 = .ok (.iload_n 2, 1) := dk_28 (dk_at dksX2_placeOf_0 2 rfl rfl)
theorem dX2_placeOf_3 : decode cX2_placeOf 3 = .ok (.aload_n 0, 1) := dk_42 (dk_at dksX2_placeOf_0 3 rfl rfl)
theorem dX2_placeOf_4 : decode cX2_placeOf 4 = .ok (.getfield 63, 3) := dk_180 0 63 (dk_at dksX2_placeOf_0 4 rfl rfl)
theorem dX2_placeOf_7 : decode cX2_placeOf 7 = .ok (.if_icmp .ge 21, 3) := dk_162 0 21 (dk_at dksX2_placeOf_0 7 rfl rfl)
theorem dX2_placeOf_10 : decode cX2_placeOf 10 = .ok (.aload_n 0, 1) := dk_42 (dk_at dksX2_placeOf_0 10 rfl rfl)
theorem dX2_placeOf_11 : decode cX2_placeOf 11 = .ok (.getfield 50, 3) := dk_180 0 50 (dk_at dksX2_placeOf_0 11 rfl rfl)
theorem dX2_placeOf_14 : decode cX2_placeOf 14 = .ok (.iload_n 2, 1) := dk_28 (dk_at dksX2_placeOf_0 14 rfl rfl)
theorem dX2_placeOf_15 : decode cX2_placeOf 15 = .ok (.iaload, 1) := dk_46 (dk_at dksX2_placeOf_0 15 rfl rfl)
theorem dX2_placeOf_16 : decode cX2_placeOf 16 = .ok (.iload_n 1, 1) := dk_27 (dk_at dksX2_placeOf_0 16 rfl rfl)
theorem dX2_placeOf_17 : decode cX2_placeOf 17 = .ok (.if_icmp .ne 5, 3) := dk_160 0 5 (dk_at dksX2_placeOf_0 17 rfl rfl)
theorem dX2_placeOf_20 : decode cX2_placeOf 20 = .ok (.iload_n 2, 1) := dk_28 (dk_at dksX2_placeOf_0 20 rfl rfl)
theorem dX2_placeOf_21 : decode cX2_placeOf 21 = .ok (.ireturn, 1) := dk_172 (dk_at dksX2_placeOf_0 21 rfl rfl)
theorem dX2_placeOf_22 : decode cX2_placeOf 22 = .ok (.iinc 2 1, 3) := dk_132 2 1 (dk_at dksX2_placeOf_1 0 rfl rfl)
theorem dX2_placeOf_25 : decode cX2_placeOf 25 = .ok (.goto (-23), 3) := dk_167 255 233 (dk_at dksX2_placeOf_1 3 rfl rfl)
theorem dX2_placeOf_28 : decode cX2_placeOf 28 = .ok (.iconst (-1), 1) := dk_2 (dk_at dksX2_placeOf_1 6 rfl rfl)
theorem dX2_placeOf_29 : decode cX2_placeOf 29 = .ok (.ireturn, 1) := dk_172 (dk_at dksX2_placeOf_1 7 rfl rfl)
abbrev cX2_call : ByteArray := prog_2_method_9_code
def yX2_call : MethodName := ⟨RX2, "call", "(I)V"⟩
def dkwX2_call_0 : List UInt8 := [42, 180, 0, 50, 42, 180, 0, 63, 27, 79, 42, 89, 180, 0, 63, 4, 96, 181, 0, 63, 177]
abbrev dktX2_call_0 : List UInt8 := dkwX2_call_0 ++ []
theorem dksX2_call_0 : cX2_call.data.toList.drop 0 = dktX2_call_0 := by decide +kernel
theorem dX2_call_0 : decode cX2_call 0 = .ok (.aload_n 0, 1) := dk_42 (dk_at dksX2_call_0 0 rfl rfl)
theorem dX2_call_1 : decode cX2_call 1 = .ok (.getfield 50, 3) := dk_180 0 50 (dk_at dksX2_call_0 1 rfl rfl)
theorem dX2_call_4 : decode cX2_call 4 = .ok (.aload_n 0, 1) := dk_42 (dk_at dksX2_call_0 4 rfl rfl)
theorem dX2_call_5 : decode cX2_call 5 = .ok (.getfield 63, 3) := dk_180 0 63 (dk_at dksX2_call_0 5 rfl rfl)
theorem dX2_call_8 : decode cX2_call 8 = .ok (.iload_n 1, 1) := dk_27 (dk_at dksX2_call_0 8 rfl rfl)
theorem dX2_call_9 : decode cX2_call 9 = .ok (.iastore, 1) := dk_79 (dk_at dksX2_call_0 9 rfl rfl)
theorem dX2_call_10 : decode cX2_call 10 = .ok (.aload_n 0, 1) := dk_42 (dk_at dksX2_call_0 10 rfl rfl)
theorem dX2_call_11 : decode cX2_call 11 = .ok (.dup, 1) := dk_89 (dk_at dksX2_call_0 11 rfl rfl)
theorem dX2_call_12 : decode cX2_call 12 = .ok (.getfield 63, 3) := dk_180 0 63 (dk_at dksX2_call_0 12 rfl rfl)
theorem dX2_call_15 : decode cX2_call 15 = .ok (.iconst 1, 1) := dk_4 (dk_at dksX2_call_0 15 rfl rfl)
theorem dX2_call_16 : decode cX2_call 16 = .ok (.iadd, 1) := dk_96 (dk_at dksX2_call_0 16 rfl rfl)
theorem dX2_call_17 : decode cX2_call 17 = .ok (.putfield 63, 3) := dk_181 0 63 (dk_at dksX2_call_0 17 rfl rfl)
theorem dX2_call_20 : decode cX2_call 20 = .ok (.return_, 1) := dk_177 (dk_at dksX2_call_0 20 rfl rfl)
abbrev cX2_pass : ByteArray := prog_2_method_11_code
def yX2_pass : MethodName := ⟨RX2, "pass", "()I"⟩
def dkwX2_pass_1 : List UInt8 := [96, 60, 132, 2, 1, 167, 255, 231, 42, 182, 0, 136, 42, 89, 180, 0, 53, 4, 96, 181, 0, 53, 27, 172]
abbrev dktX2_pass_1 : List UInt8 := dkwX2_pass_1 ++ []
def dkwX2_pass_0 : List UInt8 := [3, 60, 3, 61, 28, 42, 180, 0, 3, 180, 0, 113, 182, 0, 121, 162, 0, 17, 27, 42, 28, 182, 0, 133]
abbrev dktX2_pass_0 : List UInt8 := dkwX2_pass_0 ++ dktX2_pass_1
theorem dksX2_pass_0 : cX2_pass.data.toList.drop 0 = dktX2_pass_0 := by decide +kernel
theorem dksX2_pass_1 : cX2_pass.data.toList.drop 24 = dktX2_pass_1 := dk_seg dksX2_pass_0 24 rfl rfl
theorem dX2_pass_0 : decode cX2_pass 0 = .ok (.iconst 0, 1) := dk_3 (dk_at dksX2_pass_0 0 rfl rfl)
theorem dX2_pass_1 : decode cX2_pass 1 = .ok (.istore_n 1, 1) := dk_60 (dk_at dksX2_pass_0 1 rfl rfl)
theorem dX2_pass_2 : decode cX2_pass 2 = .ok (.iconst 0, 1) := dk_3 (dk_at dksX2_pass_0 2 rfl rfl)
theorem dX2_pass_3 : decode cX2_pass 3 = .ok (.istore_n 2, 1) := dk_61 (dk_at dksX2_pass_0 3 rfl rfl)
theorem dX2_pass_4 : decode cX2_pass 4 = .ok (.iload_n 2, 1) := dk_28 (dk_at dksX2_pass_0 4 rfl rfl)
theorem dX2_pass_5 : decode cX2_pass 5 = .ok (.aload_n 0, 1) := dk_42 (dk_at dksX2_pass_0 5 rfl rfl)
theorem dX2_pass_6 : decode cX2_pass 6 = .ok (.getfield 3, 3) := dk_180 0 3 (dk_at dksX2_pass_0 6 rfl rfl)
theorem dX2_pass_9 : decode cX2_pass 9 = .ok (.getfield 113, 3) := dk_180 0 113 (dk_at dksX2_pass_0 9 rfl rfl)
theorem dX2_pass_12 : decode cX2_pass 12 = .ok (.invokevirtual 121, 3) := dk_182 0 121 (dk_at dksX2_pass_0 12 rfl rfl)
theorem dX2_pass_15 : decode cX2_pass 15 = .ok (.if_icmp .ge 17, 3) := dk_162 0 17 (dk_at dksX2_pass_0 15 rfl rfl)
theorem dX2_pass_18 : decode cX2_pass 18 = .ok (.iload_n 1, 1) := dk_27 (dk_at dksX2_pass_0 18 rfl rfl)
theorem dX2_pass_19 : decode cX2_pass 19 = .ok (.aload_n 0, 1) := dk_42 (dk_at dksX2_pass_0 19 rfl rfl)
theorem dX2_pass_20 : decode cX2_pass 20 = .ok (.iload_n 2, 1) := dk_28 (dk_at dksX2_pass_0 20 rfl rfl)
theorem dX2_pass_21 : decode cX2_pass 21 = .ok (.invokevirtual 133, 3) := dk_182 0 133 (dk_at dksX2_pass_0 21 rfl rfl)
theorem dX2_pass_24 : decode cX2_pass 24 = .ok (.iadd, 1) := dk_96 (dk_at dksX2_pass_1 0 rfl rfl)
theorem dX2_pass_25 : decode cX2_pass 25 = .ok (.istore_n 1, 1) := dk_60 (dk_at dksX2_pass_1 1 rfl rfl)
theorem dX2_pass_26 : decode cX2_pass 26 = .ok (.iinc 2 1, 3) := dk_132 2 1 (dk_at dksX2_pass_1 2 rfl rfl)
theorem dX2_pass_29 : decode cX2_pass 29 = .ok (.goto (-25), 3) := dk_167 255 231 (dk_at dksX2_pass_1 5 rfl rfl)
theorem dX2_pass_32 : decode cX2_pass 32 = .ok (.aload_n 0, 1) := dk_42 (dk_at dksX2_pass_1 8 rfl rfl)
theorem dX2_pass_33 : decode cX2_pass 33 = .ok (.invokevirtual 136, 3) := dk_182 0 136 (dk_at dksX2_pass_1 9 rfl rfl)
theorem dX2_pass_36 : decode cX2_pass 36 = .ok (.aload_n 0, 1) := dk_42 (dk_at dksX2_pass_1 12 rfl rfl)
theorem dX2_pass_37 : decode cX2_pass 37 = .ok (.dup, 1) := dk_89 (dk_at dksX2_pass_1 13 rfl rfl)
theorem dX2_pass_38 : decode cX2_pass 38 = .ok (.getfield 53, 3) := dk_180 0 53 (dk_at dksX2_pass_1 14 rfl rfl)
theorem dX2_pass_41 : decode cX2_pass 41 = .ok (.iconst 1, 1) := dk_4 (dk_at dksX2_pass_1 17 rfl rfl)
theorem dX2_pass_42 : decode cX2_pass 42 = .ok (.iadd, 1) := dk_96 (dk_at dksX2_pass_1 18 rfl rfl)
theorem dX2_pass_43 : decode cX2_pass 43 = .ok (.putfield 53, 3) := dk_181 0 53 (dk_at dksX2_pass_1 19 rfl rfl)
theorem dX2_pass_46 : decode cX2_pass 46 = .ok (.iload_n 1, 1) := dk_27 (dk_at dksX2_pass_1 22 rfl rfl)
theorem dX2_pass_47 : decode cX2_pass 47 = .ok (.ireturn, 1) := dk_172 (dk_at dksX2_pass_1 23 rfl rfl)
abbrev cX2_turn : ByteArray := prog_2_method_6_code
def yX2_turn : MethodName := ⟨RX2, "turn", "(I)I"⟩
def dkwX2_turn_7 : List UInt8 := [172]
abbrev dktX2_turn_7 : List UInt8 := dkwX2_turn_7 ++ []
def dkwX2_turn_6 : List UInt8 := [180, 0, 113, 27, 182, 0, 96, 192, 0, 116, 180, 0, 118, 160, 0, 9, 42, 27, 2, 182, 0, 88, 21, 4]
abbrev dktX2_turn_6 : List UInt8 := dkwX2_turn_6 ++ dktX2_turn_7
def dkwX2_turn_5 : List UInt8 := [180, 0, 41, 27, 46, 4, 96, 167, 0, 4, 3, 79, 42, 180, 0, 41, 27, 46, 42, 180, 0, 3]
abbrev dktX2_turn_5 : List UInt8 := dkwX2_turn_5 ++ dktX2_turn_6
def dkwX2_turn_4 : List UInt8 := [29, 44, 29, 182, 0, 106, 182, 0, 109, 54, 4, 42, 180, 0, 41, 27, 21, 4, 154, 0, 14, 42]
abbrev dktX2_turn_4 : List UInt8 := dkwX2_turn_4 ++ dktX2_turn_5
def dkwX2_turn_3 : List UInt8 := [180, 0, 38, 27, 46, 182, 0, 96, 192, 0, 70, 77, 44, 42, 180, 0, 53, 182, 0, 102, 62, 42, 27, 44]
abbrev dktX2_turn_3 : List UInt8 := dkwX2_turn_3 ++ dktX2_turn_4
def dkwX2_turn_2 : List UInt8 := [180, 0, 35, 27, 46, 154, 0, 11, 42, 27, 2, 182, 0, 88, 3, 172, 42, 180, 0, 3, 180, 0, 92, 42]
abbrev dktX2_turn_2 : List UInt8 := dkwX2_turn_2 ++ dktX2_turn_3
def dkwX2_turn_1 : List UInt8 := [182, 0, 84, 182, 0, 88, 3, 172, 42, 180, 0, 22, 42, 180, 0, 38, 27, 46, 51, 154, 0, 12, 42]
abbrev dktX2_turn_1 : List UInt8 := dkwX2_turn_1 ++ dktX2_turn_2
def dkwX2_turn_0 : List UInt8 := [42, 180, 0, 38, 27, 46, 2, 160, 0, 23, 42, 180, 0, 35, 27, 46, 158, 0, 12, 42, 27, 42]
abbrev dktX2_turn_0 : List UInt8 := dkwX2_turn_0 ++ dktX2_turn_1
theorem dksX2_turn_0 : cX2_turn.data.toList.drop 0 = dktX2_turn_0 := by decide +kernel
theorem dksX2_turn_1 : cX2_turn.data.toList.drop 22 = dktX2_turn_1 := dk_seg dksX2_turn_0 22 rfl rfl
theorem dksX2_turn_2 : cX2_turn.data.toList.drop 45 = dktX2_turn_2 := dk_seg dksX2_turn_1 23 rfl rfl
theorem dksX2_turn_3 : cX2_turn.data.toList.drop 69 = dktX2_turn_3 := dk_seg dksX2_turn_2 24 rfl rfl
theorem dksX2_turn_4 : cX2_turn.data.toList.drop 93 = dktX2_turn_4 := dk_seg dksX2_turn_3 24 rfl rfl
theorem dksX2_turn_5 : cX2_turn.data.toList.drop 115 = dktX2_turn_5 := dk_seg dksX2_turn_4 22 rfl rfl
theorem dksX2_turn_6 : cX2_turn.data.toList.drop 137 = dktX2_turn_6 := dk_seg dksX2_turn_5 22 rfl rfl
theorem dksX2_turn_7 : cX2_turn.data.toList.drop 161 = dktX2_turn_7 := dk_seg dksX2_turn_6 24 rfl rfl
theorem dX2_turn_0 : decode cX2_turn 0 = .ok (.aload_n 0, 1) := dk_42 (dk_at dksX2_turn_0 0 rfl rfl)
theorem dX2_turn_1 : decode cX2_turn 1 = .ok (.getfield 38, 3) := dk_180 0 38 (dk_at dksX2_turn_0 1 rfl rfl)
theorem dX2_turn_4 : decode cX2_turn 4 = .ok (.iload_n 1, 1) := dk_27 (dk_at dksX2_turn_0 4 rfl rfl)
theorem dX2_turn_5 : decode cX2_turn 5 = .ok (.iaload, 1) := dk_46 (dk_at dksX2_turn_0 5 rfl rfl)
theorem dX2_turn_6 : decode cX2_turn 6 = .ok (.iconst (-1), 1) := dk_2 (dk_at dksX2_turn_0 6 rfl rfl)
theorem dX2_turn_7 : decode cX2_turn 7 = .ok (.if_icmp .ne 23, 3) := dk_160 0 23 (dk_at dksX2_turn_0 7 rfl rfl)
theorem dX2_turn_10 : decode cX2_turn 10 = .ok (.aload_n 0, 1) := dk_42 (dk_at dksX2_turn_0 10 rfl rfl)
theorem dX2_turn_11 : decode cX2_turn 11 = .ok (.getfield 35, 3) := dk_180 0 35 (dk_at dksX2_turn_0 11 rfl rfl)
theorem dX2_turn_14 : decode cX2_turn 14 = .ok (.iload_n 1, 1) := dk_27 (dk_at dksX2_turn_0 14 rfl rfl)
theorem dX2_turn_15 : decode cX2_turn 15 = .ok (.iaload, 1) := dk_46 (dk_at dksX2_turn_0 15 rfl rfl)
theorem dX2_turn_16 : decode cX2_turn 16 = .ok (.ifCond .le 12, 3) := dk_158 0 12 (dk_at dksX2_turn_0 16 rfl rfl)
theorem dX2_turn_19 : decode cX2_turn 19 = .ok (.aload_n 0, 1) := dk_42 (dk_at dksX2_turn_0 19 rfl rfl)
theorem dX2_turn_20 : decode cX2_turn 20 = .ok (.iload_n 1, 1) := dk_27 (dk_at dksX2_turn_0 20 rfl rfl)
theorem dX2_turn_21 : decode cX2_turn 21 = .ok (.aload_n 0, 1) := dk_42 (dk_at dksX2_turn_0 21 rfl rfl)
theorem dX2_turn_22 : decode cX2_turn 22 = .ok (.invokevirtual 84, 3) := dk_182 0 84 (dk_at dksX2_turn_1 0 rfl rfl)
theorem dX2_turn_25 : decode cX2_turn 25 = .ok (.invokevirtual 88, 3) := dk_182 0 88 (dk_at dksX2_turn_1 3 rfl rfl)
theorem dX2_turn_28 : decode cX2_turn 28 = .ok (.iconst 0, 1) := dk_3 (dk_at dksX2_turn_1 6 rfl rfl)
theorem dX2_turn_29 : decode cX2_turn 29 = .ok (.ireturn, 1) := dk_172 (dk_at dksX2_turn_1 7 rfl rfl)
theorem dX2_turn_30 : decode cX2_turn 30 = .ok (.aload_n 0, 1) := dk_42 (dk_at dksX2_turn_1 8 rfl rfl)
theorem dX2_turn_31 : decode cX2_turn 31 = .ok (.getfield 22, 3) := dk_180 0 22 (dk_at dksX2_turn_1 9 rfl rfl)
theorem dX2_turn_34 : decode cX2_turn 34 = .ok (.aload_n 0, 1) := dk_42 (dk_at dksX2_turn_1 12 rfl rfl)
theorem dX2_turn_35 : decode cX2_turn 35 = .ok (.getfield 38, 3) := dk_180 0 38 (dk_at dksX2_turn_1 13 rfl rfl)
theorem dX2_turn_38 : decode cX2_turn 38 = .ok (.iload_n 1, 1) := dk_27 (dk_at dksX2_turn_1 16 rfl rfl)
theorem dX2_turn_39 : decode cX2_turn 39 = .ok (.iaload, 1) := dk_46 (dk_at dksX2_turn_1 17 rfl rfl)
theorem dX2_turn_40 : decode cX2_turn 40 = .ok (.baload, 1) := dk_51 (dk_at dksX2_turn_1 18 rfl rfl)
theorem dX2_turn_41 : decode cX2_turn 41 = .ok (.ifCond .ne 12, 3) := dk_154 0 12 (dk_at dksX2_turn_1 19 rfl rfl)
theorem dX2_turn_44 : decode cX2_turn 44 = .ok (.aload_n 0, 1) := dk_42 (dk_at dksX2_turn_1 22 rfl rfl)
theorem dX2_turn_45 : decode cX2_turn 45 = .ok (.getfield 35, 3) := dk_180 0 35 (dk_at dksX2_turn_2 0 rfl rfl)
theorem dX2_turn_48 : decode cX2_turn 48 = .ok (.iload_n 1, 1) := dk_27 (dk_at dksX2_turn_2 3 rfl rfl)
theorem dX2_turn_49 : decode cX2_turn 49 = .ok (.iaload, 1) := dk_46 (dk_at dksX2_turn_2 4 rfl rfl)
theorem dX2_turn_50 : decode cX2_turn 50 = .ok (.ifCond .ne 11, 3) := dk_154 0 11 (dk_at dksX2_turn_2 5 rfl rfl)
theorem dX2_turn_53 : decode cX2_turn 53 = .ok (.aload_n 0, 1) := dk_42 (dk_at dksX2_turn_2 8 rfl rfl)
theorem dX2_turn_54 : decode cX2_turn 54 = .ok (.iload_n 1, 1) := dk_27 (dk_at dksX2_turn_2 9 rfl rfl)
theorem dX2_turn_55 : decode cX2_turn 55 = .ok (.iconst (-1), 1) := dk_2 (dk_at dksX2_turn_2 10 rfl rfl)
theorem dX2_turn_56 : decode cX2_turn 56 = .ok (.invokevirtual 88, 3) := dk_182 0 88 (dk_at dksX2_turn_2 11 rfl rfl)
theorem dX2_turn_59 : decode cX2_turn 59 = .ok (.iconst 0, 1) := dk_3 (dk_at dksX2_turn_2 14 rfl rfl)
theorem dX2_turn_60 : decode cX2_turn 60 = .ok (.ireturn, 1) := dk_172 (dk_at dksX2_turn_2 15 rfl rfl)
theorem dX2_turn_61 : decode cX2_turn 61 = .ok (.aload_n 0, 1) := dk_42 (dk_at dksX2_turn_2 16 rfl rfl)
theorem dX2_turn_62 : decode cX2_turn 62 = .ok (.getfield 3, 3) := dk_180 0 3 (dk_at dksX2_turn_2 17 rfl rfl)
theorem dX2_turn_65 : decode cX2_turn 65 = .ok (.getfield 92, 3) := dk_180 0 92 (dk_at dksX2_turn_2 20 rfl rfl)
theorem dX2_turn_68 : decode cX2_turn 68 = .ok (.aload_n 0, 1) := dk_42 (dk_at dksX2_turn_2 23 rfl rfl)
theorem dX2_turn_69 : decode cX2_turn 69 = .ok (.getfield 38, 3) := dk_180 0 38 (dk_at dksX2_turn_3 0 rfl rfl)
theorem dX2_turn_72 : decode cX2_turn 72 = .ok (.iload_n 1, 1) := dk_27 (dk_at dksX2_turn_3 3 rfl rfl)
theorem dX2_turn_73 : decode cX2_turn 73 = .ok (.iaload, 1) := dk_46 (dk_at dksX2_turn_3 4 rfl rfl)
theorem dX2_turn_74 : decode cX2_turn 74 = .ok (.invokevirtual 96, 3) := dk_182 0 96 (dk_at dksX2_turn_3 5 rfl rfl)
theorem dX2_turn_77 : decode cX2_turn 77 = .ok (.checkcast 70, 3) := dk_192 0 70 (dk_at dksX2_turn_3 8 rfl rfl)
theorem dX2_turn_80 : decode cX2_turn 80 = .ok (.astore_n 2, 1) := dk_77 (dk_at dksX2_turn_3 11 rfl rfl)
theorem dX2_turn_81 : decode cX2_turn 81 = .ok (.aload_n 2, 1) := dk_44 (dk_at dksX2_turn_3 12 rfl rfl)
theorem dX2_turn_82 : decode cX2_turn 82 = .ok (.aload_n 0, 1) := dk_42 (dk_at dksX2_turn_3 13 rfl rfl)
theorem dX2_turn_83 : decode cX2_turn 83 = .ok (.getfield 53, 3) := dk_180 0 53 (dk_at dksX2_turn_3 14 rfl rfl)
theorem dX2_turn_86 : decode cX2_turn 86 = .ok (.invokevirtual 102, 3) := dk_182 0 102 (dk_at dksX2_turn_3 17 rfl rfl)
theorem dX2_turn_89 : decode cX2_turn 89 = .ok (.istore_n 3, 1) := dk_62 (dk_at dksX2_turn_3 20 rfl rfl)
theorem dX2_turn_90 : decode cX2_turn 90 = .ok (.aload_n 0, 1) := dk_42 (dk_at dksX2_turn_3 21 rfl rfl)
theorem dX2_turn_91 : decode cX2_turn 91 = .ok (.iload_n 1, 1) := dk_27 (dk_at dksX2_turn_3 22 rfl rfl)
theorem dX2_turn_92 : decode cX2_turn 92 = .ok (.aload_n 2, 1) := dk_44 (dk_at dksX2_turn_3 23 rfl rfl)
theorem dX2_turn_93 : decode cX2_turn 93 = .ok (.iload_n 3, 1) := dk_29 (dk_at dksX2_turn_4 0 rfl rfl)
theorem dX2_turn_94 : decode cX2_turn 94 = .ok (.aload_n 2, 1) := dk_44 (dk_at dksX2_turn_4 1 rfl rfl)
theorem dX2_turn_95 : decode cX2_turn 95 = .ok (.iload_n 3, 1) := dk_29 (dk_at dksX2_turn_4 2 rfl rfl)
theorem dX2_turn_96 : decode cX2_turn 96 = .ok (.invokevirtual 106, 3) := dk_182 0 106 (dk_at dksX2_turn_4 3 rfl rfl)
theorem dX2_turn_99 : decode cX2_turn 99 = .ok (.invokevirtual 109, 3) := dk_182 0 109 (dk_at dksX2_turn_4 6 rfl rfl)
theorem dX2_turn_102 : decode cX2_turn 102 = .ok (.istore 4, 2) := dk_54 4 (dk_at dksX2_turn_4 9 rfl rfl)
theorem dX2_turn_104 : decode cX2_turn 104 = .ok (.aload_n 0, 1) := dk_42 (dk_at dksX2_turn_4 11 rfl rfl)
theorem dX2_turn_105 : decode cX2_turn 105 = .ok (.getfield 41, 3) := dk_180 0 41 (dk_at dksX2_turn_4 12 rfl rfl)
theorem dX2_turn_108 : decode cX2_turn 108 = .ok (.iload_n 1, 1) := dk_27 (dk_at dksX2_turn_4 15 rfl rfl)
theorem dX2_turn_109 : decode cX2_turn 109 = .ok (.iload 4, 2) := dk_21 4 (dk_at dksX2_turn_4 16 rfl rfl)
theorem dX2_turn_111 : decode cX2_turn 111 = .ok (.ifCond .ne 14, 3) := dk_154 0 14 (dk_at dksX2_turn_4 18 rfl rfl)
theorem dX2_turn_114 : decode cX2_turn 114 = .ok (.aload_n 0, 1) := dk_42 (dk_at dksX2_turn_4 21 rfl rfl)
theorem dX2_turn_115 : decode cX2_turn 115 = .ok (.getfield 41, 3) := dk_180 0 41 (dk_at dksX2_turn_5 0 rfl rfl)
theorem dX2_turn_118 : decode cX2_turn 118 = .ok (.iload_n 1, 1) := dk_27 (dk_at dksX2_turn_5 3 rfl rfl)
theorem dX2_turn_119 : decode cX2_turn 119 = .ok (.iaload, 1) := dk_46 (dk_at dksX2_turn_5 4 rfl rfl)
theorem dX2_turn_120 : decode cX2_turn 120 = .ok (.iconst 1, 1) := dk_4 (dk_at dksX2_turn_5 5 rfl rfl)
theorem dX2_turn_121 : decode cX2_turn 121 = .ok (.iadd, 1) := dk_96 (dk_at dksX2_turn_5 6 rfl rfl)
theorem dX2_turn_122 : decode cX2_turn 122 = .ok (.goto 4, 3) := dk_167 0 4 (dk_at dksX2_turn_5 7 rfl rfl)
theorem dX2_turn_125 : decode cX2_turn 125 = .ok (.iconst 0, 1) := dk_3 (dk_at dksX2_turn_5 10 rfl rfl)
theorem dX2_turn_126 : decode cX2_turn 126 = .ok (.iastore, 1) := dk_79 (dk_at dksX2_turn_5 11 rfl rfl)
theorem dX2_turn_127 : decode cX2_turn 127 = .ok (.aload_n 0, 1) := dk_42 (dk_at dksX2_turn_5 12 rfl rfl)
theorem dX2_turn_128 : decode cX2_turn 128 = .ok (.getfield 41, 3) := dk_180 0 41 (dk_at dksX2_turn_5 13 rfl rfl)
theorem dX2_turn_131 : decode cX2_turn 131 = .ok (.iload_n 1, 1) := dk_27 (dk_at dksX2_turn_5 16 rfl rfl)
theorem dX2_turn_132 : decode cX2_turn 132 = .ok (.iaload, 1) := dk_46 (dk_at dksX2_turn_5 17 rfl rfl)
theorem dX2_turn_133 : decode cX2_turn 133 = .ok (.aload_n 0, 1) := dk_42 (dk_at dksX2_turn_5 18 rfl rfl)
theorem dX2_turn_134 : decode cX2_turn 134 = .ok (.getfield 3, 3) := dk_180 0 3 (dk_at dksX2_turn_5 19 rfl rfl)
theorem dX2_turn_137 : decode cX2_turn 137 = .ok (.getfield 113, 3) := dk_180 0 113 (dk_at dksX2_turn_6 0 rfl rfl)
theorem dX2_turn_140 : decode cX2_turn 140 = .ok (.iload_n 1, 1) := dk_27 (dk_at dksX2_turn_6 3 rfl rfl)
theorem dX2_turn_141 : decode cX2_turn 141 = .ok (.invokevirtual 96, 3) := dk_182 0 96 (dk_at dksX2_turn_6 4 rfl rfl)
theorem dX2_turn_144 : decode cX2_turn 144 = .ok (.checkcast 116, 3) := dk_192 0 116 (dk_at dksX2_turn_6 7 rfl rfl)
theorem dX2_turn_147 : decode cX2_turn 147 = .ok (.getfield 118, 3) := dk_180 0 118 (dk_at dksX2_turn_6 10 rfl rfl)
theorem dX2_turn_150 : decode cX2_turn 150 = .ok (.if_icmp .ne 9, 3) := dk_160 0 9 (dk_at dksX2_turn_6 13 rfl rfl)
theorem dX2_turn_153 : decode cX2_turn 153 = .ok (.aload_n 0, 1) := dk_42 (dk_at dksX2_turn_6 16 rfl rfl)
theorem dX2_turn_154 : decode cX2_turn 154 = .ok (.iload_n 1, 1) := dk_27 (dk_at dksX2_turn_6 17 rfl rfl)
theorem dX2_turn_155 : decode cX2_turn 155 = .ok (.iconst (-1), 1) := dk_2 (dk_at dksX2_turn_6 18 rfl rfl)
theorem dX2_turn_156 : decode cX2_turn 156 = .ok (.invokevirtual 88, 3) := dk_182 0 88 (dk_at dksX2_turn_6 19 rfl rfl)
theorem dX2_turn_159 : decode cX2_turn 159 = .ok (.iload 4, 2) := dk_21 4 (dk_at dksX2_turn_6 22 rfl rfl)
theorem dX2_turn_161 : decode cX2_turn 161 = .ok (.ireturn, 1) := dk_172 (dk_at dksX2_turn_7 0 rfl rfl)
abbrev cX2_richest : ByteArray := prog_2_method_7_code
def yX2_richest : MethodName := ⟨RX2, "richest", "()I"⟩
def dkwX2_richest_2 : List UInt8 := [27, 46, 42, 27, 182, 0, 124, 96, 164, 0, 5, 28, 60, 132, 2, 1, 167, 255, 196, 27, 172]
abbrev dktX2_richest_2 : List UInt8 := dkwX2_richest_2 ++ []
def dkwX2_richest_1 : List UInt8 := [154, 0, 37, 27, 2, 159, 0, 30, 42, 180, 0, 15, 28, 46, 42, 28, 182, 0, 124, 96, 42, 180, 0, 15]
abbrev dktX2_richest_1 : List UInt8 := dkwX2_richest_1 ++ dktX2_richest_2
def dkwX2_richest_0 : List UInt8 := [2, 60, 3, 61, 28, 42, 180, 0, 3, 180, 0, 92, 182, 0, 121, 162, 0, 52, 42, 180, 0, 22, 28, 51]
abbrev dktX2_richest_0 : List UInt8 := dkwX2_richest_0 ++ dktX2_richest_1
theorem dksX2_richest_0 : cX2_richest.data.toList.drop 0 = dktX2_richest_0 := by decide +kernel
theorem dksX2_richest_1 : cX2_richest.data.toList.drop 24 = dktX2_richest_1 := dk_seg dksX2_richest_0 24 rfl rfl
theorem dksX2_richest_2 : cX2_richest.data.toList.drop 48 = dktX2_richest_2 := dk_seg dksX2_richest_1 24 rfl rfl
theorem dX2_richest_0 : decode cX2_richest 0 = .ok (.iconst (-1), 1) := dk_2 (dk_at dksX2_richest_0 0 rfl rfl)
theorem dX2_richest_1 : decode cX2_richest 1 = .ok (.istore_n 1, 1) := dk_60 (dk_at dksX2_richest_0 1 rfl rfl)
theorem dX2_richest_2 : decode cX2_richest 2 = .ok (.iconst 0, 1) := dk_3 (dk_at dksX2_richest_0 2 rfl rfl)
theorem dX2_richest_3 : decode cX2_richest 3 = .ok (.istore_n 2, 1) := dk_61 (dk_at dksX2_richest_0 3 rfl rfl)
theorem dX2_richest_4 : decode cX2_richest 4 = .ok (.iload_n 2, 1) := dk_28 (dk_at dksX2_richest_0 4 rfl rfl)
theorem dX2_richest_5 : decode cX2_richest 5 = .ok (.aload_n 0, 1) := dk_42 (dk_at dksX2_richest_0 5 rfl rfl)
theorem dX2_richest_6 : decode cX2_richest 6 = .ok (.getfield 3, 3) := dk_180 0 3 (dk_at dksX2_richest_0 6 rfl rfl)
theorem dX2_richest_9 : decode cX2_richest 9 = .ok (.getfield 92, 3) := dk_180 0 92 (dk_at dksX2_richest_0 9 rfl rfl)
theorem dX2_richest_12 : decode cX2_richest 12 = .ok (.invokevirtual 121, 3) := dk_182 0 121 (dk_at dksX2_richest_0 12 rfl rfl)
theorem dX2_richest_15 : decode cX2_richest 15 = .ok (.if_icmp .ge 52, 3) := dk_162 0 52 (dk_at dksX2_richest_0 15 rfl rfl)
theorem dX2_richest_18 : decode cX2_richest 18 = .ok (.aload_n 0, 1) := dk_42 (dk_at dksX2_richest_0 18 rfl rfl)
theorem dX2_richest_19 : decode cX2_richest 19 = .ok (.getfield 22, 3) := dk_180 0 22 (dk_at dksX2_richest_0 19 rfl rfl)
theorem dX2_richest_22 : decode cX2_richest 22 = .ok (.iload_n 2, 1) := dk_28 (dk_at dksX2_richest_0 22 rfl rfl)
theorem dX2_richest_23 : decode cX2_richest 23 = .ok (.baload, 1) := dk_51 (dk_at dksX2_richest_0 23 rfl rfl)
theorem dX2_richest_24 : decode cX2_richest 24 = .ok (.ifCond .ne 37, 3) := dk_154 0 37 (dk_at dksX2_richest_1 0 rfl rfl)
theorem dX2_richest_27 : decode cX2_richest 27 = .ok (.iload_n 1, 1) := dk_27 (dk_at dksX2_richest_1 3 rfl rfl)
theorem dX2_richest_28 : decode cX2_richest 28 = .ok (.iconst (-1), 1) := dk_2 (dk_at dksX2_richest_1 4 rfl rfl)
theorem dX2_richest_29 : decode cX2_richest 29 = .ok (.if_icmp .eq 30, 3) := dk_159 0 30 (dk_at dksX2_richest_1 5 rfl rfl)
theorem dX2_richest_32 : decode cX2_richest 32 = .ok (.aload_n 0, 1) := dk_42 (dk_at dksX2_richest_1 8 rfl rfl)
theorem dX2_richest_33 : decode cX2_richest 33 = .ok (.getfield 15, 3) := dk_180 0 15 (dk_at dksX2_richest_1 9 rfl rfl)
theorem dX2_richest_36 : decode cX2_richest 36 = .ok (.iload_n 2, 1) := dk_28 (dk_at dksX2_richest_1 12 rfl rfl)
theorem dX2_richest_37 : decode cX2_richest 37 = .ok (.iaload, 1) := dk_46 (dk_at dksX2_richest_1 13 rfl rfl)
theorem dX2_richest_38 : decode cX2_richest 38 = .ok (.aload_n 0, 1) := dk_42 (dk_at dksX2_richest_1 14 rfl rfl)
theorem dX2_richest_39 : decode cX2_richest 39 = .ok (.iload_n 2, 1) := dk_28 (dk_at dksX2_richest_1 15 rfl rfl)
theorem dX2_richest_40 : decode cX2_richest 40 = .ok (.invokevirtual 124, 3) := dk_182 0 124 (dk_at dksX2_richest_1 16 rfl rfl)
theorem dX2_richest_43 : decode cX2_richest 43 = .ok (.iadd, 1) := dk_96 (dk_at dksX2_richest_1 19 rfl rfl)
theorem dX2_richest_44 : decode cX2_richest 44 = .ok (.aload_n 0, 1) := dk_42 (dk_at dksX2_richest_1 20 rfl rfl)
theorem dX2_richest_45 : decode cX2_richest 45 = .ok (.getfield 15, 3) := dk_180 0 15 (dk_at dksX2_richest_1 21 rfl rfl)
theorem dX2_richest_48 : decode cX2_richest 48 = .ok (.iload_n 1, 1) := dk_27 (dk_at dksX2_richest_2 0 rfl rfl)
theorem dX2_richest_49 : decode cX2_richest 49 = .ok (.iaload, 1) := dk_46 (dk_at dksX2_richest_2 1 rfl rfl)
theorem dX2_richest_50 : decode cX2_richest 50 = .ok (.aload_n 0, 1) := dk_42 (dk_at dksX2_richest_2 2 rfl rfl)
theorem dX2_richest_51 : decode cX2_richest 51 = .ok (.iload_n 1, 1) := dk_27 (dk_at dksX2_richest_2 3 rfl rfl)
theorem dX2_richest_52 : decode cX2_richest 52 = .ok (.invokevirtual 124, 3) := dk_182 0 124 (dk_at dksX2_richest_2 4 rfl rfl)
theorem dX2_richest_55 : decode cX2_richest 55 = .ok (.iadd, 1) := dk_96 (dk_at dksX2_richest_2 7 rfl rfl)
theorem dX2_richest_56 : decode cX2_richest 56 = .ok (.if_icmp .le 5, 3) := dk_164 0 5 (dk_at dksX2_richest_2 8 rfl rfl)
theorem dX2_richest_59 : decode cX2_richest 59 = .ok (.iload_n 2, 1) := dk_28 (dk_at dksX2_richest_2 11 rfl rfl)
theorem dX2_richest_60 : decode cX2_richest 60 = .ok (.istore_n 1, 1) := dk_60 (dk_at dksX2_richest_2 12 rfl rfl)
theorem dX2_richest_61 : decode cX2_richest 61 = .ok (.iinc 2 1, 3) := dk_132 2 1 (dk_at dksX2_richest_2 13 rfl rfl)
theorem dX2_richest_64 : decode cX2_richest 64 = .ok (.goto (-60), 3) := dk_167 255 196 (dk_at dksX2_richest_2 16 rfl rfl)
theorem dX2_richest_67 : decode cX2_richest 67 = .ok (.iload_n 1, 1) := dk_27 (dk_at dksX2_richest_2 19 rfl rfl)
theorem dX2_richest_68 : decode cX2_richest 68 = .ok (.ireturn, 1) := dk_172 (dk_at dksX2_richest_2 20 rfl rfl)
abbrev cX2_repair : ByteArray := prog_2_method_10_code
def yX2_repair : MethodName := ⟨RX2, "repair", "()V"⟩
def dkwX2_repair_4 : List UInt8 := [180, 0, 50, 4, 42, 180, 0, 50, 3, 42, 180, 0, 63, 184, 0, 57, 177]
abbrev dktX2_repair_4 : List UInt8 := dkwX2_repair_4 ++ []
def dkwX2_repair_3 : List UInt8 := [180, 0, 19, 27, 3, 79, 42, 180, 0, 22, 27, 3, 84, 42, 89, 180, 0, 63, 4, 100, 181, 0, 63, 42]
abbrev dktX2_repair_3 : List UInt8 := dkwX2_repair_3 ++ dktX2_repair_4
def dkwX2_repair_2 : List UInt8 := [181, 0, 66, 42, 89, 180, 0, 66, 4, 100, 181, 0, 66, 42, 180, 0, 66, 158, 0, 4, 177, 42]
abbrev dktX2_repair_2 : List UInt8 := dkwX2_repair_2 ++ dktX2_repair_3
def dkwX2_repair_1 : List UInt8 := [42, 180, 0, 19, 27, 46, 16, 10, 108, 4, 96, 42, 180, 0, 3, 180, 0, 127, 100, 184, 0, 130]
abbrev dktX2_repair_1 : List UInt8 := dkwX2_repair_1 ++ dktX2_repair_2
def dkwX2_repair_0 : List UInt8 := [42, 180, 0, 63, 154, 0, 4, 177, 42, 180, 0, 50, 3, 46, 60, 42, 180, 0, 66, 154, 0, 30, 42, 4]
abbrev dktX2_repair_0 : List UInt8 := dkwX2_repair_0 ++ dktX2_repair_1
theorem dksX2_repair_0 : cX2_repair.data.toList.drop 0 = dktX2_repair_0 := by decide +kernel
theorem dksX2_repair_1 : cX2_repair.data.toList.drop 24 = dktX2_repair_1 := dk_seg dksX2_repair_0 24 rfl rfl
theorem dksX2_repair_2 : cX2_repair.data.toList.drop 46 = dktX2_repair_2 := dk_seg dksX2_repair_1 22 rfl rfl
theorem dksX2_repair_3 : cX2_repair.data.toList.drop 68 = dktX2_repair_3 := dk_seg dksX2_repair_2 22 rfl rfl
theorem dksX2_repair_4 : cX2_repair.data.toList.drop 92 = dktX2_repair_4 := dk_seg dksX2_repair_3 24 rfl rfl
theorem dX2_repair_0 : decode cX2_repair 0 = .ok (.aload_n 0, 1) := dk_42 (dk_at dksX2_repair_0 0 rfl rfl)
theorem dX2_repair_1 : decode cX2_repair 1 = .ok (.getfield 63, 3) := dk_180 0 63 (dk_at dksX2_repair_0 1 rfl rfl)
theorem dX2_repair_4 : decode cX2_repair 4 = .ok (.ifCond .ne 4, 3) := dk_154 0 4 (dk_at dksX2_repair_0 4 rfl rfl)
theorem dX2_repair_7 : decode cX2_repair 7 = .ok (.return_, 1) := dk_177 (dk_at dksX2_repair_0 7 rfl rfl)
theorem dX2_repair_8 : decode cX2_repair 8 = .ok (.aload_n 0, 1) := dk_42 (dk_at dksX2_repair_0 8 rfl rfl)
theorem dX2_repair_9 : decode cX2_repair 9 = .ok (.getfield 50, 3) := dk_180 0 50 (dk_at dksX2_repair_0 9 rfl rfl)
theorem dX2_repair_12 : decode cX2_repair 12 = .ok (.iconst 0, 1) := dk_3 (dk_at dksX2_repair_0 12 rfl rfl)
theorem dX2_repair_13 : decode cX2_repair 13 = .ok (.iaload, 1) := dk_46 (dk_at dksX2_repair_0 13 rfl rfl)
theorem dX2_repair_14 : decode cX2_repair 14 = .ok (.istore_n 1, 1) := dk_60 (dk_at dksX2_repair_0 14 rfl rfl)
theorem dX2_repair_15 : decode cX2_repair 15 = .ok (.aload_n 0, 1) := dk_42 (dk_at dksX2_repair_0 15 rfl rfl)
theorem dX2_repair_16 : decode cX2_repair 16 = .ok (.getfield 66, 3) := dk_180 0 66 (dk_at dksX2_repair_0 16 rfl rfl)
theorem dX2_repair_19 : decode cX2_repair 19 = .ok (.ifCond .ne 30, 3) := dk_154 0 30 (dk_at dksX2_repair_0 19 rfl rfl)
theorem dX2_repair_22 : decode cX2_repair 22 = .ok (.aload_n 0, 1) := dk_42 (dk_at dksX2_repair_0 22 rfl rfl)
theorem dX2_repair_23 : decode cX2_repair 23 = .ok (.iconst 1, 1) := dk_4 (dk_at dksX2_repair_0 23 rfl rfl)
theorem dX2_repair_24 : decode cX2_repair 24 = .ok (.aload_n 0, 1) := dk_42 (dk_at dksX2_repair_1 0 rfl rfl)
theorem dX2_repair_25 : decode cX2_repair 25 = .ok (.getfield 19, 3) := dk_180 0 19 (dk_at dksX2_repair_1 1 rfl rfl)
theorem dX2_repair_28 : decode cX2_repair 28 = .ok (.iload_n 1, 1) := dk_27 (dk_at dksX2_repair_1 4 rfl rfl)
theorem dX2_repair_29 : decode cX2_repair 29 = .ok (.iaload, 1) := dk_46 (dk_at dksX2_repair_1 5 rfl rfl)
theorem dX2_repair_30 : decode cX2_repair 30 = .ok (.bipush 10, 2) := dk_16 10 (dk_at dksX2_repair_1 6 rfl rfl)
theorem dX2_repair_32 : decode cX2_repair 32 = .ok (.idiv, 1) := dk_108 (dk_at dksX2_repair_1 8 rfl rfl)
theorem dX2_repair_33 : decode cX2_repair 33 = .ok (.iconst 1, 1) := dk_4 (dk_at dksX2_repair_1 9 rfl rfl)
theorem dX2_repair_34 : decode cX2_repair 34 = .ok (.iadd, 1) := dk_96 (dk_at dksX2_repair_1 10 rfl rfl)
theorem dX2_repair_35 : decode cX2_repair 35 = .ok (.aload_n 0, 1) := dk_42 (dk_at dksX2_repair_1 11 rfl rfl)
theorem dX2_repair_36 : decode cX2_repair 36 = .ok (.getfield 3, 3) := dk_180 0 3 (dk_at dksX2_repair_1 12 rfl rfl)
theorem dX2_repair_39 : decode cX2_repair 39 = .ok (.getfield 127, 3) := dk_180 0 127 (dk_at dksX2_repair_1 15 rfl rfl)
theorem dX2_repair_42 : decode cX2_repair 42 = .ok (.isub, 1) := dk_100 (dk_at dksX2_repair_1 18 rfl rfl)
theorem dX2_repair_43 : decode cX2_repair 43 = .ok (.invokestatic 130, 3) := dk_184 0 130 (dk_at dksX2_repair_1 19 rfl rfl)
theorem dX2_repair_46 : decode cX2_repair 46 = .ok (.putfield 66, 3) := dk_181 0 66 (dk_at dksX2_repair_2 0 rfl rfl)
theorem dX2_repair_49 : decode cX2_repair 49 = .ok (.aload_n 0, 1) := dk_42 (dk_at dksX2_repair_2 3 rfl rfl)
theorem dX2_repair_50 : decode cX2_repair 50 = .ok (.dup, 1) := dk_89 (dk_at dksX2_repair_2 4 rfl rfl)
theorem dX2_repair_51 : decode cX2_repair 51 = .ok (.getfield 66, 3) := dk_180 0 66 (dk_at dksX2_repair_2 5 rfl rfl)
theorem dX2_repair_54 : decode cX2_repair 54 = .ok (.iconst 1, 1) := dk_4 (dk_at dksX2_repair_2 8 rfl rfl)
theorem dX2_repair_55 : decode cX2_repair 55 = .ok (.isub, 1) := dk_100 (dk_at dksX2_repair_2 9 rfl rfl)
theorem dX2_repair_56 : decode cX2_repair 56 = .ok (.putfield 66, 3) := dk_181 0 66 (dk_at dksX2_repair_2 10 rfl rfl)
theorem dX2_repair_59 : decode cX2_repair 59 = .ok (.aload_n 0, 1) := dk_42 (dk_at dksX2_repair_2 13 rfl rfl)
theorem dX2_repair_60 : decode cX2_repair 60 = .ok (.getfield 66, 3) := dk_180 0 66 (dk_at dksX2_repair_2 14 rfl rfl)
theorem dX2_repair_63 : decode cX2_repair 63 = .ok (.ifCond .le 4, 3) := dk_158 0 4 (dk_at dksX2_repair_2 17 rfl rfl)
theorem dX2_repair_66 : decode cX2_repair 66 = .ok (.return_, 1) := dk_177 (dk_at dksX2_repair_2 20 rfl rfl)
theorem dX2_repair_67 : decode cX2_repair 67 = .ok (.aload_n 0, 1) := dk_42 (dk_at dksX2_repair_2 21 rfl rfl)
theorem dX2_repair_68 : decode cX2_repair 68 = .ok (.getfield 19, 3) := dk_180 0 19 (dk_at dksX2_repair_3 0 rfl rfl)
theorem dX2_repair_71 : decode cX2_repair 71 = .ok (.iload_n 1, 1) := dk_27 (dk_at dksX2_repair_3 3 rfl rfl)
theorem dX2_repair_72 : decode cX2_repair 72 = .ok (.iconst 0, 1) := dk_3 (dk_at dksX2_repair_3 4 rfl rfl)
theorem dX2_repair_73 : decode cX2_repair 73 = .ok (.iastore, 1) := dk_79 (dk_at dksX2_repair_3 5 rfl rfl)
theorem dX2_repair_74 : decode cX2_repair 74 = .ok (.aload_n 0, 1) := dk_42 (dk_at dksX2_repair_3 6 rfl rfl)
theorem dX2_repair_75 : decode cX2_repair 75 = .ok (.getfield 22, 3) := dk_180 0 22 (dk_at dksX2_repair_3 7 rfl rfl)
theorem dX2_repair_78 : decode cX2_repair 78 = .ok (.iload_n 1, 1) := dk_27 (dk_at dksX2_repair_3 10 rfl rfl)
theorem dX2_repair_79 : decode cX2_repair 79 = .ok (.iconst 0, 1) := dk_3 (dk_at dksX2_repair_3 11 rfl rfl)
theorem dX2_repair_80 : decode cX2_repair 80 = .ok (.bastore, 1) := dk_84 (dk_at dksX2_repair_3 12 rfl rfl)
theorem dX2_repair_81 : decode cX2_repair 81 = .ok (.aload_n 0, 1) := dk_42 (dk_at dksX2_repair_3 13 rfl rfl)
theorem dX2_repair_82 : decode cX2_repair 82 = .ok (.dup, 1) := dk_89 (dk_at dksX2_repair_3 14 rfl rfl)
theorem dX2_repair_83 : decode cX2_repair 83 = .ok (.getfield 63, 3) := dk_180 0 63 (dk_at dksX2_repair_3 15 rfl rfl)
theorem dX2_repair_86 : decode cX2_repair 86 = .ok (.iconst 1, 1) := dk_4 (dk_at dksX2_repair_3 18 rfl rfl)
theorem dX2_repair_87 : decode cX2_repair 87 = .ok (.isub, 1) := dk_100 (dk_at dksX2_repair_3 19 rfl rfl)
theorem dX2_repair_88 : decode cX2_repair 88 = .ok (.putfield 63, 3) := dk_181 0 63 (dk_at dksX2_repair_3 20 rfl rfl)
theorem dX2_repair_91 : decode cX2_repair 91 = .ok (.aload_n 0, 1) := dk_42 (dk_at dksX2_repair_3 23 rfl rfl)
theorem dX2_repair_92 : decode cX2_repair 92 = .ok (.getfield 50, 3) := dk_180 0 50 (dk_at dksX2_repair_4 0 rfl rfl)
theorem dX2_repair_95 : decode cX2_repair 95 = .ok (.iconst 1, 1) := dk_4 (dk_at dksX2_repair_4 3 rfl rfl)
theorem dX2_repair_96 : decode cX2_repair 96 = .ok (.aload_n 0, 1) := dk_42 (dk_at dksX2_repair_4 4 rfl rfl)
theorem dX2_repair_97 : decode cX2_repair 97 = .ok (.getfield 50, 3) := dk_180 0 50 (dk_at dksX2_repair_4 5 rfl rfl)
theorem dX2_repair_100 : decode cX2_repair 100 = .ok (.iconst 0, 1) := dk_3 (dk_at dksX2_repair_4 8 rfl rfl)
theorem dX2_repair_101 : decode cX2_repair 101 = .ok (.aload_n 0, 1) := dk_42 (dk_at dksX2_repair_4 9 rfl rfl)
theorem dX2_repair_102 : decode cX2_repair 102 = .ok (.getfield 63, 3) := dk_180 0 63 (dk_at dksX2_repair_4 10 rfl rfl)
theorem dX2_repair_105 : decode cX2_repair 105 = .ok (.invokestatic 57, 3) := dk_184 0 57 (dk_at dksX2_repair_4 13 rfl rfl)
theorem dX2_repair_108 : decode cX2_repair 108 = .ok (.return_, 1) := dk_177 (dk_at dksX2_repair_4 16 rfl rfl)
abbrev cX2_become : ByteArray := prog_2_method_2_code
def yX2_become : MethodName := ⟨RX2, "become", "(LPennyArcade$Hall;)V"⟩
def dkwX2_become_8 : List UInt8 := [184, 0, 57, 42, 43, 180, 0, 63, 181, 0, 63, 42, 43, 180, 0, 66, 181, 0, 66, 177]
abbrev dktX2_become_8 : List UInt8 := dkwX2_become_8 ++ []
def dkwX2_become_7 : List UInt8 := [3, 42, 180, 0, 47, 3, 16, 10, 184, 0, 57, 43, 180, 0, 50, 3, 42, 180, 0, 50, 3, 16, 8]
abbrev dktX2_become_7 : List UInt8 := dkwX2_become_7 ++ dktX2_become_8
def dkwX2_become_6 : List UInt8 := [16, 10, 184, 0, 57, 43, 180, 0, 44, 3, 42, 180, 0, 44, 3, 16, 10, 184, 0, 57, 43, 180, 0, 47]
abbrev dktX2_become_6 : List UInt8 := dkwX2_become_6 ++ dktX2_become_7
def dkwX2_become_5 : List UInt8 := [180, 0, 38, 3, 42, 180, 0, 38, 3, 16, 10, 184, 0, 57, 43, 180, 0, 41, 3, 42, 180, 0, 41, 3]
abbrev dktX2_become_5 : List UInt8 := dkwX2_become_5 ++ dktX2_become_6
def dkwX2_become_4 : List UInt8 := [180, 0, 32, 190, 184, 0, 57, 43, 180, 0, 35, 3, 42, 180, 0, 35, 3, 16, 10, 184, 0, 57, 43]
abbrev dktX2_become_4 : List UInt8 := dkwX2_become_4 ++ dktX2_become_5
def dkwX2_become_3 : List UInt8 := [3, 42, 180, 0, 29, 3, 16, 8, 184, 0, 57, 43, 180, 0, 32, 3, 42, 180, 0, 32, 3, 42]
abbrev dktX2_become_3 : List UInt8 := dkwX2_become_3 ++ dktX2_become_4
def dkwX2_become_2 : List UInt8 := [16, 8, 184, 0, 57, 43, 180, 0, 26, 3, 42, 180, 0, 26, 3, 16, 8, 184, 0, 57, 43, 180, 0, 29]
abbrev dktX2_become_2 : List UInt8 := dkwX2_become_2 ++ dktX2_become_3
def dkwX2_become_1 : List UInt8 := [180, 0, 19, 3, 42, 180, 0, 19, 3, 16, 8, 184, 0, 57, 43, 180, 0, 22, 3, 42, 180, 0, 22, 3]
abbrev dktX2_become_1 : List UInt8 := dkwX2_become_1 ++ dktX2_become_2
def dkwX2_become_0 : List UInt8 := [42, 43, 180, 0, 53, 181, 0, 53, 43, 180, 0, 15, 3, 42, 180, 0, 15, 3, 16, 8, 184, 0, 57, 43]
abbrev dktX2_become_0 : List UInt8 := dkwX2_become_0 ++ dktX2_become_1
theorem dksX2_become_0 : cX2_become.data.toList.drop 0 = dktX2_become_0 := by decide +kernel
theorem dksX2_become_1 : cX2_become.data.toList.drop 24 = dktX2_become_1 := dk_seg dksX2_become_0 24 rfl rfl
theorem dksX2_become_2 : cX2_become.data.toList.drop 48 = dktX2_become_2 := dk_seg dksX2_become_1 24 rfl rfl
theorem dksX2_become_3 : cX2_become.data.toList.drop 72 = dktX2_become_3 := dk_seg dksX2_become_2 24 rfl rfl
theorem dksX2_become_4 : cX2_become.data.toList.drop 94 = dktX2_become_4 := dk_seg dksX2_become_3 22 rfl rfl
theorem dksX2_become_5 : cX2_become.data.toList.drop 117 = dktX2_become_5 := dk_seg dksX2_become_4 23 rfl rfl
theorem dksX2_become_6 : cX2_become.data.toList.drop 141 = dktX2_become_6 := dk_seg dksX2_become_5 24 rfl rfl
theorem dksX2_become_7 : cX2_become.data.toList.drop 165 = dktX2_become_7 := dk_seg dksX2_become_6 24 rfl rfl
theorem dksX2_become_8 : cX2_become.data.toList.drop 188 = dktX2_become_8 := dk_seg dksX2_become_7 23 rfl rfl
theorem dX2_become_0 : decode cX2_become 0 = .ok (.aload_n 0, 1) := dk_42 (dk_at dksX2_become_0 0 rfl rfl)
theorem dX2_become_1 : decode cX2_become 1 = .ok (.aload_n 1, 1) := dk_43 (dk_at dksX2_become_0 1 rfl rfl)
theorem dX2_become_2 : decode cX2_become 2 = .ok (.getfield 53, 3) := dk_180 0 53 (dk_at dksX2_become_0 2 rfl rfl)
theorem dX2_become_5 : decode cX2_become 5 = .ok (.putfield 53, 3) := dk_181 0 53 (dk_at dksX2_become_0 5 rfl rfl)
theorem dX2_become_8 : decode cX2_become 8 = .ok (.aload_n 1, 1) := dk_43 (dk_at dksX2_become_0 8 rfl rfl)
theorem dX2_become_9 : decode cX2_become 9 = .ok (.getfield 15, 3) := dk_180 0 15 (dk_at dksX2_become_0 9 rfl rfl)
theorem dX2_become_12 : decode cX2_become 12 = .ok (.iconst 0, 1) := dk_3 (dk_at dksX2_become_0 12 rfl rfl)
theorem dX2_become_13 : decode cX2_become 13 = .ok (.aload_n 0, 1) := dk_42 (dk_at dksX2_become_0 13 rfl rfl)
theorem dX2_become_14 : decode cX2_become 14 = .ok (.getfield 15, 3) := dk_180 0 15 (dk_at dksX2_become_0 14 rfl rfl)
theorem dX2_become_17 : decode cX2_become 17 = .ok (.iconst 0, 1) := dk_3 (dk_at dksX2_become_0 17 rfl rfl)
theorem dX2_become_18 : decode cX2_become 18 = .ok (.bipush 8, 2) := dk_16 8 (dk_at dksX2_become_0 18 rfl rfl)
theorem dX2_become_20 : decode cX2_become 20 = .ok (.invokestatic 57, 3) := dk_184 0 57 (dk_at dksX2_become_0 20 rfl rfl)
theorem dX2_become_23 : decode cX2_become 23 = .ok (.aload_n 1, 1) := dk_43 (dk_at dksX2_become_0 23 rfl rfl)
theorem dX2_become_24 : decode cX2_become 24 = .ok (.getfield 19, 3) := dk_180 0 19 (dk_at dksX2_become_1 0 rfl rfl)
theorem dX2_become_27 : decode cX2_become 27 = .ok (.iconst 0, 1) := dk_3 (dk_at dksX2_become_1 3 rfl rfl)
theorem dX2_become_28 : decode cX2_become 28 = .ok (.aload_n 0, 1) := dk_42 (dk_at dksX2_become_1 4 rfl rfl)
theorem dX2_become_29 : decode cX2_become 29 = .ok (.getfield 19, 3) := dk_180 0 19 (dk_at dksX2_become_1 5 rfl rfl)
theorem dX2_become_32 : decode cX2_become 32 = .ok (.iconst 0, 1) := dk_3 (dk_at dksX2_become_1 8 rfl rfl)
theorem dX2_become_33 : decode cX2_become 33 = .ok (.bipush 8, 2) := dk_16 8 (dk_at dksX2_become_1 9 rfl rfl)
theorem dX2_become_35 : decode cX2_become 35 = .ok (.invokestatic 57, 3) := dk_184 0 57 (dk_at dksX2_become_1 11 rfl rfl)
theorem dX2_become_38 : decode cX2_become 38 = .ok (.aload_n 1, 1) := dk_43 (dk_at dksX2_become_1 14 rfl rfl)
theorem dX2_become_39 : decode cX2_become 39 = .ok (.getfield 22, 3) := dk_180 0 22 (dk_at dksX2_become_1 15 rfl rfl)
theorem dX2_become_42 : decode cX2_become 42 = .ok (.iconst 0, 1) := dk_3 (dk_at dksX2_become_1 18 rfl rfl)
theorem dX2_become_43 : decode cX2_become 43 = .ok (.aload_n 0, 1) := dk_42 (dk_at dksX2_become_1 19 rfl rfl)
theorem dX2_become_44 : decode cX2_become 44 = .ok (.getfield 22, 3) := dk_180 0 22 (dk_at dksX2_become_1 20 rfl rfl)
theorem dX2_become_47 : decode cX2_become 47 = .ok (.iconst 0, 1) := dk_3 (dk_at dksX2_become_1 23 rfl rfl)
theorem dX2_become_48 : decode cX2_become 48 = .ok (.bipush 8, 2) := dk_16 8 (dk_at dksX2_become_2 0 rfl rfl)
theorem dX2_become_50 : decode cX2_become 50 = .ok (.invokestatic 57, 3) := dk_184 0 57 (dk_at dksX2_become_2 2 rfl rfl)
theorem dX2_become_53 : decode cX2_become 53 = .ok (.aload_n 1, 1) := dk_43 (dk_at dksX2_become_2 5 rfl rfl)
theorem dX2_become_54 : decode cX2_become 54 = .ok (.getfield 26, 3) := dk_180 0 26 (dk_at dksX2_become_2 6 rfl rfl)
theorem dX2_become_57 : decode cX2_become 57 = .ok (.iconst 0, 1) := dk_3 (dk_at dksX2_become_2 9 rfl rfl)
theorem dX2_become_58 : decode cX2_become 58 = .ok (.aload_n 0, 1) := dk_42 (dk_at dksX2_become_2 10 rfl rfl)
theorem dX2_become_59 : decode cX2_become 59 = .ok (.getfield 26, 3) := dk_180 0 26 (dk_at dksX2_become_2 11 rfl rfl)
theorem dX2_become_62 : decode cX2_become 62 = .ok (.iconst 0, 1) := dk_3 (dk_at dksX2_become_2 14 rfl rfl)
theorem dX2_become_63 : decode cX2_become 63 = .ok (.bipush 8, 2) := dk_16 8 (dk_at dksX2_become_2 15 rfl rfl)
theorem dX2_become_65 : decode cX2_become 65 = .ok (.invokestatic 57, 3) := dk_184 0 57 (dk_at dksX2_become_2 17 rfl rfl)
theorem dX2_become_68 : decode cX2_become 68 = .ok (.aload_n 1, 1) := dk_43 (dk_at dksX2_become_2 20 rfl rfl)
theorem dX2_become_69 : decode cX2_become 69 = .ok (.getfield 29, 3) := dk_180 0 29 (dk_at dksX2_become_2 21 rfl rfl)
theorem dX2_become_72 : decode cX2_become 72 = .ok (.iconst 0, 1) := dk_3 (dk_at dksX2_become_3 0 rfl rfl)
theorem dX2_become_73 : decode cX2_become 73 = .ok (.aload_n 0, 1) := dk_42 (dk_at dksX2_become_3 1 rfl rfl)
theorem dX2_become_74 : decode cX2_become 74 = .ok (.getfield 29, 3) := dk_180 0 29 (dk_at dksX2_become_3 2 rfl rfl)
theorem dX2_become_77 : decode cX2_become 77 = .ok (.iconst 0, 1) := dk_3 (dk_at dksX2_become_3 5 rfl rfl)
theorem dX2_become_78 : decode cX2_become 78 = .ok (.bipush 8, 2) := dk_16 8 (dk_at dksX2_become_3 6 rfl rfl)
theorem dX2_become_80 : decode cX2_become 80 = .ok (.invokestatic 57, 3) := dk_184 0 57 (dk_at dksX2_become_3 8 rfl rfl)
theorem dX2_become_83 : decode cX2_become 83 = .ok (.aload_n 1, 1) := dk_43 (dk_at dksX2_become_3 11 rfl rfl)
theorem dX2_become_84 : decode cX2_become 84 = .ok (.getfield 32, 3) := dk_180 0 32 (dk_at dksX2_become_3 12 rfl rfl)
theorem dX2_become_87 : decode cX2_become 87 = .ok (.iconst 0, 1) := dk_3 (dk_at dksX2_become_3 15 rfl rfl)
theorem dX2_become_88 : decode cX2_become 88 = .ok (.aload_n 0, 1) := dk_42 (dk_at dksX2_become_3 16 rfl rfl)
theorem dX2_become_89 : decode cX2_become 89 = .ok (.getfield 32, 3) := dk_180 0 32 (dk_at dksX2_become_3 17 rfl rfl)
theorem dX2_become_92 : decode cX2_become 92 = .ok (.iconst 0, 1) := dk_3 (dk_at dksX2_become_3 20 rfl rfl)
theorem dX2_become_93 : decode cX2_become 93 = .ok (.aload_n 0, 1) := dk_42 (dk_at dksX2_become_3 21 rfl rfl)
theorem dX2_become_94 : decode cX2_become 94 = .ok (.getfield 32, 3) := dk_180 0 32 (dk_at dksX2_become_4 0 rfl rfl)
theorem dX2_become_97 : decode cX2_become 97 = .ok (.arraylength, 1) := dk_190 (dk_at dksX2_become_4 3 rfl rfl)
theorem dX2_become_98 : decode cX2_become 98 = .ok (.invokestatic 57, 3) := dk_184 0 57 (dk_at dksX2_become_4 4 rfl rfl)
theorem dX2_become_101 : decode cX2_become 101 = .ok (.aload_n 1, 1) := dk_43 (dk_at dksX2_become_4 7 rfl rfl)
theorem dX2_become_102 : decode cX2_become 102 = .ok (.getfield 35, 3) := dk_180 0 35 (dk_at dksX2_become_4 8 rfl rfl)
theorem dX2_become_105 : decode cX2_become 105 = .ok (.iconst 0, 1) := dk_3 (dk_at dksX2_become_4 11 rfl rfl)
theorem dX2_become_106 : decode cX2_become 106 = .ok (.aload_n 0, 1) := dk_42 (dk_at dksX2_become_4 12 rfl rfl)
theorem dX2_become_107 : decode cX2_become 107 = .ok (.getfield 35, 3) := dk_180 0 35 (dk_at dksX2_become_4 13 rfl rfl)
theorem dX2_become_110 : decode cX2_become 110 = .ok (.iconst 0, 1) := dk_3 (dk_at dksX2_become_4 16 rfl rfl)
theorem dX2_become_111 : decode cX2_become 111 = .ok (.bipush 10, 2) := dk_16 10 (dk_at dksX2_become_4 17 rfl rfl)
theorem dX2_become_113 : decode cX2_become 113 = .ok (.invokestatic 57, 3) := dk_184 0 57 (dk_at dksX2_become_4 19 rfl rfl)
theorem dX2_become_116 : decode cX2_become 116 = .ok (.aload_n 1, 1) := dk_43 (dk_at dksX2_become_4 22 rfl rfl)
theorem dX2_become_117 : decode cX2_become 117 = .ok (.getfield 38, 3) := dk_180 0 38 (dk_at dksX2_become_5 0 rfl rfl)
theorem dX2_become_120 : decode cX2_become 120 = .ok (.iconst 0, 1) := dk_3 (dk_at dksX2_become_5 3 rfl rfl)
theorem dX2_become_121 : decode cX2_become 121 = .ok (.aload_n 0, 1) := dk_42 (dk_at dksX2_become_5 4 rfl rfl)
theorem dX2_become_122 : decode cX2_become 122 = .ok (.getfield 38, 3) := dk_180 0 38 (dk_at dksX2_become_5 5 rfl rfl)
theorem dX2_become_125 : decode cX2_become 125 = .ok (.iconst 0, 1) := dk_3 (dk_at dksX2_become_5 8 rfl rfl)
theorem dX2_become_126 : decode cX2_become 126 = .ok (.bipush 10, 2) := dk_16 10 (dk_at dksX2_become_5 9 rfl rfl)
theorem dX2_become_128 : decode cX2_become 128 = .ok (.invokestatic 57, 3) := dk_184 0 57 (dk_at dksX2_become_5 11 rfl rfl)
theorem dX2_become_131 : decode cX2_become 131 = .ok (.aload_n 1, 1) := dk_43 (dk_at dksX2_become_5 14 rfl rfl)
theorem dX2_become_132 : decode cX2_become 132 = .ok (.getfield 41, 3) := dk_180 0 41 (dk_at dksX2_become_5 15 rfl rfl)
theorem dX2_become_135 : decode cX2_become 135 = .ok (.iconst 0, 1) := dk_3 (dk_at dksX2_become_5 18 rfl rfl)
theorem dX2_become_136 : decode cX2_become 136 = .ok (.aload_n 0, 1) := dk_42 (dk_at dksX2_become_5 19 rfl rfl)
theorem dX2_become_137 : decode cX2_become 137 = .ok (.getfield 41, 3) := dk_180 0 41 (dk_at dksX2_become_5 20 rfl rfl)
theorem dX2_become_140 : decode cX2_become 140 = .ok (.iconst 0, 1) := dk_3 (dk_at dksX2_become_5 23 rfl rfl)
theorem dX2_become_141 : decode cX2_become 141 = .ok (.bipush 10, 2) := dk_16 10 (dk_at dksX2_become_6 0 rfl rfl)
theorem dX2_become_143 : decode cX2_become 143 = .ok (.invokestatic 57, 3) := dk_184 0 57 (dk_at dksX2_become_6 2 rfl rfl)
theorem dX2_become_146 : decode cX2_become 146 = .ok (.aload_n 1, 1) := dk_43 (dk_at dksX2_become_6 5 rfl rfl)
theorem dX2_become_147 : decode cX2_become 147 = .ok (.getfield 44, 3) := dk_180 0 44 (dk_at dksX2_become_6 6 rfl rfl)
theorem dX2_become_150 : decode cX2_become 150 = .ok (.iconst 0, 1) := dk_3 (dk_at dksX2_become_6 9 rfl rfl)
theorem dX2_become_151 : decode cX2_become 151 = .ok (.aload_n 0, 1) := dk_42 (dk_at dksX2_become_6 10 rfl rfl)
theorem dX2_become_152 : decode cX2_become 152 = .ok (.getfield 44, 3) := dk_180 0 44 (dk_at dksX2_become_6 11 rfl rfl)
theorem dX2_become_155 : decode cX2_become 155 = .ok (.iconst 0, 1) := dk_3 (dk_at dksX2_become_6 14 rfl rfl)
theorem dX2_become_156 : decode cX2_become 156 = .ok (.bipush 10, 2) := dk_16 10 (dk_at dksX2_become_6 15 rfl rfl)
theorem dX2_become_158 : decode cX2_become 158 = .ok (.invokestatic 57, 3) := dk_184 0 57 (dk_at dksX2_become_6 17 rfl rfl)
theorem dX2_become_161 : decode cX2_become 161 = .ok (.aload_n 1, 1) := dk_43 (dk_at dksX2_become_6 20 rfl rfl)
theorem dX2_become_162 : decode cX2_become 162 = .ok (.getfield 47, 3) := dk_180 0 47 (dk_at dksX2_become_6 21 rfl rfl)
theorem dX2_become_165 : decode cX2_become 165 = .ok (.iconst 0, 1) := dk_3 (dk_at dksX2_become_7 0 rfl rfl)
theorem dX2_become_166 : decode cX2_become 166 = .ok (.aload_n 0, 1) := dk_42 (dk_at dksX2_become_7 1 rfl rfl)
theorem dX2_become_167 : decode cX2_become 167 = .ok (.getfield 47, 3) := dk_180 0 47 (dk_at dksX2_become_7 2 rfl rfl)
theorem dX2_become_170 : decode cX2_become 170 = .ok (.iconst 0, 1) := dk_3 (dk_at dksX2_become_7 5 rfl rfl)
theorem dX2_become_171 : decode cX2_become 171 = .ok (.bipush 10, 2) := dk_16 10 (dk_at dksX2_become_7 6 rfl rfl)
theorem dX2_become_173 : decode cX2_become 173 = .ok (.invokestatic 57, 3) := dk_184 0 57 (dk_at dksX2_become_7 8 rfl rfl)
theorem dX2_become_176 : decode cX2_become 176 = .ok (.aload_n 1, 1) := dk_43 (dk_at dksX2_become_7 11 rfl rfl)
theorem dX2_become_177 : decode cX2_become 177 = .ok (.getfield 50, 3) := dk_180 0 50 (dk_at dksX2_become_7 12 rfl rfl)
theorem dX2_become_180 : decode cX2_become 180 = .ok (.iconst 0, 1) := dk_3 (dk_at dksX2_become_7 15 rfl rfl)
theorem dX2_become_181 : decode cX2_become 181 = .ok (.aload_n 0, 1) := dk_42 (dk_at dksX2_become_7 16 rfl rfl)
theorem dX2_become_182 : decode cX2_become 182 = .ok (.getfield 50, 3) := dk_180 0 50 (dk_at dksX2_become_7 17 rfl rfl)
theorem dX2_become_185 : decode cX2_become 185 = .ok (.iconst 0, 1) := dk_3 (dk_at dksX2_become_7 20 rfl rfl)
theorem dX2_become_186 : decode cX2_become 186 = .ok (.bipush 8, 2) := dk_16 8 (dk_at dksX2_become_7 21 rfl rfl)
theorem dX2_become_188 : decode cX2_become 188 = .ok (.invokestatic 57, 3) := dk_184 0 57 (dk_at dksX2_become_8 0 rfl rfl)
theorem dX2_become_191 : decode cX2_become 191 = .ok (.aload_n 0, 1) := dk_42 (dk_at dksX2_become_8 3 rfl rfl)
theorem dX2_become_192 : decode cX2_become 192 = .ok (.aload_n 1, 1) := dk_43 (dk_at dksX2_become_8 4 rfl rfl)
theorem dX2_become_193 : decode cX2_become 193 = .ok (.getfield 63, 3) := dk_180 0 63 (dk_at dksX2_become_8 5 rfl rfl)
theorem dX2_become_196 : decode cX2_become 196 = .ok (.putfield 63, 3) := dk_181 0 63 (dk_at dksX2_become_8 8 rfl rfl)
theorem dX2_become_199 : decode cX2_become 199 = .ok (.aload_n 0, 1) := dk_42 (dk_at dksX2_become_8 11 rfl rfl)
theorem dX2_become_200 : decode cX2_become 200 = .ok (.aload_n 1, 1) := dk_43 (dk_at dksX2_become_8 12 rfl rfl)
theorem dX2_become_201 : decode cX2_become 201 = .ok (.getfield 66, 3) := dk_180 0 66 (dk_at dksX2_become_8 13 rfl rfl)
theorem dX2_become_204 : decode cX2_become 204 = .ok (.putfield 66, 3) := dk_181 0 66 (dk_at dksX2_become_8 16 rfl rfl)
theorem dX2_become_207 : decode cX2_become 207 = .ok (.return_, 1) := dk_177 (dk_at dksX2_become_8 19 rfl rfl)
theorem q47 : (Jvm.Cond.initialized "PennyArcade$Hall") ∈ lw_all := lw_g (lw_at lw_m1 5 rfl) rfl
theorem q103 : (Jvm.Cond.instantiable "PennyArcade$Hall" (16 : Nat)) ∈ lw_all := lw_g (lw_at lw_m1 61 rfl) rfl
theorem q105 : (Jvm.Cond.instanceMethod ({ cls := "PennyArcade$Hall", name := "<init>", desc := "(LPennyArcade;)V" } : Jvm.MethodName)) ∈ lw_all := lw_g (lw_at lw_m1 63 rfl) rfl
theorem q106 : (Jvm.Cond.code ({ cls := "PennyArcade$Hall", name := "<init>", desc := "(LPennyArcade;)V" } : Jvm.MethodName) prog_2_method_1_code (2 : Nat) (Option.none : Option Jvm.ClassFile.FieldType)) ∈ lw_all := lw_g (lw_at lw_m1 64 rfl) rfl
theorem q107 : (Jvm.Cond.methodLink "PennyArcade$Hall" (9 : Nat) ({ cls := "java/lang/Object", name := "<init>", desc := "()V" } : Jvm.MethodName)) ∈ lw_all := lw_g (lw_at lw_m1 65 rfl) rfl
theorem q108 : (Jvm.Cond.fieldLink "PennyArcade$Hall" (53 : Nat) "PennyArcade$Hall" "round" "I") ∈ lw_all := lw_g (lw_at lw_m1 66 rfl) rfl
theorem q110 : (Jvm.Cond.fieldLink "PennyArcade$Hall" (15 : Nat) "PennyArcade$Hall" "boxes" "[I") ∈ lw_all := lw_g (lw_at lw_m1 68 rfl) rfl
theorem q113 : (Jvm.Cond.fieldLink "PennyArcade$Hall" (19 : Nat) "PennyArcade$Hall" "wears" "[I") ∈ lw_all := lw_g (lw_at lw_m1 71 rfl) rfl
theorem q115 : (Jvm.Cond.fieldLink "PennyArcade$Hall" (22 : Nat) "PennyArcade$Hall" "areJammed" "[Z") ∈ lw_all := lw_g (lw_at lw_m1 73 rfl) rfl
theorem q117 : (Jvm.Cond.fieldLink "PennyArcade$Hall" (26 : Nat) "PennyArcade$Hall" "letIn" "[I") ∈ lw_all := lw_g (lw_at lw_m1 75 rfl) rfl
theorem q119 : (Jvm.Cond.fieldLink "PennyArcade$Hall" (29 : Nat) "PennyArcade$Hall" "paid" "[I") ∈ lw_all := lw_g (lw_at lw_m1 77 rfl) rfl
theorem q121 : (Jvm.Cond.fieldLink "PennyArcade$Hall" (32 : Nat) "PennyArcade$Hall" "ledges" "[I") ∈ lw_all := lw_g (lw_at lw_m1 79 rfl) rfl
theorem q124 : (Jvm.Cond.fieldLink "PennyArcade$Hall" (35 : Nat) "PennyArcade$Hall" "purses" "[I") ∈ lw_all := lw_g (lw_at lw_m1 82 rfl) rfl
theorem q126 : (Jvm.Cond.fieldLink "PennyArcade$Hall" (38 : Nat) "PennyArcade$Hall" "at" "[I") ∈ lw_all := lw_g (lw_at lw_m1 84 rfl) rfl
theorem q128 : (Jvm.Cond.fieldLink "PennyArcade$Hall" (41 : Nat) "PennyArcade$Hall" "lost" "[I") ∈ lw_all := lw_g (lw_at lw_m1 86 rfl) rfl
theorem q130 : (Jvm.Cond.fieldLink "PennyArcade$Hall" (44 : Nat) "PennyArcade$Hall" "played" "[I") ∈ lw_all := lw_g (lw_at lw_m1 88 rfl) rfl
theorem q132 : (Jvm.Cond.fieldLink "PennyArcade$Hall" (47 : Nat) "PennyArcade$Hall" "won" "[I") ∈ lw_all := lw_g (lw_at lw_m1 90 rfl) rfl
theorem q134 : (Jvm.Cond.fieldLink "PennyArcade$Hall" (50 : Nat) "PennyArcade$Hall" "row" "[I") ∈ lw_all := lw_g (lw_at lw_m1 92 rfl) rfl
theorem q136 : (Jvm.Cond.fieldLink "PennyArcade$Hall" (63 : Nat) "PennyArcade$Hall" "calls" "I") ∈ lw_all := lw_g (lw_at lw_m1 94 rfl) rfl
theorem q138 : (Jvm.Cond.fieldLink "PennyArcade$Hall" (66 : Nat) "PennyArcade$Hall" "left" "I") ∈ lw_all := lw_g (lw_at lw_m1 96 rfl) rfl
theorem q140 : (Jvm.Cond.fieldLink "PennyArcade$Hall" (3 : Nat) "PennyArcade$Hall" "this$0" "LPennyArcade;") ∈ lw_all := lw_g (lw_at lw_m1 98 rfl) rfl
theorem q141 : (Jvm.Cond.lays "PennyArcade$Hall" "PennyArcade$Hall" "round" "I") ∈ lw_all := lw_g (lw_at lw_m1 99 rfl) rfl
theorem q142 : (Jvm.Cond.soleField "PennyArcade$Hall" "round") ∈ lw_all := lw_g (lw_at lw_m1 100 rfl) rfl
theorem q143 : (Jvm.Cond.laysFinal "PennyArcade$Hall" "PennyArcade$Hall" "boxes" "[I") ∈ lw_all := lw_g (lw_at lw_m1 101 rfl) rfl
theorem q144 : (Jvm.Cond.soleField "PennyArcade$Hall" "boxes") ∈ lw_all := lw_g (lw_at lw_m1 102 rfl) rfl
theorem q145 : (Jvm.Cond.laysFinal "PennyArcade$Hall" "PennyArcade$Hall" "wears" "[I") ∈ lw_all := lw_g (lw_at lw_m1 103 rfl) rfl
theorem q146 : (Jvm.Cond.soleField "PennyArcade$Hall" "wears") ∈ lw_all := lw_g (lw_at lw_m1 104 rfl) rfl
theorem q147 : (Jvm.Cond.laysFinal "PennyArcade$Hall" "PennyArcade$Hall" "areJammed" "[Z") ∈ lw_all := lw_g (lw_at lw_m1 105 rfl) rfl
theorem q148 : (Jvm.Cond.soleField "PennyArcade$Hall" "areJammed") ∈ lw_all := lw_g (lw_at lw_m1 106 rfl) rfl
theorem q149 : (Jvm.Cond.laysFinal "PennyArcade$Hall" "PennyArcade$Hall" "letIn" "[I") ∈ lw_all := lw_g (lw_at lw_m1 107 rfl) rfl
theorem q150 : (Jvm.Cond.soleField "PennyArcade$Hall" "letIn") ∈ lw_all := lw_g (lw_at lw_m1 108 rfl) rfl
theorem q151 : (Jvm.Cond.laysFinal "PennyArcade$Hall" "PennyArcade$Hall" "paid" "[I") ∈ lw_all := lw_g (lw_at lw_m1 109 rfl) rfl
theorem q152 : (Jvm.Cond.soleField "PennyArcade$Hall" "paid") ∈ lw_all := lw_g (lw_at lw_m1 110 rfl) rfl
theorem q153 : (Jvm.Cond.laysFinal "PennyArcade$Hall" "PennyArcade$Hall" "ledges" "[I") ∈ lw_all := lw_g (lw_at lw_m1 111 rfl) rfl
theorem q154 : (Jvm.Cond.soleField "PennyArcade$Hall" "ledges") ∈ lw_all := lw_g (lw_at lw_m1 112 rfl) rfl
theorem q155 : (Jvm.Cond.laysFinal "PennyArcade$Hall" "PennyArcade$Hall" "purses" "[I") ∈ lw_all := lw_g (lw_at lw_m1 113 rfl) rfl
theorem q156 : (Jvm.Cond.soleField "PennyArcade$Hall" "purses") ∈ lw_all := lw_g (lw_at lw_m1 114 rfl) rfl
theorem q157 : (Jvm.Cond.laysFinal "PennyArcade$Hall" "PennyArcade$Hall" "at" "[I") ∈ lw_all := lw_g (lw_at lw_m1 115 rfl) rfl
theorem q158 : (Jvm.Cond.soleField "PennyArcade$Hall" "at") ∈ lw_all := lw_g (lw_at lw_m1 116 rfl) rfl
theorem q159 : (Jvm.Cond.laysFinal "PennyArcade$Hall" "PennyArcade$Hall" "lost" "[I") ∈ lw_all := lw_g (lw_at lw_m1 117 rfl) rfl
theorem q160 : (Jvm.Cond.soleField "PennyArcade$Hall" "lost") ∈ lw_all := lw_g (lw_at lw_m1 118 rfl) rfl
theorem q161 : (Jvm.Cond.laysFinal "PennyArcade$Hall" "PennyArcade$Hall" "played" "[I") ∈ lw_all := lw_g (lw_at lw_m1 119 rfl) rfl
theorem q162 : (Jvm.Cond.soleField "PennyArcade$Hall" "played") ∈ lw_all := lw_g (lw_at lw_m1 120 rfl) rfl
theorem q163 : (Jvm.Cond.laysFinal "PennyArcade$Hall" "PennyArcade$Hall" "won" "[I") ∈ lw_all := lw_g (lw_at lw_m1 121 rfl) rfl
theorem q164 : (Jvm.Cond.soleField "PennyArcade$Hall" "won") ∈ lw_all := lw_g (lw_at lw_m1 122 rfl) rfl
theorem q165 : (Jvm.Cond.laysFinal "PennyArcade$Hall" "PennyArcade$Hall" "row" "[I") ∈ lw_all := lw_g (lw_at lw_m1 123 rfl) rfl
theorem q166 : (Jvm.Cond.soleField "PennyArcade$Hall" "row") ∈ lw_all := lw_g (lw_at lw_m1 124 rfl) rfl
theorem q167 : (Jvm.Cond.lays "PennyArcade$Hall" "PennyArcade$Hall" "calls" "I") ∈ lw_all := lw_g (lw_at lw_m1 125 rfl) rfl
theorem q168 : (Jvm.Cond.soleField "PennyArcade$Hall" "calls") ∈ lw_all := lw_g (lw_at lw_m1 126 rfl) rfl
theorem q169 : (Jvm.Cond.lays "PennyArcade$Hall" "PennyArcade$Hall" "left" "I") ∈ lw_all := lw_g (lw_at lw_m1 127 rfl) rfl
theorem q170 : (Jvm.Cond.soleField "PennyArcade$Hall" "left") ∈ lw_all := lw_g (lw_at lw_m1 128 rfl) rfl
theorem q171 : (Jvm.Cond.laysFinal "PennyArcade$Hall" "PennyArcade$Hall" "this$0" "LPennyArcade;") ∈ lw_all := lw_g (lw_at lw_m1 129 rfl) rfl
theorem q172 : (Jvm.Cond.soleField "PennyArcade$Hall" "this$0") ∈ lw_all := lw_g (lw_at lw_m1 130 rfl) rfl
theorem q173 : (Jvm.Cond.superclass "PennyArcade$Hall" "java/lang/Object") ∈ lw_all := lw_g (lw_at lw_m1 131 rfl) rfl
theorem q177 : (Jvm.Cond.fieldLinkNest "PennyArcade$Hall" (92 : Nat) "PennyArcade" "machines" "Ljava/util/ArrayList;" "PennyArcade") ∈ lw_tbl := lw_at lw_m1 135 rfl
theorem q179 : (Jvm.Cond.fieldLinkNest "PennyArcade$Hall" (113 : Nat) "PennyArcade" "players" "Ljava/util/ArrayList;" "PennyArcade") ∈ lw_tbl := lw_at lw_m1 137 rfl
theorem q182 : (Jvm.Cond.fieldLinkNest "PennyArcade$Hall" (127 : Nat) "PennyArcade" "skill" "I" "PennyArcade") ∈ lw_tbl := lw_at lw_m1 140 rfl
theorem q204 : (Jvm.Cond.instanceMethod ({ cls := "PennyArcade$Hall", name := "over", desc := "([II)I" } : Jvm.MethodName)) ∈ lw_all := lw_g (lw_at lw_m1 162 rfl) rfl
theorem q205 : (Jvm.Cond.selects "PennyArcade$Hall" ({ cls := "PennyArcade$Hall", name := "over", desc := "([II)I" } : Jvm.MethodName) ({ cls := "PennyArcade$Hall", name := "over", desc := "([II)I" } : Jvm.MethodName)) ∈ lw_all := lw_g (lw_at lw_m1 163 rfl) rfl
theorem q206 : (Jvm.Cond.code ({ cls := "PennyArcade$Hall", name := "over", desc := "([II)I" } : Jvm.MethodName) prog_2_method_12_code (5 : Nat) (Option.some Jvm.ClassFile.FieldType.int)) ∈ lw_all := lw_g (lw_at lw_m1 164 rfl) rfl
theorem q218 : (Jvm.Cond.instanceMethod ({ cls := "PennyArcade$Hall", name := "jammed", desc := "()I" } : Jvm.MethodName)) ∈ lw_all := lw_g (lw_at lw_m1 176 rfl) rfl
theorem q219 : (Jvm.Cond.selects "PennyArcade$Hall" ({ cls := "PennyArcade$Hall", name := "jammed", desc := "()I" } : Jvm.MethodName) ({ cls := "PennyArcade$Hall", name := "jammed", desc := "()I" } : Jvm.MethodName)) ∈ lw_all := lw_g (lw_at lw_m1 177 rfl) rfl
theorem q220 : (Jvm.Cond.code ({ cls := "PennyArcade$Hall", name := "jammed", desc := "()I" } : Jvm.MethodName) prog_2_method_14_code (3 : Nat) (Option.some Jvm.ClassFile.FieldType.int)) ∈ lw_all := lw_g (lw_at lw_m1 178 rfl) rfl
theorem q221 : (Jvm.Cond.methodLink "PennyArcade$Hall" (121 : Nat) ({ cls := "java/util/ArrayList", name := "size", desc := "()I" } : Jvm.MethodName)) ∈ lw_all := lw_g (lw_at lw_m1 179 rfl) rfl
theorem q223 : (Jvm.Cond.instanceMethod ({ cls := "PennyArcade$Hall", name := "playersAt", desc := "(I)I" } : Jvm.MethodName)) ∈ lw_all := lw_g (lw_at lw_m1 181 rfl) rfl
theorem q224 : (Jvm.Cond.selects "PennyArcade$Hall" ({ cls := "PennyArcade$Hall", name := "playersAt", desc := "(I)I" } : Jvm.MethodName) ({ cls := "PennyArcade$Hall", name := "playersAt", desc := "(I)I" } : Jvm.MethodName)) ∈ lw_all := lw_g (lw_at lw_m1 182 rfl) rfl
theorem q225 : (Jvm.Cond.code ({ cls := "PennyArcade$Hall", name := "playersAt", desc := "(I)I" } : Jvm.MethodName) prog_2_method_15_code (4 : Nat) (Option.some Jvm.ClassFile.FieldType.int)) ∈ lw_all := lw_g (lw_at lw_m1 183 rfl) rfl
theorem q227 : (Jvm.Cond.instanceMethod ({ cls := "PennyArcade$Hall", name := "inBoxes", desc := "()I" } : Jvm.MethodName)) ∈ lw_all := lw_g (lw_at lw_m1 185 rfl) rfl
theorem q228 : (Jvm.Cond.selects "PennyArcade$Hall" ({ cls := "PennyArcade$Hall", name := "inBoxes", desc := "()I" } : Jvm.MethodName) ({ cls := "PennyArcade$Hall", name := "inBoxes", desc := "()I" } : Jvm.MethodName)) ∈ lw_all := lw_g (lw_at lw_m1 186 rfl) rfl
theorem q229 : (Jvm.Cond.code ({ cls := "PennyArcade$Hall", name := "inBoxes", desc := "()I" } : Jvm.MethodName) prog_2_method_13_code (1 : Nat) (Option.some Jvm.ClassFile.FieldType.int)) ∈ lw_all := lw_g (lw_at lw_m1 187 rfl) rfl
theorem q230 : (Jvm.Cond.methodLink "PennyArcade$Hall" (139 : Nat) ({ cls := "PennyArcade$Hall", name := "over", desc := "([II)I" } : Jvm.MethodName)) ∈ lw_all := lw_g (lw_at lw_m1 188 rfl) rfl
theorem q260 : (Jvm.Cond.instanceMethod ({ cls := "PennyArcade$Hall", name := "onLedge", desc := "(I)I" } : Jvm.MethodName)) ∈ lw_all := lw_g (lw_at lw_m1 218 rfl) rfl
theorem q261 : (Jvm.Cond.selects "PennyArcade$Hall" ({ cls := "PennyArcade$Hall", name := "onLedge", desc := "(I)I" } : Jvm.MethodName) ({ cls := "PennyArcade$Hall", name := "onLedge", desc := "(I)I" } : Jvm.MethodName)) ∈ lw_all := lw_g (lw_at lw_m1 219 rfl) rfl
theorem q262 : (Jvm.Cond.code ({ cls := "PennyArcade$Hall", name := "onLedge", desc := "(I)I" } : Jvm.MethodName) prog_2_method_3_code (4 : Nat) (Option.some Jvm.ClassFile.FieldType.int)) ∈ lw_all := lw_g (lw_at lw_m1 220 rfl) rfl
theorem q382 : (Jvm.Cond.fieldLink "PennyArcade$Hall" (69 : Nat) "PennyArcade$Machine" "number" "I") ∈ lw_all := lw_g (lw_at lw_m2 100 rfl) rfl
theorem q436 : (Jvm.Cond.selects "PennyArcade$Hall" ({ cls := "java/lang/Object", name := "getClass", desc := "()Ljava/lang/Class;" } : Jvm.MethodName) ({ cls := "java/lang/Object", name := "getClass", desc := "()Ljava/lang/Class;" } : Jvm.MethodName)) ∈ lw_all := lw_g (lw_at lw_m2 154 rfl) rfl
theorem q649 : (Jvm.Cond.fieldLink "PennyArcade$Hall" (118 : Nat) "PennyArcade$Player" "temper" "I") ∈ lw_all := lw_g (lw_at lw_m3 127 rfl) rfl
theorem q662 : (Jvm.Cond.instanceMethod ({ cls := "PennyArcade$Hall", name := "send", desc := "(II)V" } : Jvm.MethodName)) ∈ lw_all := lw_g (lw_at lw_m3 140 rfl) rfl
theorem q663 : (Jvm.Cond.selects "PennyArcade$Hall" ({ cls := "PennyArcade$Hall", name := "send", desc := "(II)V" } : Jvm.MethodName) ({ cls := "PennyArcade$Hall", name := "send", desc := "(II)V" } : Jvm.MethodName)) ∈ lw_all := lw_g (lw_at lw_m3 141 rfl) rfl
theorem q664 : (Jvm.Cond.code ({ cls := "PennyArcade$Hall", name := "send", desc := "(II)V" } : Jvm.MethodName) prog_2_method_5_code (3 : Nat) (Option.none : Option Jvm.ClassFile.FieldType)) ∈ lw_all := lw_g (lw_at lw_m3 142 rfl) rfl
theorem q680 : (Jvm.Cond.instanceMethod ({ cls := "PennyArcade$Hall", name := "play", desc := "(ILPennyArcade$Machine;II)I" } : Jvm.MethodName)) ∈ lw_all := lw_g (lw_at lw_m3 158 rfl) rfl
theorem q681 : (Jvm.Cond.selects "PennyArcade$Hall" ({ cls := "PennyArcade$Hall", name := "play", desc := "(ILPennyArcade$Machine;II)I" } : Jvm.MethodName) ({ cls := "PennyArcade$Hall", name := "play", desc := "(ILPennyArcade$Machine;II)I" } : Jvm.MethodName)) ∈ lw_all := lw_g (lw_at lw_m3 159 rfl) rfl
theorem q682 : (Jvm.Cond.code ({ cls := "PennyArcade$Hall", name := "play", desc := "(ILPennyArcade$Machine;II)I" } : Jvm.MethodName) prog_2_method_4_code (7 : Nat) (Option.some Jvm.ClassFile.FieldType.int)) ∈ lw_all := lw_g (lw_at lw_m3 160 rfl) rfl
theorem q683 : (Jvm.Cond.methodLink "PennyArcade$Hall" (74 : Nat) ({ cls := "PennyArcade$Machine", name := "take", desc := "(LPennyArcade$Hall;II)I" } : Jvm.MethodName)) ∈ lw_all := lw_g (lw_at lw_m3 161 rfl) rfl
theorem q692 : (Jvm.Cond.methodLink "PennyArcade$Hall" (78 : Nat) ({ cls := "java/lang/Math", name := "min", desc := "(II)I" } : Jvm.MethodName)) ∈ lw_all := lw_g (lw_at lw_m3 170 rfl) rfl
theorem q715 : (Jvm.Cond.instanceMethod ({ cls := "PennyArcade$Hall", name := "placeOf", desc := "(I)I" } : Jvm.MethodName)) ∈ lw_all := lw_g (lw_at lw_m3 193 rfl) rfl
theorem q716 : (Jvm.Cond.selects "PennyArcade$Hall" ({ cls := "PennyArcade$Hall", name := "placeOf", desc := "(I)I" } : Jvm.MethodName) ({ cls := "PennyArcade$Hall", name := "placeOf", desc := "(I)I" } : Jvm.MethodName)) ∈ lw_all := lw_g (lw_at lw_m3 194 rfl) rfl
theorem q717 : (Jvm.Cond.code ({ cls := "PennyArcade$Hall", name := "placeOf", desc := "(I)I" } : Jvm.MethodName) prog_2_method_8_code (3 : Nat) (Option.some Jvm.ClassFile.FieldType.int)) ∈ lw_all := lw_g (lw_at lw_m3 195 rfl) rfl
theorem q719 : (Jvm.Cond.instanceMethod ({ cls := "PennyArcade$Hall", name := "call", desc := "(I)V" } : Jvm.MethodName)) ∈ lw_all := lw_g (lw_at lw_m3 197 rfl) rfl
theorem q720 : (Jvm.Cond.selects "PennyArcade$Hall" ({ cls := "PennyArcade$Hall", name := "call", desc := "(I)V" } : Jvm.MethodName) ({ cls := "PennyArcade$Hall", name := "call", desc := "(I)V" } : Jvm.MethodName)) ∈ lw_all := lw_g (lw_at lw_m3 198 rfl) rfl
theorem q721 : (Jvm.Cond.code ({ cls := "PennyArcade$Hall", name := "call", desc := "(I)V" } : Jvm.MethodName) prog_2_method_9_code (2 : Nat) (Option.none : Option Jvm.ClassFile.FieldType)) ∈ lw_all := lw_g (lw_at lw_m3 199 rfl) rfl
theorem q740 : (Jvm.Cond.instanceMethod ({ cls := "PennyArcade$Hall", name := "pass", desc := "()I" } : Jvm.MethodName)) ∈ lw_all := lw_g (lw_at lw_m3 218 rfl) rfl
theorem q741 : (Jvm.Cond.selects "PennyArcade$Hall" ({ cls := "PennyArcade$Hall", name := "pass", desc := "()I" } : Jvm.MethodName) ({ cls := "PennyArcade$Hall", name := "pass", desc := "()I" } : Jvm.MethodName)) ∈ lw_all := lw_g (lw_at lw_m3 219 rfl) rfl
theorem q742 : (Jvm.Cond.code ({ cls := "PennyArcade$Hall", name := "pass", desc := "()I" } : Jvm.MethodName) prog_2_method_11_code (3 : Nat) (Option.some Jvm.ClassFile.FieldType.int)) ∈ lw_all := lw_g (lw_at lw_m3 220 rfl) rfl
theorem q743 : (Jvm.Cond.methodLink "PennyArcade$Hall" (133 : Nat) ({ cls := "PennyArcade$Hall", name := "turn", desc := "(I)I" } : Jvm.MethodName)) ∈ lw_all := lw_g (lw_at lw_m3 221 rfl) rfl
theorem q744 : (Jvm.Cond.privateMethod ({ cls := "PennyArcade$Hall", name := "turn", desc := "(I)I" } : Jvm.MethodName)) ∈ lw_tbl := lw_at lw_m3 222 rfl
theorem q745 : (Jvm.Cond.instanceMethod ({ cls := "PennyArcade$Hall", name := "turn", desc := "(I)I" } : Jvm.MethodName)) ∈ lw_all := lw_g (lw_at lw_m3 223 rfl) rfl
theorem q746 : (Jvm.Cond.code ({ cls := "PennyArcade$Hall", name := "turn", desc := "(I)I" } : Jvm.MethodName) prog_2_method_6_code (5 : Nat) (Option.some Jvm.ClassFile.FieldType.int)) ∈ lw_all := lw_g (lw_at lw_m3 224 rfl) rfl
theorem q747 : (Jvm.Cond.methodLink "PennyArcade$Hall" (84 : Nat) ({ cls := "PennyArcade$Hall", name := "richest", desc := "()I" } : Jvm.MethodName)) ∈ lw_all := lw_g (lw_at lw_m3 225 rfl) rfl
theorem q748 : (Jvm.Cond.privateMethod ({ cls := "PennyArcade$Hall", name := "richest", desc := "()I" } : Jvm.MethodName)) ∈ lw_tbl := lw_at lw_m3 226 rfl
theorem q749 : (Jvm.Cond.instanceMethod ({ cls := "PennyArcade$Hall", name := "richest", desc := "()I" } : Jvm.MethodName)) ∈ lw_all := lw_g (lw_at lw_m3 227 rfl) rfl
theorem q750 : (Jvm.Cond.code ({ cls := "PennyArcade$Hall", name := "richest", desc := "()I" } : Jvm.MethodName) prog_2_method_7_code (3 : Nat) (Option.some Jvm.ClassFile.FieldType.int)) ∈ lw_all := lw_g (lw_at lw_m3 228 rfl) rfl
theorem q751 : (Jvm.Cond.methodLink "PennyArcade$Hall" (124 : Nat) ({ cls := "PennyArcade$Hall", name := "onLedge", desc := "(I)I" } : Jvm.MethodName)) ∈ lw_all := lw_g (lw_at lw_m3 229 rfl) rfl
theorem q752 : (Jvm.Cond.methodLink "PennyArcade$Hall" (88 : Nat) ({ cls := "PennyArcade$Hall", name := "send", desc := "(II)V" } : Jvm.MethodName)) ∈ lw_all := lw_g (lw_at lw_m3 230 rfl) rfl
theorem q753 : (Jvm.Cond.methodLink "PennyArcade$Hall" (96 : Nat) ({ cls := "java/util/ArrayList", name := "get", desc := "(I)Ljava/lang/Object;" } : Jvm.MethodName)) ∈ lw_all := lw_g (lw_at lw_m3 231 rfl) rfl
theorem q754 : (Jvm.Cond.classLink "PennyArcade$Hall" (70 : Nat) "PennyArcade$Machine") ∈ lw_all := lw_g (lw_at lw_m3 232 rfl) rfl
theorem q755 : (Jvm.Cond.methodLink "PennyArcade$Hall" (102 : Nat) ({ cls := "PennyArcade$Machine", name := "columnIn", desc := "(I)I" } : Jvm.MethodName)) ∈ lw_all := lw_g (lw_at lw_m3 233 rfl) rfl
theorem q764 : (Jvm.Cond.methodLink "PennyArcade$Hall" (106 : Nat) ({ cls := "PennyArcade$Machine", name := "tiltAt", desc := "(I)I" } : Jvm.MethodName)) ∈ lw_all := lw_g (lw_at lw_m4 2 rfl) rfl
theorem q771 : (Jvm.Cond.methodLink "PennyArcade$Hall" (109 : Nat) ({ cls := "PennyArcade$Hall", name := "play", desc := "(ILPennyArcade$Machine;II)I" } : Jvm.MethodName)) ∈ lw_all := lw_g (lw_at lw_m4 9 rfl) rfl
theorem q772 : (Jvm.Cond.classLink "PennyArcade$Hall" (116 : Nat) "PennyArcade$Player") ∈ lw_all := lw_g (lw_at lw_m4 10 rfl) rfl
theorem q773 : (Jvm.Cond.methodLink "PennyArcade$Hall" (136 : Nat) ({ cls := "PennyArcade$Hall", name := "repair", desc := "()V" } : Jvm.MethodName)) ∈ lw_all := lw_g (lw_at lw_m4 11 rfl) rfl
theorem q774 : (Jvm.Cond.privateMethod ({ cls := "PennyArcade$Hall", name := "repair", desc := "()V" } : Jvm.MethodName)) ∈ lw_tbl := lw_at lw_m4 12 rfl
theorem q775 : (Jvm.Cond.instanceMethod ({ cls := "PennyArcade$Hall", name := "repair", desc := "()V" } : Jvm.MethodName)) ∈ lw_all := lw_g (lw_at lw_m4 13 rfl) rfl
theorem q776 : (Jvm.Cond.code ({ cls := "PennyArcade$Hall", name := "repair", desc := "()V" } : Jvm.MethodName) prog_2_method_10_code (2 : Nat) (Option.none : Option Jvm.ClassFile.FieldType)) ∈ lw_all := lw_g (lw_at lw_m4 14 rfl) rfl
theorem q777 : (Jvm.Cond.methodLink "PennyArcade$Hall" (130 : Nat) ({ cls := "java/lang/Math", name := "max", desc := "(II)I" } : Jvm.MethodName)) ∈ lw_all := lw_g (lw_at lw_m4 15 rfl) rfl
theorem q778 : (Jvm.Cond.methodLink "PennyArcade$Hall" (57 : Nat) ({ cls := "java/lang/System", name := "arraycopy", desc := "(Ljava/lang/Object;ILjava/lang/Object;II)V" } : Jvm.MethodName)) ∈ lw_all := lw_g (lw_at lw_m4 16 rfl) rfl
theorem q794 : (Jvm.Cond.instanceMethod ({ cls := "PennyArcade$Hall", name := "become", desc := "(LPennyArcade$Hall;)V" } : Jvm.MethodName)) ∈ lw_all := lw_g (lw_at lw_m4 32 rfl) rfl
theorem q795 : (Jvm.Cond.selects "PennyArcade$Hall" ({ cls := "PennyArcade$Hall", name := "become", desc := "(LPennyArcade$Hall;)V" } : Jvm.MethodName) ({ cls := "PennyArcade$Hall", name := "become", desc := "(LPennyArcade$Hall;)V" } : Jvm.MethodName)) ∈ lw_all := lw_g (lw_at lw_m4 33 rfl) rfl
theorem q796 : (Jvm.Cond.code ({ cls := "PennyArcade$Hall", name := "become", desc := "(LPennyArcade$Hall;)V" } : Jvm.MethodName) prog_2_method_2_code (2 : Nat) (Option.none : Option Jvm.ClassFile.FieldType)) ∈ lw_all := lw_g (lw_at lw_m4 34 rfl) rfl
theorem q1084 : (Jvm.Cond.castable "PennyArcade$Hall" "java/lang/Object") ∈ lw_tbl := lw_at lw_m5 82 rfl
theorem in_X2 : ∀ w ∈ wsX20, w ∈ lw_all := lw_in wsX20 [141, 143, 145, 147, 149, 151, 153, 155, 157, 159, 161, 163, 165, 167, 169, 171] (by decide +kernel) (by decide +kernel)


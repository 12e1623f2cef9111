/-! PennyArcadeModel -/
set_option maxRecDepth 100000
def RX3 : String := "PennyArcadeModel"
def TX3 : u_T := fun k => match k with
  | 0 => ("PennyArcadeModel", "thrown", "I", false)
  | 1 => ("PennyArcadeModel", "machines", "I", false)
  | 2 => ("PennyArcadeModel", "players", "I", false)
  | 3 => ("PennyArcadeModel", "skill", "I", false)
  | 4 => ("PennyArcadeModel", "cups", "[I", true)
  | 5 => ("PennyArcadeModel", "pins", "[I", true)
  | 6 => ("PennyArcadeModel", "table", "[I", true)
  | 7 => ("PennyArcadeModel", "ledges", "[I", true)
  | 8 => ("PennyArcadeModel", "people", "[I", true)
  | 9 => ("PennyArcadeModel", "row", "[I", true)
  | _ => ("PennyArcadeModel", "numbers", "[I", true)
def tyX3 : Nat → FieldType := fun k => match k with
  | 0 => .int
  | 1 => .int
  | 2 => .int
  | 3 => .int
  | 4 => .array .int
  | 5 => .array .int
  | 6 => .array .int
  | 7 => .array .int
  | 8 => .array .int
  | 9 => .array .int
  | _ => .array .int
abbrev wsX30 : List Cond := u_ws RX3 TX3 11
theorem nmX3 : ∀ a, a < 11 → ∀ b, b < 11 → a ≠ b → (TX3 a).2.1 ≠ (TX3 b).2.1 := by decide +kernel
theorem tyX3_ok : ∀ k, k < 11 → parseFieldDescriptor (TX3 k).2.2.1 = some (tyX3 k) := by decide +kernel
abbrev cX3_init : ByteArray := prog_8_method_1_code
def yX3_init : MethodName := ⟨RX3, "<init>", "()V"⟩
def dkwX3_init_3 : List UInt8 := [177]
abbrev dktX3_init_3 : List UInt8 := dkwX3_init_3 ++ []
def dkwX3_init_2 : List UInt8 := [188, 10, 181, 0, 25, 42, 6, 188, 10, 89, 3, 3, 79, 89, 4, 3, 79, 89, 5, 3, 79, 181, 0, 28]
abbrev dktX3_init_2 : List UInt8 := dkwX3_init_2 ++ dktX3_init_3
def dkwX3_init_1 : List UInt8 := [188, 10, 181, 0, 16, 42, 16, 40, 188, 10, 181, 0, 19, 42, 16, 60, 188, 10, 181, 0, 22, 42, 16, 8]
abbrev dktX3_init_1 : List UInt8 := dkwX3_init_1 ++ dktX3_init_2
def dkwX3_init_0 : List UInt8 := [42, 183, 0, 1, 42, 16, 72, 188, 10, 181, 0, 9, 42, 17, 3, 96, 188, 10, 181, 0, 13, 42, 16, 72]
abbrev dktX3_init_0 : List UInt8 := dkwX3_init_0 ++ dktX3_init_1
theorem dksX3_init_0 : cX3_init.data.toList.drop 0 = dktX3_init_0 := by decide +kernel
theorem dksX3_init_1 : cX3_init.data.toList.drop 24 = dktX3_init_1 := dk_seg dksX3_init_0 24 rfl rfl
theorem dksX3_init_2 : cX3_init.data.toList.drop 48 = dktX3_init_2 := dk_seg dksX3_init_1 24 rfl rfl
theorem dksX3_init_3 : cX3_init.data.toList.drop 72 = dktX3_init_3 := dk_seg dksX3_init_2 24 rfl rfl
theorem dX3_init_0 : decode cX3_init 0 = .ok (.aload_n 0, 1) := dk_42 (dk_at dksX3_init_0 0 rfl rfl)
theorem dX3_init_1 : decode cX3_init 1 = .ok (.invokespecial 1, 3) := dk_183 0 1 (dk_at dksX3_init_0 1 rfl rfl)
theorem dX3_init_4 : decode cX3_init 4 = .ok (.aload_n 0, 1) := dk_42 (dk_at dksX3_init_0 4 rfl rfl)
theorem dX3_init_5 : decode cX3_init 5 = .ok (.bipush 72, 2) := dk_16 72 (dk_at dksX3_init_0 5 rfl rfl)
theorem dX3_init_7 : decode cX3_init 7 = .ok (.newarray .int, 2) := dk_188_10 (dk_at dksX3_init_0 7 rfl rfl)
theorem dX3_init_9 : decode cX3_init 9 = .ok (.putfield 9, 3) := dk_181 0 9 (dk_at dksX3_init_0 9 rfl rfl)
theorem dX3_init_12 : decode cX3_init 12 = .ok (.aload_n 0, 1) := dk_42 (dk_at dksX3_init_0 12 rfl rfl)
theorem dX3_init_13 : decode cX3_init 13 = .ok (.sipush 864, 3) := dk_17 3 96 (dk_at dksX3_init_0 13 rfl rfl)
theorem dX3_init_16 : decode cX3_init 16 = .ok (.newarray .int, 2) := dk_188_10 (dk_at dksX3_init_0 16 rfl rfl)
theorem dX3_init_18 : decode cX3_init 18 = .ok (.putfield 13, 3) := dk_181 0 13 (dk_at dksX3_init_0 18 rfl rfl)
theorem dX3_init_21 : decode cX3_init 21 = .ok (.aload_n 0, 1) := dk_42 (dk_at dksX3_init_0 21 rfl rfl)
theorem dX3_init_22 : decode cX3_init 22 = .ok (.bipush 72, 2) := dk_16 72 (dk_at dksX3_init_0 22 rfl rfl)
theorem dX3_init_24 : decode cX3_init 24 = .ok (.newarray .int, 2) := dk_188_10 (dk_at dksX3_init_1 0 rfl rfl)
theorem dX3_init_26 : decode cX3_init 26 = .ok (.putfield 16, 3) := dk_181 0 16 (dk_at dksX3_init_1 2 rfl rfl)
theorem dX3_init_29 : decode cX3_init 29 = .ok (.aload_n 0, 1) := dk_42 (dk_at dksX3_init_1 5 rfl rfl)
theorem dX3_init_30 : decode cX3_init 30 = .ok (.bipush 40, 2) := dk_16 40 (dk_at dksX3_init_1 6 rfl rfl)
theorem dX3_init_32 : decode cX3_init 32 = .ok (.newarray .int, 2) := dk_188_10 (dk_at dksX3_init_1 8 rfl rfl)
theorem dX3_init_34 : decode cX3_init 34 = .ok (.putfield 19, 3) := dk_181 0 19 (dk_at dksX3_init_1 10 rfl rfl)
theorem dX3_init_37 : decode cX3_init 37 = .ok (.aload_n 0, 1) := dk_42 (dk_at dksX3_init_1 13 rfl rfl)
theorem dX3_init_38 : decode cX3_init 38 = .ok (.bipush 60, 2) := dk_16 60 (dk_at dksX3_init_1 14 rfl rfl)
theorem dX3_init_40 : decode cX3_init 40 = .ok (.newarray .int, 2) := dk_188_10 (dk_at dksX3_init_1 16 rfl rfl)
theorem dX3_init_42 : decode cX3_init 42 = .ok (.putfield 22, 3) := dk_181 0 22 (dk_at dksX3_init_1 18 rfl rfl)
theorem dX3_init_45 : decode cX3_init 45 = .ok (.aload_n 0, 1) := dk_42 (dk_at dksX3_init_1 21 rfl rfl)
theorem dX3_init_46 : decode cX3_init 46 = .ok (.bipush 8, 2) := dk_16 8 (dk_at dksX3_init_1 22 rfl rfl)
theorem dX3_init_48 : decode cX3_init 48 = .ok (.newarray .int, 2) := dk_188_10 (dk_at dksX3_init_2 0 rfl rfl)
theorem dX3_init_50 : decode cX3_init 50 = .ok (.putfield 25, 3) := dk_181 0 25 (dk_at dksX3_init_2 2 rfl rfl)
theorem dX3_init_53 : decode cX3_init 53 = .ok (.aload_n 0, 1) := dk_42 (dk_at dksX3_init_2 5 rfl rfl)
theorem dX3_init_54 : decode cX3_init 54 = .ok (.iconst 3, 1) := dk_6 (dk_at dksX3_init_2 6 rfl rfl)
theorem dX3_init_55 : decode cX3_init 55 = .ok (.newarray .int, 2) := dk_188_10 (dk_at dksX3_init_2 7 rfl rfl)
theorem dX3_init_57 : decode cX3_init 57 = .ok (.dup, 1) := dk_89 (dk_at dksX3_init_2 9 rfl rfl)
theorem dX3_init_58 : decode cX3_init 58 = .ok (.iconst 0, 1) := dk_3 (dk_at dksX3_init_2 10 rfl rfl)
theorem dX3_init_59 : decode cX3_init 59 = .ok (.iconst 0, 1) := dk_3 (dk_at dksX3_init_2 11 rfl rfl)
theorem dX3_init_60 : decode cX3_init 60 = .ok (.iastore, 1) := dk_79 (dk_at dksX3_init_2 12 rfl rfl)
theorem dX3_init_61 : decode cX3_init 61 = .ok (.dup, 1) := dk_89 (dk_at dksX3_init_2 13 rfl rfl)
theorem dX3_init_62 : decode cX3_init 62 = .ok (.iconst 1, 1) := dk_4 (dk_at dksX3_init_2 14 rfl rfl)
theorem dX3_init_63 : decode cX3_init 63 = .ok (.iconst 0, 1) := dk_3 (dk_at dksX3_init_2 15 rfl rfl)
theorem dX3_init_64 : decode cX3_init 64 = .ok (.iastore, 1) := dk_79 (dk_at dksX3_init_2 16 rfl rfl)
theorem dX3_init_65 : decode cX3_init 65 = .ok (.dup, 1) := dk_89 (dk_at dksX3_init_2 17 rfl rfl)
theorem dX3_init_66 : decode cX3_init 66 = .ok (.iconst 2, 1) := dk_5 (dk_at dksX3_init_2 18 rfl rfl)
theorem dX3_init_67 : decode cX3_init 67 = .ok (.iconst 0, 1) := dk_3 (dk_at dksX3_init_2 19 rfl rfl)
theorem dX3_init_68 : decode cX3_init 68 = .ok (.iastore, 1) := dk_79 (dk_at dksX3_init_2 20 rfl rfl)
theorem dX3_init_69 : decode cX3_init 69 = .ok (.putfield 28, 3) := dk_181 0 28 (dk_at dksX3_init_2 21 rfl rfl)
theorem dX3_init_72 : decode cX3_init 72 = .ok (.return_, 1) := dk_177 (dk_at dksX3_init_3 0 rfl rfl)
abbrev cX3_thrown : ByteArray := prog_8_method_2_code
def yX3_thrown : MethodName := ⟨RX3, "thrown", "()I"⟩
theorem dX3_thrown_0 : decode cX3_thrown 0 = .ok (.aload_n 0, 1) := by decide +kernel
theorem dX3_thrown_1 : decode cX3_thrown 1 = .ok (.getfield 31, 3) := by decide +kernel
theorem dX3_thrown_4 : decode cX3_thrown 4 = .ok (.ireturn, 1) := by decide +kernel
abbrev cX3_addTable : ByteArray := prog_8_method_15_code
def yX3_addTable : MethodName := ⟨RX3, "addTable", "(III)I"⟩
def dkwX3_addTable_2 : List UInt8 := [16, 8, 160, 0, 11, 42, 5, 182, 0, 59, 167, 0, 12, 42, 3, 27, 28, 3, 29, 182, 0, 63, 172]
abbrev dktX3_addTable_2 : List UInt8 := dkwX3_addTable_2 ++ []
def dkwX3_addTable_1 : List UInt8 := [153, 0, 14, 29, 3, 17, 39, 15, 184, 0, 38, 154, 0, 9, 42, 4, 182, 0, 59, 172, 42, 180, 0, 35]
abbrev dktX3_addTable_1 : List UInt8 := dkwX3_addTable_1 ++ dktX3_addTable_2
def dkwX3_addTable_0 : List UInt8 := [42, 3, 181, 0, 31, 27, 6, 16, 9, 184, 0, 38, 153, 0, 24, 28, 5, 16, 12, 184, 0, 38]
abbrev dktX3_addTable_0 : List UInt8 := dkwX3_addTable_0 ++ dktX3_addTable_1
theorem dksX3_addTable_0 : cX3_addTable.data.toList.drop 0 = dktX3_addTable_0 := by decide +kernel
theorem dksX3_addTable_1 : cX3_addTable.data.toList.drop 22 = dktX3_addTable_1 := dk_seg dksX3_addTable_0 22 rfl rfl
theorem dksX3_addTable_2 : cX3_addTable.data.toList.drop 46 = dktX3_addTable_2 := dk_seg dksX3_addTable_1 24 rfl rfl
theorem dX3_addTable_0 : decode cX3_addTable 0 = .ok (.aload_n 0, 1) := dk_42 (dk_at dksX3_addTable_0 0 rfl rfl)
theorem dX3_addTable_1 : decode cX3_addTable 1 = .ok (.iconst 0, 1) := dk_3 (dk_at dksX3_addTable_0 1 rfl rfl)
theorem dX3_addTable_2 : decode cX3_addTable 2 = .ok (.putfield 31, 3) := dk_181 0 31 (dk_at dksX3_addTable_0 2 rfl rfl)
theorem dX3_addTable_5 : decode cX3_addTable 5 = .ok (.iload_n 1, 1) := dk_27 (dk_at dksX3_addTable_0 5 rfl rfl)
theorem dX3_addTable_6 : decode cX3_addTable 6 = .ok (.iconst 3, 1) := dk_6 (dk_at dksX3_addTable_0 6 rfl rfl)
theorem dX3_addTable_7 : decode cX3_addTable 7 = .ok (.bipush 9, 2) := dk_16 9 (dk_at dksX3_addTable_0 7 rfl rfl)
theorem dX3_addTable_9 : decode cX3_addTable 9 = .ok (.invokestatic 38, 3) := dk_184 0 38 (dk_at dksX3_addTable_0 9 rfl rfl)
theorem dX3_addTable_12 : decode cX3_addTable 12 = .ok (.ifCond .eq 24, 3) := dk_153 0 24 (dk_at dksX3_addTable_0 12 rfl rfl)
theorem dX3_addTable_15 : decode cX3_addTable 15 = .ok (.iload_n 2, 1) := dk_28 (dk_at dksX3_addTable_0 15 rfl rfl)
theorem dX3_addTable_16 : decode cX3_addTable 16 = .ok (.iconst 2, 1) := dk_5 (dk_at dksX3_addTable_0 16 rfl rfl)
theorem dX3_addTable_17 : decode cX3_addTable 17 = .ok (.bipush 12, 2) := dk_16 12 (dk_at dksX3_addTable_0 17 rfl rfl)
theorem dX3_addTable_19 : decode cX3_addTable 19 = .ok (.invokestatic 38, 3) := dk_184 0 38 (dk_at dksX3_addTable_0 19 rfl rfl)
theorem dX3_addTable_22 : decode cX3_addTable 22 = .ok (.ifCond .eq 14, 3) := dk_153 0 14 (dk_at dksX3_addTable_1 0 rfl rfl)
theorem dX3_addTable_25 : decode cX3_addTable 25 = .ok (.iload_n 3, 1) := dk_29 (dk_at dksX3_addTable_1 3 rfl rfl)
theorem dX3_addTable_26 : decode cX3_addTable 26 = .ok (.iconst 0, 1) := dk_3 (dk_at dksX3_addTable_1 4 rfl rfl)
theorem dX3_addTable_27 : decode cX3_addTable 27 = .ok (.sipush 9999, 3) := dk_17 39 15 (dk_at dksX3_addTable_1 5 rfl rfl)
theorem dX3_addTable_30 : decode cX3_addTable 30 = .ok (.invokestatic 38, 3) := dk_184 0 38 (dk_at dksX3_addTable_1 8 rfl rfl)
theorem dX3_addTable_33 : decode cX3_addTable 33 = .ok (.ifCond .ne 9, 3) := dk_154 0 9 (dk_at dksX3_addTable_1 11 rfl rfl)
theorem dX3_addTable_36 : decode cX3_addTable 36 = .ok (.aload_n 0, 1) := dk_42 (dk_at dksX3_addTable_1 14 rfl rfl)
theorem dX3_addTable_37 : decode cX3_addTable 37 = .ok (.iconst 1, 1) := dk_4 (dk_at dksX3_addTable_1 15 rfl rfl)
theorem dX3_addTable_38 : decode cX3_addTable 38 = .ok (.invokevirtual 59, 3) := dk_182 0 59 (dk_at dksX3_addTable_1 16 rfl rfl)
theorem dX3_addTable_41 : decode cX3_addTable 41 = .ok (.ireturn, 1) := dk_172 (dk_at dksX3_addTable_1 19 rfl rfl)
theorem dX3_addTable_42 : decode cX3_addTable 42 = .ok (.aload_n 0, 1) := dk_42 (dk_at dksX3_addTable_1 20 rfl rfl)
theorem dX3_addTable_43 : decode cX3_addTable 43 = .ok (.getfield 35, 3) := dk_180 0 35 (dk_at dksX3_addTable_1 21 rfl rfl)
theorem dX3_addTable_46 : decode cX3_addTable 46 = .ok (.bipush 8, 2) := dk_16 8 (dk_at dksX3_addTable_2 0 rfl rfl)
theorem dX3_addTable_48 : decode cX3_addTable 48 = .ok (.if_icmp .ne 11, 3) := dk_160 0 11 (dk_at dksX3_addTable_2 2 rfl rfl)
theorem dX3_addTable_51 : decode cX3_addTable 51 = .ok (.aload_n 0, 1) := dk_42 (dk_at dksX3_addTable_2 5 rfl rfl)
theorem dX3_addTable_52 : decode cX3_addTable 52 = .ok (.iconst 2, 1) := dk_5 (dk_at dksX3_addTable_2 6 rfl rfl)
theorem dX3_addTable_53 : decode cX3_addTable 53 = .ok (.invokevirtual 59, 3) := dk_182 0 59 (dk_at dksX3_addTable_2 7 rfl rfl)
theorem dX3_addTable_56 : decode cX3_addTable 56 = .ok (.goto 12, 3) := dk_167 0 12 (dk_at dksX3_addTable_2 10 rfl rfl)
theorem dX3_addTable_59 : decode cX3_addTable 59 = .ok (.aload_n 0, 1) := dk_42 (dk_at dksX3_addTable_2 13 rfl rfl)
theorem dX3_addTable_60 : decode cX3_addTable 60 = .ok (.iconst 0, 1) := dk_3 (dk_at dksX3_addTable_2 14 rfl rfl)
theorem dX3_addTable_61 : decode cX3_addTable 61 = .ok (.iload_n 1, 1) := dk_27 (dk_at dksX3_addTable_2 15 rfl rfl)
theorem dX3_addTable_62 : decode cX3_addTable 62 = .ok (.iload_n 2, 1) := dk_28 (dk_at dksX3_addTable_2 16 rfl rfl)
theorem dX3_addTable_63 : decode cX3_addTable 63 = .ok (.iconst 0, 1) := dk_3 (dk_at dksX3_addTable_2 17 rfl rfl)
theorem dX3_addTable_64 : decode cX3_addTable 64 = .ok (.iload_n 3, 1) := dk_29 (dk_at dksX3_addTable_2 18 rfl rfl)
theorem dX3_addTable_65 : decode cX3_addTable 65 = .ok (.invokevirtual 63, 3) := dk_182 0 63 (dk_at dksX3_addTable_2 19 rfl rfl)
theorem dX3_addTable_68 : decode cX3_addTable 68 = .ok (.ireturn, 1) := dk_172 (dk_at dksX3_addTable_2 22 rfl rfl)
abbrev cX3_isIn : ByteArray := prog_8_method_4_code
def yX3_isIn : MethodName := ⟨RX3, "isIn", "(III)Z"⟩
def dkwX3_isIn_0 : List UInt8 := [26, 27, 161, 0, 12, 26, 28, 163, 0, 7, 4, 167, 0, 4, 3, 172]
abbrev dktX3_isIn_0 : List UInt8 := dkwX3_isIn_0 ++ []
theorem dksX3_isIn_0 : cX3_isIn.data.toList.drop 0 = dktX3_isIn_0 := by decide +kernel
theorem dX3_isIn_0 : decode cX3_isIn 0 = .ok (.iload_n 0, 1) := dk_26 (dk_at dksX3_isIn_0 0 rfl rfl)
theorem dX3_isIn_1 : decode cX3_isIn 1 = .ok (.iload_n 1, 1) := dk_27 (dk_at dksX3_isIn_0 1 rfl rfl)
theorem dX3_isIn_2 : decode cX3_isIn 2 = .ok (.if_icmp .lt 12, 3) := dk_161 0 12 (dk_at dksX3_isIn_0 2 rfl rfl)
theorem dX3_isIn_5 : decode cX3_isIn 5 = .ok (.iload_n 0, 1) := dk_26 (dk_at dksX3_isIn_0 5 rfl rfl)
theorem dX3_isIn_6 : decode cX3_isIn 6 = .ok (.iload_n 2, 1) := dk_28 (dk_at dksX3_isIn_0 6 rfl rfl)
theorem dX3_isIn_7 : decode cX3_isIn 7 = .ok (.if_icmp .gt 7, 3) := dk_163 0 7 (dk_at dksX3_isIn_0 7 rfl rfl)
theorem dX3_isIn_10 : decode cX3_isIn 10 = .ok (.iconst 1, 1) := dk_4 (dk_at dksX3_isIn_0 10 rfl rfl)
theorem dX3_isIn_11 : decode cX3_isIn 11 = .ok (.goto 4, 3) := dk_167 0 4 (dk_at dksX3_isIn_0 11 rfl rfl)
theorem dX3_isIn_14 : decode cX3_isIn 14 = .ok (.iconst 0, 1) := dk_3 (dk_at dksX3_isIn_0 14 rfl rfl)
theorem dX3_isIn_15 : decode cX3_isIn 15 = .ok (.ireturn, 1) := dk_172 (dk_at dksX3_isIn_0 15 rfl rfl)
abbrev cX3_fail : ByteArray := prog_8_method_3_code
def yX3_fail : MethodName := ⟨RX3, "fail", "(I)I"⟩
def dkwX3_fail_0 : List UInt8 := [42, 27, 181, 0, 31, 3, 172]
abbrev dktX3_fail_0 : List UInt8 := dkwX3_fail_0 ++ []
theorem dksX3_fail_0 : cX3_fail.data.toList.drop 0 = dktX3_fail_0 := by decide +kernel
theorem dX3_fail_0 : decode cX3_fail 0 = .ok (.aload_n 0, 1) := dk_42 (dk_at dksX3_fail_0 0 rfl rfl)
theorem dX3_fail_1 : decode cX3_fail 1 = .ok (.iload_n 1, 1) := dk_27 (dk_at dksX3_fail_0 1 rfl rfl)
theorem dX3_fail_2 : decode cX3_fail 2 = .ok (.putfield 31, 3) := dk_181 0 31 (dk_at dksX3_fail_0 2 rfl rfl)
theorem dX3_fail_5 : decode cX3_fail 5 = .ok (.iconst 0, 1) := dk_3 (dk_at dksX3_fail_0 5 rfl rfl)
theorem dX3_fail_6 : decode cX3_fail 6 = .ok (.ireturn, 1) := dk_172 (dk_at dksX3_fail_0 6 rfl rfl)
abbrev cX3_add : ByteArray := prog_8_method_14_code
def yX3_add : MethodName := ⟨RX3, "add", "(IIIII)I"⟩
def dkwX3_add_3 : List UInt8 := [4, 96, 181, 0, 35, 42, 180, 0, 35, 4, 100, 172]
abbrev dktX3_add_3 : List UInt8 := dkwX3_add_3 ++ []
def dkwX3_add_2 : List UInt8 := [25, 6, 3, 42, 180, 0, 16, 16, 9, 42, 180, 0, 35, 104, 16, 9, 184, 0, 53, 42, 89, 180, 0, 35]
abbrev dktX3_add_2 : List UInt8 := dkwX3_add_2 ++ dktX3_add_3
def dkwX3_add_1 : List UInt8 := [21, 5, 79, 89, 8, 3, 79, 89, 16, 6, 3, 79, 89, 16, 7, 3, 79, 89, 16, 8, 3, 79, 58, 6]
abbrev dktX3_add_1 : List UInt8 := dkwX3_add_1 ++ dktX3_add_2
def dkwX3_add_0 : List UInt8 := [16, 9, 188, 10, 89, 3, 27, 79, 89, 4, 28, 79, 89, 5, 29, 79, 89, 6, 21, 4, 79, 89, 7]
abbrev dktX3_add_0 : List UInt8 := dkwX3_add_0 ++ dktX3_add_1
theorem dksX3_add_0 : cX3_add.data.toList.drop 0 = dktX3_add_0 := by decide +kernel
theorem dksX3_add_1 : cX3_add.data.toList.drop 23 = dktX3_add_1 := dk_seg dksX3_add_0 23 rfl rfl
theorem dksX3_add_2 : cX3_add.data.toList.drop 47 = dktX3_add_2 := dk_seg dksX3_add_1 24 rfl rfl
theorem dksX3_add_3 : cX3_add.data.toList.drop 71 = dktX3_add_3 := dk_seg dksX3_add_2 24 rfl rfl
theorem dX3_add_0 : decode cX3_add 0 = .ok (.bipush 9, 2) := dk_16 9 (dk_at dksX3_add_0 0 rfl rfl)
theorem dX3_add_2 : decode cX3_add 2 = .ok (.newarray .int, 2) := dk_188_10 (dk_at dksX3_add_0 2 rfl rfl)
theorem dX3_add_4 : decode cX3_add 4 = .ok (.dup, 1) := dk_89 (dk_at dksX3_add_0 4 rfl rfl)
theorem dX3_add_5 : decode cX3_add 5 = .ok (.iconst 0, 1) := dk_3 (dk_at dksX3_add_0 5 rfl rfl)
theorem dX3_add_6 : decode cX3_add 6 = .ok (.iload_n 1, 1) := dk_27 (dk_at dksX3_add_0 6 rfl rfl)
theorem dX3_add_7 : decode cX3_add 7 = .ok (.iastore, 1) := dk_79 (dk_at dksX3_add_0 7 rfl rfl)
theorem dX3_add_8 : decode cX3_add 8 = .ok (.dup, 1) := dk_89 (dk_at dksX3_add_0 8 rfl rfl)
theorem dX3_add_9 : decode cX3_add 9 = .ok (.iconst 1, 1) := dk_4 (dk_at dksX3_add_0 9 rfl rfl)
theorem dX3_add_10 : decode cX3_add 10 = .ok (.iload_n 2, 1) := dk_28 (dk_at dksX3_add_0 10 rfl rfl)
theorem dX3_add_11 : decode cX3_add 11 = .ok (.iastore, 1) := dk_79 (dk_at dksX3_add_0 11 rfl rfl)
theorem dX3_add_12 : decode cX3_add 12 = .ok (.dup, 1) := dk_89 (dk_at dksX3_add_0 12 rfl rfl)
theorem dX3_add_13 : decode cX3_add 13 = .ok (.iconst 2, 1) := dk_5 (dk_at dksX3_add_0 13 rfl rfl)
theorem dX3_add_14 : decode cX3_add 14 = .ok (.iload_n 3, 1) := dk_29 (dk_at dksX3_add_0 14 rfl rfl)
theorem dX3_add_15 : decode cX3_add 15 = .ok (.iastore, 1) := dk_79 (dk_at dksX3_add_0 15 rfl rfl)
theorem dX3_add_16 : decode cX3_add 16 = .ok (.dup, 1) := dk_89 (dk_at dksX3_add_0 16 rfl rfl)
theorem dX3_add_17 : decode cX3_add 17 = .ok (.iconst 3, 1) := dk_6 (dk_at dksX3_add_0 17 rfl rfl)
theorem dX3_add_18 : decode cX3_add 18 = .ok (.iload 4, 2) := dk_21 4 (dk_at dksX3_add_0 18 rfl rfl)
theorem dX3_add_20 : decode cX3_add 20 = .ok (.iastore, 1) := dk_79 (dk_at dksX3_add_0 20 rfl rfl)
theorem dX3_add_21 : decode cX3_add 21 = .ok (.dup, 1) := dk_89 (dk_at dksX3_add_0 21 rfl rfl)
theorem dX3_add_22 : decode cX3_add 22 = .ok (.iconst 4, 1) := dk_7 (dk_at dksX3_add_0 22 rfl rfl)
theorem dX3_add_23 : decode cX3_add 23 = .ok (.iload 5, 2) := dk_21 5 (dk_at dksX3_add_1 0 rfl rfl)
theorem dX3_add_25 : decode cX3_add 25 = .ok (.iastore, 1) := dk_79 (dk_at dksX3_add_1 2 rfl rfl)
theorem dX3_add_26 : decode cX3_add 26 = .ok (.dup, 1) := dk_89 (dk_at dksX3_add_1 3 rfl rfl)
theorem dX3_add_27 : decode cX3_add 27 = .ok (.iconst 5, 1) := dk_8 (dk_at dksX3_add_1 4 rfl rfl)
theorem dX3_add_28 : decode cX3_add 28 = .ok (.iconst 0, 1) := dk_3 (dk_at dksX3_add_1 5 rfl rfl)
theorem dX3_add_29 : decode cX3_add 29 = .ok (.iastore, 1) := dk_79 (dk_at dksX3_add_1 6 rfl rfl)
theorem dX3_add_30 : decode cX3_add 30 = .ok (.dup, 1) := dk_89 (dk_at dksX3_add_1 7 rfl rfl)
theorem dX3_add_31 : decode cX3_add 31 = .ok (.bipush 6, 2) := dk_16 6 (dk_at dksX3_add_1 8 rfl rfl)
theorem dX3_add_33 : decode cX3_add 33 = .ok (.iconst 0, 1) := dk_3 (dk_at dksX3_add_1 10 rfl rfl)
theorem dX3_add_34 : decode cX3_add 34 = .ok (.iastore, 1) := dk_79 (dk_at dksX3_add_1 11 rfl rfl)
theorem dX3_add_35 : decode cX3_add 35 = .ok (.dup, 1) := dk_89 (dk_at dksX3_add_1 12 rfl rfl)
theorem dX3_add_36 : decode cX3_add 36 = .ok (.bipush 7, 2) := dk_16 7 (dk_at dksX3_add_1 13 rfl rfl)
theorem dX3_add_38 : decode cX3_add 38 = .ok (.iconst 0, 1) := dk_3 (dk_at dksX3_add_1 15 rfl rfl)
theorem dX3_add_39 : decode cX3_add 39 = .ok (.iastore, 1) := dk_79 (dk_at dksX3_add_1 16 rfl rfl)
theorem dX3_add_40 : decode cX3_add 40 = .ok (.dup, 1) := dk_89 (dk_at dksX3_add_1 17 rfl rfl)
theorem dX3_add_41 : decode cX3_add 41 = .ok (.bipush 8, 2) := dk_16 8 (dk_at dksX3_add_1 18 rfl rfl)
theorem dX3_add_43 : decode cX3_add 43 = .ok (.iconst 0, 1) := dk_3 (dk_at dksX3_add_1 20 rfl rfl)
theorem dX3_add_44 : decode cX3_add 44 = .ok (.iastore, 1) := dk_79 (dk_at dksX3_add_1 21 rfl rfl)
theorem dX3_add_45 : decode cX3_add 45 = .ok (.astore 6, 2) := dk_58 6 (dk_at dksX3_add_1 22 rfl rfl)
theorem dX3_add_47 : decode cX3_add 47 = .ok (.aload 6, 2) := dk_25 6 (dk_at dksX3_add_2 0 rfl rfl)
theorem dX3_add_49 : decode cX3_add 49 = .ok (.iconst 0, 1) := dk_3 (dk_at dksX3_add_2 2 rfl rfl)
theorem dX3_add_50 : decode cX3_add 50 = .ok (.aload_n 0, 1) := dk_42 (dk_at dksX3_add_2 3 rfl rfl)
theorem dX3_add_51 : decode cX3_add 51 = .ok (.getfield 16, 3) := dk_180 0 16 (dk_at dksX3_add_2 4 rfl rfl)
theorem dX3_add_54 : decode cX3_add 54 = .ok (.bipush 9, 2) := dk_16 9 (dk_at dksX3_add_2 7 rfl rfl)
theorem dX3_add_56 : decode cX3_add 56 = .ok (.aload_n 0, 1) := dk_42 (dk_at dksX3_add_2 9 rfl rfl)
theorem dX3_add_57 : decode cX3_add 57 = .ok (.getfield 35, 3) := dk_180 0 35 (dk_at dksX3_add_2 10 rfl rfl)
theorem dX3_add_60 : decode cX3_add 60 = .ok (.imul, 1) := dk_104 (dk_at dksX3_add_2 13 rfl rfl)
theorem dX3_add_61 : decode cX3_add 61 = .ok (.bipush 9, 2) := dk_16 9 (dk_at dksX3_add_2 14 rfl rfl)
theorem dX3_add_63 : decode cX3_add 63 = .ok (.invokestatic 53, 3) := dk_184 0 53 (dk_at dksX3_add_2 16 rfl rfl)
theorem dX3_add_66 : decode cX3_add 66 = .ok (.aload_n 0, 1) := dk_42 (dk_at dksX3_add_2 19 rfl rfl)
theorem dX3_add_67 : decode cX3_add 67 = .ok (.dup, 1) := dk_89 (dk_at dksX3_add_2 20 rfl rfl)
theorem dX3_add_68 : decode cX3_add 68 = .ok (.getfield 35, 3) := dk_180 0 35 (dk_at dksX3_add_2 21 rfl rfl)
theorem dX3_add_71 : decode cX3_add 71 = .ok (.iconst 1, 1) := dk_4 (dk_at dksX3_add_3 0 rfl rfl)
theorem dX3_add_72 : decode cX3_add 72 = .ok (.iadd, 1) := dk_96 (dk_at dksX3_add_3 1 rfl rfl)
theorem dX3_add_73 : decode cX3_add 73 = .ok (.putfield 35, 3) := dk_181 0 35 (dk_at dksX3_add_3 2 rfl rfl)
theorem dX3_add_76 : decode cX3_add 76 = .ok (.aload_n 0, 1) := dk_42 (dk_at dksX3_add_3 5 rfl rfl)
theorem dX3_add_77 : decode cX3_add 77 = .ok (.getfield 35, 3) := dk_180 0 35 (dk_at dksX3_add_3 6 rfl rfl)
theorem dX3_add_80 : decode cX3_add 80 = .ok (.iconst 1, 1) := dk_4 (dk_at dksX3_add_3 9 rfl rfl)
theorem dX3_add_81 : decode cX3_add 81 = .ok (.isub, 1) := dk_100 (dk_at dksX3_add_3 10 rfl rfl)
theorem dX3_add_82 : decode cX3_add 82 = .ok (.ireturn, 1) := dk_172 (dk_at dksX3_add_3 11 rfl rfl)
abbrev cX3_addPusher : ByteArray := prog_8_method_16_code
def yX3_addPusher : MethodName := ⟨RX3, "addPusher", "(II)I"⟩
def dkwX3_addPusher_2 : List UInt8 := [167, 0, 12, 42, 4, 3, 3, 27, 28, 182, 0, 63, 172]
abbrev dktX3_addPusher_2 : List UInt8 := dkwX3_addPusher_2 ++ []
def dkwX3_addPusher_1 : List UInt8 := [154, 0, 9, 42, 4, 182, 0, 59, 172, 42, 180, 0, 35, 16, 8, 160, 0, 11, 42, 5, 182, 0, 59]
abbrev dktX3_addPusher_1 : List UInt8 := dkwX3_addPusher_1 ++ dktX3_addPusher_2
def dkwX3_addPusher_0 : List UInt8 := [42, 3, 181, 0, 31, 27, 4, 16, 9, 184, 0, 38, 153, 0, 14, 28, 3, 17, 39, 15, 184, 0, 38]
abbrev dktX3_addPusher_0 : List UInt8 := dkwX3_addPusher_0 ++ dktX3_addPusher_1
theorem dksX3_addPusher_0 : cX3_addPusher.data.toList.drop 0 = dktX3_addPusher_0 := by decide +kernel
theorem dksX3_addPusher_1 : cX3_addPusher.data.toList.drop 23 = dktX3_addPusher_1 := dk_seg dksX3_addPusher_0 23 rfl rfl
theorem dksX3_addPusher_2 : cX3_addPusher.data.toList.drop 46 = dktX3_addPusher_2 := dk_seg dksX3_addPusher_1 23 rfl rfl
theorem dX3_addPusher_0 : decode cX3_addPusher 0 = .ok (.aload_n 0, 1) := dk_42 (dk_at dksX3_addPusher_0 0 rfl rfl)
theorem dX3_addPusher_1 : decode cX3_addPusher 1 = .ok (.iconst 0, 1) := dk_3 (dk_at dksX3_addPusher_0 1 rfl rfl)
theorem dX3_addPusher_2 : decode cX3_addPusher 2 = .ok (.putfield 31, 3) := dk_181 0 31 (dk_at dksX3_addPusher_0 2 rfl rfl)
theorem dX3_addPusher_5 : decode cX3_addPusher 5 = .ok (.iload_n 1, 1) := dk_27 (dk_at dksX3_addPusher_0 5 rfl rfl)
theorem dX3_addPusher_6 : decode cX3_addPusher 6 = .ok (.iconst 1, 1) := dk_4 (dk_at dksX3_addPusher_0 6 rfl rfl)
theorem dX3_addPusher_7 : decode cX3_addPusher 7 = .ok (.bipush 9, 2) := dk_16 9 (dk_at dksX3_addPusher_0 7 rfl rfl)
theorem dX3_addPusher_9 : decode cX3_addPusher 9 = .ok (.invokestatic 38, 3) := dk_184 0 38 (dk_at dksX3_addPusher_0 9 rfl rfl)
theorem dX3_addPusher_12 : decode cX3_addPusher 12 = .ok (.ifCond .eq 14, 3) := dk_153 0 14 (dk_at dksX3_addPusher_0 12 rfl rfl)
theorem dX3_addPusher_15 : decode cX3_addPusher 15 = .ok (.iload_n 2, 1) := dk_28 (dk_at dksX3_addPusher_0 15 rfl rfl)
theorem dX3_addPusher_16 : decode cX3_addPusher 16 = .ok (.iconst 0, 1) := dk_3 (dk_at dksX3_addPusher_0 16 rfl rfl)
theorem dX3_addPusher_17 : decode cX3_addPusher 17 = .ok (.sipush 9999, 3) := dk_17 39 15 (dk_at dksX3_addPusher_0 17 rfl rfl)
theorem dX3_addPusher_20 : decode cX3_addPusher 20 = .ok (.invokestatic 38, 3) := dk_184 0 38 (dk_at dksX3_addPusher_0 20 rfl rfl)
theorem dX3_addPusher_23 : decode cX3_addPusher 23 = .ok (.ifCond .ne 9, 3) := dk_154 0 9 (dk_at dksX3_addPusher_1 0 rfl rfl)
theorem dX3_addPusher_26 : decode cX3_addPusher 26 = .ok (.aload_n 0, 1) := dk_42 (dk_at dksX3_addPusher_1 3 rfl rfl)
theorem dX3_addPusher_27 : decode cX3_addPusher 27 = .ok (.iconst 1, 1) := dk_4 (dk_at dksX3_addPusher_1 4 rfl rfl)
theorem dX3_addPusher_28 : decode cX3_addPusher 28 = .ok (.invokevirtual 59, 3) := dk_182 0 59 (dk_at dksX3_addPusher_1 5 rfl rfl)
theorem dX3_addPusher_31 : decode cX3_addPusher 31 = .ok (.ireturn, 1) := dk_172 (dk_at dksX3_addPusher_1 8 rfl rfl)
theorem dX3_addPusher_32 : decode cX3_addPusher 32 = .ok (.aload_n 0, 1) := dk_42 (dk_at dksX3_addPusher_1 9 rfl rfl)
theorem dX3_addPusher_33 : decode cX3_addPusher 33 = .ok (.getfield 35, 3) := dk_180 0 35 (dk_at dksX3_addPusher_1 10 rfl rfl)
theorem dX3_addPusher_36 : decode cX3_addPusher 36 = .ok (.bipush 8, 2) := dk_16 8 (dk_at dksX3_addPusher_1 13 rfl rfl)
theorem dX3_addPusher_38 : decode cX3_addPusher 38 = .ok (.if_icmp .ne 11, 3) := dk_160 0 11 (dk_at dksX3_addPusher_1 15 rfl rfl)
theorem dX3_addPusher_41 : decode cX3_addPusher 41 = .ok (.aload_n 0, 1) := dk_42 (dk_at dksX3_addPusher_1 18 rfl rfl)
theorem dX3_addPusher_42 : decode cX3_addPusher 42 = .ok (.iconst 2, 1) := dk_5 (dk_at dksX3_addPusher_1 19 rfl rfl)
theorem dX3_addPusher_43 : decode cX3_addPusher 43 = .ok (.invokevirtual 59, 3) := dk_182 0 59 (dk_at dksX3_addPusher_1 20 rfl rfl)
theorem dX3_addPusher_46 : decode cX3_addPusher 46 = .ok (.goto 12, 3) := dk_167 0 12 (dk_at dksX3_addPusher_2 0 rfl rfl)
theorem dX3_addPusher_49 : decode cX3_addPusher 49 = .ok (.aload_n 0, 1) := dk_42 (dk_at dksX3_addPusher_2 3 rfl rfl)
theorem dX3_addPusher_50 : decode cX3_addPusher 50 = .ok (.iconst 1, 1) := dk_4 (dk_at dksX3_addPusher_2 4 rfl rfl)
theorem dX3_addPusher_51 : decode cX3_addPusher 51 = .ok (.iconst 0, 1) := dk_3 (dk_at dksX3_addPusher_2 5 rfl rfl)
theorem dX3_addPusher_52 : decode cX3_addPusher 52 = .ok (.iconst 0, 1) := dk_3 (dk_at dksX3_addPusher_2 6 rfl rfl)
theorem dX3_addPusher_53 : decode cX3_addPusher 53 = .ok (.iload_n 1, 1) := dk_27 (dk_at dksX3_addPusher_2 7 rfl rfl)
theorem dX3_addPusher_54 : decode cX3_addPusher 54 = .ok (.iload_n 2, 1) := dk_28 (dk_at dksX3_addPusher_2 8 rfl rfl)
theorem dX3_addPusher_55 : decode cX3_addPusher 55 = .ok (.invokevirtual 63, 3) := dk_182 0 63 (dk_at dksX3_addPusher_2 9 rfl rfl)
theorem dX3_addPusher_58 : decode cX3_addPusher 58 = .ok (.ireturn, 1) := dk_172 (dk_at dksX3_addPusher_2 12 rfl rfl)
abbrev cX3_bend : ByteArray := prog_8_method_17_code
def yX3_bend : MethodName := ⟨RX3, "bend", "(IIII)I"⟩
def dkwX3_bend_3 : List UInt8 := [46, 54, 5, 42, 180, 0, 13, 27, 28, 29, 184, 0, 74, 21, 4, 79, 21, 5, 172]
abbrev dktX3_bend_3 : List UInt8 := dkwX3_bend_3 ++ []
def dkwX3_bend_2 : List UInt8 := [2, 4, 184, 0, 38, 154, 0, 9, 42, 5, 182, 0, 59, 172, 42, 180, 0, 13, 27, 28, 29, 184, 0, 74]
abbrev dktX3_bend_2 : List UInt8 := dkwX3_bend_2 ++ dktX3_bend_3
def dkwX3_bend_1 : List UInt8 := [182, 0, 70, 153, 0, 29, 28, 3, 42, 27, 5, 182, 0, 45, 4, 100, 184, 0, 38, 153, 0, 13, 21, 4]
abbrev dktX3_bend_1 : List UInt8 := dkwX3_bend_1 ++ dktX3_bend_2
def dkwX3_bend_0 : List UInt8 := [42, 3, 181, 0, 31, 42, 27, 182, 0, 67, 154, 0, 9, 42, 4, 182, 0, 59, 172, 42, 27, 29]
abbrev dktX3_bend_0 : List UInt8 := dkwX3_bend_0 ++ dktX3_bend_1
theorem dksX3_bend_0 : cX3_bend.data.toList.drop 0 = dktX3_bend_0 := by decide +kernel
theorem dksX3_bend_1 : cX3_bend.data.toList.drop 22 = dktX3_bend_1 := dk_seg dksX3_bend_0 22 rfl rfl
theorem dksX3_bend_2 : cX3_bend.data.toList.drop 46 = dktX3_bend_2 := dk_seg dksX3_bend_1 24 rfl rfl
theorem dksX3_bend_3 : cX3_bend.data.toList.drop 70 = dktX3_bend_3 := dk_seg dksX3_bend_2 24 rfl rfl
theorem dX3_bend_0 : decode cX3_bend 0 = .ok (.aload_n 0, 1) := dk_42 (dk_at dksX3_bend_0 0 rfl rfl)
theorem dX3_bend_1 : decode cX3_bend 1 = .ok (.iconst 0, 1) := dk_3 (dk_at dksX3_bend_0 1 rfl rfl)
theorem dX3_bend_2 : decode cX3_bend 2 = .ok (.putfield 31, 3) := dk_181 0 31 (dk_at dksX3_bend_0 2 rfl rfl)
theorem dX3_bend_5 : decode cX3_bend 5 = .ok (.aload_n 0, 1) := dk_42 (dk_at dksX3_bend_0 5 rfl rfl)
theorem dX3_bend_6 : decode cX3_bend 6 = .ok (.iload_n 1, 1) := dk_27 (dk_at dksX3_bend_0 6 rfl rfl)
theorem dX3_bend_7 : decode cX3_bend 7 = .ok (.invokevirtual 67, 3) := dk_182 0 67 (dk_at dksX3_bend_0 7 rfl rfl)
theorem dX3_bend_10 : decode cX3_bend 10 = .ok (.ifCond .ne 9, 3) := dk_154 0 9 (dk_at dksX3_bend_0 10 rfl rfl)
theorem dX3_bend_13 : decode cX3_bend 13 = .ok (.aload_n 0, 1) := dk_42 (dk_at dksX3_bend_0 13 rfl rfl)
theorem dX3_bend_14 : decode cX3_bend 14 = .ok (.iconst 1, 1) := dk_4 (dk_at dksX3_bend_0 14 rfl rfl)
theorem dX3_bend_15 : decode cX3_bend 15 = .ok (.invokevirtual 59, 3) := dk_182 0 59 (dk_at dksX3_bend_0 15 rfl rfl)
theorem dX3_bend_18 : decode cX3_bend 18 = .ok (.ireturn, 1) := dk_172 (dk_at dksX3_bend_0 18 rfl rfl)
theorem dX3_bend_19 : decode cX3_bend 19 = .ok (.aload_n 0, 1) := dk_42 (dk_at dksX3_bend_0 19 rfl rfl)
theorem dX3_bend_20 : decode cX3_bend 20 = .ok (.iload_n 1, 1) := dk_27 (dk_at dksX3_bend_0 20 rfl rfl)
theorem dX3_bend_21 : decode cX3_bend 21 = .ok (.iload_n 3, 1) := dk_29 (dk_at dksX3_bend_0 21 rfl rfl)
theorem dX3_bend_22 : decode cX3_bend 22 = .ok (.invokevirtual 70, 3) := dk_182 0 70 (dk_at dksX3_bend_1 0 rfl rfl)
theorem dX3_bend_25 : decode cX3_bend 25 = .ok (.ifCond .eq 29, 3) := dk_153 0 29 (dk_at dksX3_bend_1 3 rfl rfl)
theorem dX3_bend_28 : decode cX3_bend 28 = .ok (.iload_n 2, 1) := dk_28 (dk_at dksX3_bend_1 6 rfl rfl)
theorem dX3_bend_29 : decode cX3_bend 29 = .ok (.iconst 0, 1) := dk_3 (dk_at dksX3_bend_1 7 rfl rfl)
theorem dX3_bend_30 : decode cX3_bend 30 = .ok (.aload_n 0, 1) := dk_42 (dk_at dksX3_bend_1 8 rfl rfl)
theorem dX3_bend_31 : decode cX3_bend 31 = .ok (.iload_n 1, 1) := dk_27 (dk_at dksX3_bend_1 9 rfl rfl)
theorem dX3_bend_32 : decode cX3_bend 32 = .ok (.iconst 2, 1) := dk_5 (dk_at dksX3_bend_1 10 rfl rfl)
theorem dX3_bend_33 : decode cX3_bend 33 = .ok (.invokevirtual 45, 3) := dk_182 0 45 (dk_at dksX3_bend_1 11 rfl rfl)
theorem dX3_bend_36 : decode cX3_bend 36 = .ok (.iconst 1, 1) := dk_4 (dk_at dksX3_bend_1 14 rfl rfl)
theorem dX3_bend_37 : decode cX3_bend 37 = .ok (.isub, 1) := dk_100 (dk_at dksX3_bend_1 15 rfl rfl)
theorem dX3_bend_38 : decode cX3_bend 38 = .ok (.invokestatic 38, 3) := dk_184 0 38 (dk_at dksX3_bend_1 16 rfl rfl)
theorem dX3_bend_41 : decode cX3_bend 41 = .ok (.ifCond .eq 13, 3) := dk_153 0 13 (dk_at dksX3_bend_1 19 rfl rfl)
theorem dX3_bend_44 : decode cX3_bend 44 = .ok (.iload 4, 2) := dk_21 4 (dk_at dksX3_bend_1 22 rfl rfl)
theorem dX3_bend_46 : decode cX3_bend 46 = .ok (.iconst (-1), 1) := dk_2 (dk_at dksX3_bend_2 0 rfl rfl)
theorem dX3_bend_47 : decode cX3_bend 47 = .ok (.iconst 1, 1) := dk_4 (dk_at dksX3_bend_2 1 rfl rfl)
theorem dX3_bend_48 : decode cX3_bend 48 = .ok (.invokestatic 38, 3) := dk_184 0 38 (dk_at dksX3_bend_2 2 rfl rfl)
theorem dX3_bend_51 : decode cX3_bend 51 = .ok (.ifCond .ne 9, 3) := dk_154 0 9 (dk_at dksX3_bend_2 5 rfl rfl)
theorem dX3_bend_54 : decode cX3_bend 54 = .ok (.aload_n 0, 1) := dk_42 (dk_at dksX3_bend_2 8 rfl rfl)
theorem dX3_bend_55 : decode cX3_bend 55 = .ok (.iconst 2, 1) := dk_5 (dk_at dksX3_bend_2 9 rfl rfl)
theorem dX3_bend_56 : decode cX3_bend 56 = .ok (.invokevirtual 59, 3) := dk_182 0 59 (dk_at dksX3_bend_2 10 rfl rfl)
theorem dX3_bend_59 : decode cX3_bend 59 = .ok (.ireturn, 1) := dk_172 (dk_at dksX3_bend_2 13 rfl rfl)
theorem dX3_bend_60 : decode cX3_bend 60 = .ok (.aload_n 0, 1) := dk_42 (dk_at dksX3_bend_2 14 rfl rfl)
theorem dX3_bend_61 : decode cX3_bend 61 = .ok (.getfield 13, 3) := dk_180 0 13 (dk_at dksX3_bend_2 15 rfl rfl)
theorem dX3_bend_64 : decode cX3_bend 64 = .ok (.iload_n 1, 1) := dk_27 (dk_at dksX3_bend_2 18 rfl rfl)
theorem dX3_bend_65 : decode cX3_bend 65 = .ok (.iload_n 2, 1) := dk_28 (dk_at dksX3_bend_2 19 rfl rfl)
theorem dX3_bend_66 : decode cX3_bend 66 = .ok (.iload_n 3, 1) := dk_29 (dk_at dksX3_bend_2 20 rfl rfl)
theorem dX3_bend_67 : decode cX3_bend 67 = .ok (.invokestatic 74, 3) := dk_184 0 74 (dk_at dksX3_bend_2 21 rfl rfl)
theorem dX3_bend_70 : decode cX3_bend 70 = .ok (.iaload, 1) := dk_46 (dk_at dksX3_bend_3 0 rfl rfl)
theorem dX3_bend_71 : decode cX3_bend 71 = .ok (.istore 5, 2) := dk_54 5 (dk_at dksX3_bend_3 1 rfl rfl)
theorem dX3_bend_73 : decode cX3_bend 73 = .ok (.aload_n 0, 1) := dk_42 (dk_at dksX3_bend_3 3 rfl rfl)
theorem dX3_bend_74 : decode cX3_bend 74 = .ok (.getfield 13, 3) := dk_180 0 13 (dk_at dksX3_bend_3 4 rfl rfl)
theorem dX3_bend_77 : decode cX3_bend 77 = .ok (.iload_n 1, 1) := dk_27 (dk_at dksX3_bend_3 7 rfl rfl)
theorem dX3_bend_78 : decode cX3_bend 78 = .ok (.iload_n 2, 1) := dk_28 (dk_at dksX3_bend_3 8 rfl rfl)
theorem dX3_bend_79 : decode cX3_bend 79 = .ok (.iload_n 3, 1) := dk_29 (dk_at dksX3_bend_3 9 rfl rfl)
theorem dX3_bend_80 : decode cX3_bend 80 = .ok (.invokestatic 74, 3) := dk_184 0 74 (dk_at dksX3_bend_3 10 rfl rfl)
theorem dX3_bend_83 : decode cX3_bend 83 = .ok (.iload 4, 2) := dk_21 4 (dk_at dksX3_bend_3 13 rfl rfl)
theorem dX3_bend_85 : decode cX3_bend 85 = .ok (.iastore, 1) := dk_79 (dk_at dksX3_bend_3 15 rfl rfl)
theorem dX3_bend_86 : decode cX3_bend 86 = .ok (.iload 5, 2) := dk_21 5 (dk_at dksX3_bend_3 16 rfl rfl)
theorem dX3_bend_88 : decode cX3_bend 88 = .ok (.ireturn, 1) := dk_172 (dk_at dksX3_bend_3 18 rfl rfl)
abbrev cX3_isMachine : ByteArray := prog_8_method_5_code
def yX3_isMachine : MethodName := ⟨RX3, "isMachine", "(I)Z"⟩
def dkwX3_isMachine_0 : List UInt8 := [27, 3, 42, 180, 0, 35, 4, 100, 184, 0, 38, 172]
abbrev dktX3_isMachine_0 : List UInt8 := dkwX3_isMachine_0 ++ []
theorem dksX3_isMachine_0 : cX3_isMachine.data.toList.drop 0 = dktX3_isMachine_0 := by decide +kernel
theorem dX3_isMachine_0 : decode cX3_isMachine 0 = .ok (.iload_n 1, 1) := dk_27 (dk_at dksX3_isMachine_0 0 rfl rfl)
theorem dX3_isMachine_1 : decode cX3_isMachine 1 = .ok (.iconst 0, 1) := dk_3 (dk_at dksX3_isMachine_0 1 rfl rfl)
theorem dX3_isMachine_2 : decode cX3_isMachine 2 = .ok (.aload_n 0, 1) := dk_42 (dk_at dksX3_isMachine_0 2 rfl rfl)
theorem dX3_isMachine_3 : decode cX3_isMachine 3 = .ok (.getfield 35, 3) := dk_180 0 35 (dk_at dksX3_isMachine_0 3 rfl rfl)
theorem dX3_isMachine_6 : decode cX3_isMachine 6 = .ok (.iconst 1, 1) := dk_4 (dk_at dksX3_isMachine_0 6 rfl rfl)
theorem dX3_isMachine_7 : decode cX3_isMachine 7 = .ok (.isub, 1) := dk_100 (dk_at dksX3_isMachine_0 7 rfl rfl)
theorem dX3_isMachine_8 : decode cX3_isMachine 8 = .ok (.invokestatic 38, 3) := dk_184 0 38 (dk_at dksX3_isMachine_0 8 rfl rfl)
theorem dX3_isMachine_11 : decode cX3_isMachine 11 = .ok (.ireturn, 1) := dk_172 (dk_at dksX3_isMachine_0 11 rfl rfl)
abbrev cX3_isColumn : ByteArray := prog_8_method_12_code
def yX3_isColumn : MethodName := ⟨RX3, "isColumn", "(II)Z"⟩
def dkwX3_isColumn_1 : List UInt8 := [4, 167, 0, 4, 3, 172]
abbrev dktX3_isColumn_1 : List UInt8 := dkwX3_isColumn_1 ++ []
def dkwX3_isColumn_0 : List UInt8 := [42, 27, 182, 0, 49, 153, 0, 23, 28, 3, 42, 27, 4, 182, 0, 45, 4, 100, 184, 0, 38, 153, 0, 7]
abbrev dktX3_isColumn_0 : List UInt8 := dkwX3_isColumn_0 ++ dktX3_isColumn_1
theorem dksX3_isColumn_0 : cX3_isColumn.data.toList.drop 0 = dktX3_isColumn_0 := by decide +kernel
theorem dksX3_isColumn_1 : cX3_isColumn.data.toList.drop 24 = dktX3_isColumn_1 := dk_seg dksX3_isColumn_0 24 rfl rfl
theorem dX3_isColumn_0 : decode cX3_isColumn 0 = .ok (.aload_n 0, 1) := dk_42 (dk_at dksX3_isColumn_0 0 rfl rfl)
theorem dX3_isColumn_1 : decode cX3_isColumn 1 = .ok (.iload_n 1, 1) := dk_27 (dk_at dksX3_isColumn_0 1 rfl rfl)
theorem dX3_isColumn_2 : decode cX3_isColumn 2 = .ok (.invokevirtual 49, 3) := dk_182 0 49 (dk_at dksX3_isColumn_0 2 rfl rfl)
theorem dX3_isColumn_5 : decode cX3_isColumn 5 = .ok (.ifCond .eq 23, 3) := dk_153 0 23 (dk_at dksX3_isColumn_0 5 rfl rfl)
theorem dX3_isColumn_8 : decode cX3_isColumn 8 = .ok (.iload_n 2, 1) := dk_28 (dk_at dksX3_isColumn_0 8 rfl rfl)
theorem dX3_isColumn_9 : decode cX3_isColumn 9 = .ok (.iconst 0, 1) := dk_3 (dk_at dksX3_isColumn_0 9 rfl rfl)
theorem dX3_isColumn_10 : decode cX3_isColumn 10 = .ok (.aload_n 0, 1) := dk_42 (dk_at dksX3_isColumn_0 10 rfl rfl)
theorem dX3_isColumn_11 : decode cX3_isColumn 11 = .ok (.iload_n 1, 1) := dk_27 (dk_at dksX3_isColumn_0 11 rfl rfl)
theorem dX3_isColumn_12 : decode cX3_isColumn 12 = .ok (.iconst 1, 1) := dk_4 (dk_at dksX3_isColumn_0 12 rfl rfl)
theorem dX3_isColumn_13 : decode cX3_isColumn 13 = .ok (.invokevirtual 45, 3) := dk_182 0 45 (dk_at dksX3_isColumn_0 13 rfl rfl)
theorem dX3_isColumn_16 : decode cX3_isColumn 16 = .ok (.iconst 1, 1) := dk_4 (dk_at dksX3_isColumn_0 16 rfl rfl)
theorem dX3_isColumn_17 : decode cX3_isColumn 17 = .ok (.isub, 1) := dk_100 (dk_at dksX3_isColumn_0 17 rfl rfl)
theorem dX3_isColumn_18 : decode cX3_isColumn 18 = .ok (.invokestatic 38, 3) := dk_184 0 38 (dk_at dksX3_isColumn_0 18 rfl rfl)
theorem dX3_isColumn_21 : decode cX3_isColumn 21 = .ok (.ifCond .eq 7, 3) := dk_153 0 7 (dk_at dksX3_isColumn_0 21 rfl rfl)
theorem dX3_isColumn_24 : decode cX3_isColumn 24 = .ok (.iconst 1, 1) := dk_4 (dk_at dksX3_isColumn_1 0 rfl rfl)
theorem dX3_isColumn_25 : decode cX3_isColumn 25 = .ok (.goto 4, 3) := dk_167 0 4 (dk_at dksX3_isColumn_1 1 rfl rfl)
theorem dX3_isColumn_28 : decode cX3_isColumn 28 = .ok (.iconst 0, 1) := dk_3 (dk_at dksX3_isColumn_1 4 rfl rfl)
theorem dX3_isColumn_29 : decode cX3_isColumn 29 = .ok (.ireturn, 1) := dk_172 (dk_at dksX3_isColumn_1 5 rfl rfl)
abbrev cX3_isTable : ByteArray := prog_8_method_11_code
def yX3_isTable : MethodName := ⟨RX3, "isTable", "(I)Z"⟩
def dkwX3_isTable_0 : List UInt8 := [42, 27, 3, 182, 0, 45, 154, 0, 7, 4, 167, 0, 4, 3, 172]
abbrev dktX3_isTable_0 : List UInt8 := dkwX3_isTable_0 ++ []
theorem dksX3_isTable_0 : cX3_isTable.data.toList.drop 0 = dktX3_isTable_0 := by decide +kernel
theorem dX3_isTable_0 : decode cX3_isTable 0 = .ok (.aload_n 0, 1) := dk_42 (dk_at dksX3_isTable_0 0 rfl rfl)
theorem dX3_isTable_1 : decode cX3_isTable 1 = .ok (.iload_n 1, 1) := dk_27 (dk_at dksX3_isTable_0 1 rfl rfl)
theorem dX3_isTable_2 : decode cX3_isTable 2 = .ok (.iconst 0, 1) := dk_3 (dk_at dksX3_isTable_0 2 rfl rfl)
theorem dX3_isTable_3 : decode cX3_isTable 3 = .ok (.invokevirtual 45, 3) := dk_182 0 45 (dk_at dksX3_isTable_0 3 rfl rfl)
theorem dX3_isTable_6 : decode cX3_isTable 6 = .ok (.ifCond .ne 7, 3) := dk_154 0 7 (dk_at dksX3_isTable_0 6 rfl rfl)
theorem dX3_isTable_9 : decode cX3_isTable 9 = .ok (.iconst 1, 1) := dk_4 (dk_at dksX3_isTable_0 9 rfl rfl)
theorem dX3_isTable_10 : decode cX3_isTable 10 = .ok (.goto 4, 3) := dk_167 0 4 (dk_at dksX3_isTable_0 10 rfl rfl)
theorem dX3_isTable_13 : decode cX3_isTable 13 = .ok (.iconst 0, 1) := dk_3 (dk_at dksX3_isTable_0 13 rfl rfl)
theorem dX3_isTable_14 : decode cX3_isTable 14 = .ok (.ireturn, 1) := dk_172 (dk_at dksX3_isTable_0 14 rfl rfl)
abbrev cX3_ma : ByteArray := prog_8_method_7_code
def yX3_ma : MethodName := ⟨RX3, "ma", "(II)I"⟩
def dkwX3_ma_0 : List UInt8 := [42, 180, 0, 16, 16, 9, 27, 104, 28, 96, 46, 172]
abbrev dktX3_ma_0 : List UInt8 := dkwX3_ma_0 ++ []
theorem dksX3_ma_0 : cX3_ma.data.toList.drop 0 = dktX3_ma_0 := by decide +kernel
theorem dX3_ma_0 : decode cX3_ma 0 = .ok (.aload_n 0, 1) := dk_42 (dk_at dksX3_ma_0 0 rfl rfl)
theorem dX3_ma_1 : decode cX3_ma 1 = .ok (.getfield 16, 3) := dk_180 0 16 (dk_at dksX3_ma_0 1 rfl rfl)
theorem dX3_ma_4 : decode cX3_ma 4 = .ok (.bipush 9, 2) := dk_16 9 (dk_at dksX3_ma_0 4 rfl rfl)
theorem dX3_ma_6 : decode cX3_ma 6 = .ok (.iload_n 1, 1) := dk_27 (dk_at dksX3_ma_0 6 rfl rfl)
theorem dX3_ma_7 : decode cX3_ma 7 = .ok (.imul, 1) := dk_104 (dk_at dksX3_ma_0 7 rfl rfl)
theorem dX3_ma_8 : decode cX3_ma 8 = .ok (.iload_n 2, 1) := dk_28 (dk_at dksX3_ma_0 8 rfl rfl)
theorem dX3_ma_9 : decode cX3_ma 9 = .ok (.iadd, 1) := dk_96 (dk_at dksX3_ma_0 9 rfl rfl)
theorem dX3_ma_10 : decode cX3_ma 10 = .ok (.iaload, 1) := dk_46 (dk_at dksX3_ma_0 10 rfl rfl)
theorem dX3_ma_11 : decode cX3_ma 11 = .ok (.ireturn, 1) := dk_172 (dk_at dksX3_ma_0 11 rfl rfl)
abbrev cX3_pin : ByteArray := prog_8_method_13_code
def yX3_pin : MethodName := ⟨RX3, "pin", "(III)I"⟩
def dkwX3_pin_0 : List UInt8 := [16, 9, 16, 12, 26, 104, 27, 96, 104, 28, 96, 172]
abbrev dktX3_pin_0 : List UInt8 := dkwX3_pin_0 ++ []
theorem dksX3_pin_0 : cX3_pin.data.toList.drop 0 = dktX3_pin_0 := by decide +kernel
theorem dX3_pin_0 : decode cX3_pin 0 = .ok (.bipush 9, 2) := dk_16 9 (dk_at dksX3_pin_0 0 rfl rfl)
theorem dX3_pin_2 : decode cX3_pin 2 = .ok (.bipush 12, 2) := dk_16 12 (dk_at dksX3_pin_0 2 rfl rfl)
theorem dX3_pin_4 : decode cX3_pin 4 = .ok (.iload_n 0, 1) := dk_26 (dk_at dksX3_pin_0 4 rfl rfl)
theorem dX3_pin_5 : decode cX3_pin 5 = .ok (.imul, 1) := dk_104 (dk_at dksX3_pin_0 5 rfl rfl)
theorem dX3_pin_6 : decode cX3_pin 6 = .ok (.iload_n 1, 1) := dk_27 (dk_at dksX3_pin_0 6 rfl rfl)
theorem dX3_pin_7 : decode cX3_pin 7 = .ok (.iadd, 1) := dk_96 (dk_at dksX3_pin_0 7 rfl rfl)
theorem dX3_pin_8 : decode cX3_pin 8 = .ok (.imul, 1) := dk_104 (dk_at dksX3_pin_0 8 rfl rfl)
theorem dX3_pin_9 : decode cX3_pin 9 = .ok (.iload_n 2, 1) := dk_28 (dk_at dksX3_pin_0 9 rfl rfl)
theorem dX3_pin_10 : decode cX3_pin 10 = .ok (.iadd, 1) := dk_96 (dk_at dksX3_pin_0 10 rfl rfl)
theorem dX3_pin_11 : decode cX3_pin 11 = .ok (.ireturn, 1) := dk_172 (dk_at dksX3_pin_0 11 rfl rfl)
abbrev cX3_setCup : ByteArray := prog_8_method_18_code
def yX3_setCup : MethodName := ⟨RX3, "setCup", "(III)I"⟩
def dkwX3_setCup_3 : List UInt8 := [21, 4, 172]
abbrev dktX3_setCup_3 : List UInt8 := dkwX3_setCup_3 ++ []
def dkwX3_setCup_2 : List UInt8 := [180, 0, 9, 16, 9, 27, 104, 28, 96, 46, 54, 4, 42, 180, 0, 9, 16, 9, 27, 104, 28, 96, 29, 79]
abbrev dktX3_setCup_2 : List UInt8 := dkwX3_setCup_2 ++ dktX3_setCup_3
def dkwX3_setCup_1 : List UInt8 := [182, 0, 70, 153, 0, 13, 29, 3, 16, 20, 184, 0, 38, 154, 0, 9, 42, 5, 182, 0, 59, 172, 42]
abbrev dktX3_setCup_1 : List UInt8 := dkwX3_setCup_1 ++ dktX3_setCup_2
def dkwX3_setCup_0 : List UInt8 := [42, 3, 181, 0, 31, 42, 27, 182, 0, 67, 154, 0, 9, 42, 4, 182, 0, 59, 172, 42, 27, 28]
abbrev dktX3_setCup_0 : List UInt8 := dkwX3_setCup_0 ++ dktX3_setCup_1
theorem dksX3_setCup_0 : cX3_setCup.data.toList.drop 0 = dktX3_setCup_0 := by decide +kernel
theorem dksX3_setCup_1 : cX3_setCup.data.toList.drop 22 = dktX3_setCup_1 := dk_seg dksX3_setCup_0 22 rfl rfl
theorem dksX3_setCup_2 : cX3_setCup.data.toList.drop 45 = dktX3_setCup_2 := dk_seg dksX3_setCup_1 23 rfl rfl
theorem dksX3_setCup_3 : cX3_setCup.data.toList.drop 69 = dktX3_setCup_3 := dk_seg dksX3_setCup_2 24 rfl rfl
theorem dX3_setCup_0 : decode cX3_setCup 0 = .ok (.aload_n 0, 1) := dk_42 (dk_at dksX3_setCup_0 0 rfl rfl)
theorem dX3_setCup_1 : decode cX3_setCup 1 = .ok (.iconst 0, 1) := dk_3 (dk_at dksX3_setCup_0 1 rfl rfl)
theorem dX3_setCup_2 : decode cX3_setCup 2 = .ok (.putfield 31, 3) := dk_181 0 31 (dk_at dksX3_setCup_0 2 rfl rfl)
theorem dX3_setCup_5 : decode cX3_setCup 5 = .ok (.aload_n 0, 1) := dk_42 (dk_at dksX3_setCup_0 5 rfl rfl)
theorem dX3_setCup_6 : decode cX3_setCup 6 = .ok (.iload_n 1, 1) := dk_27 (dk_at dksX3_setCup_0 6 rfl rfl)
theorem dX3_setCup_7 : decode cX3_setCup 7 = .ok (.invokevirtual 67, 3) := dk_182 0 67 (dk_at dksX3_setCup_0 7 rfl rfl)
theorem dX3_setCup_10 : decode cX3_setCup 10 = .ok (.ifCond .ne 9, 3) := dk_154 0 9 (dk_at dksX3_setCup_0 10 rfl rfl)
theorem dX3_setCup_13 : decode cX3_setCup 13 = .ok (.aload_n 0, 1) := dk_42 (dk_at dksX3_setCup_0 13 rfl rfl)
theorem dX3_setCup_14 : decode cX3_setCup 14 = .ok (.iconst 1, 1) := dk_4 (dk_at dksX3_setCup_0 14 rfl rfl)
theorem dX3_setCup_15 : decode cX3_setCup 15 = .ok (.invokevirtual 59, 3) := dk_182 0 59 (dk_at dksX3_setCup_0 15 rfl rfl)
theorem dX3_setCup_18 : decode cX3_setCup 18 = .ok (.ireturn, 1) := dk_172 (dk_at dksX3_setCup_0 18 rfl rfl)
theorem dX3_setCup_19 : decode cX3_setCup 19 = .ok (.aload_n 0, 1) := dk_42 (dk_at dksX3_setCup_0 19 rfl rfl)
theorem dX3_setCup_20 : decode cX3_setCup 20 = .ok (.iload_n 1, 1) := dk_27 (dk_at dksX3_setCup_0 20 rfl rfl)
theorem dX3_setCup_21 : decode cX3_setCup 21 = .ok (.iload_n 2, 1) := dk_28 (dk_at dksX3_setCup_0 21 rfl rfl)
theorem dX3_setCup_22 : decode cX3_setCup 22 = .ok (.invokevirtual 70, 3) := dk_182 0 70 (dk_at dksX3_setCup_1 0 rfl rfl)
theorem dX3_setCup_25 : decode cX3_setCup 25 = .ok (.ifCond .eq 13, 3) := dk_153 0 13 (dk_at dksX3_setCup_1 3 rfl rfl)
theorem dX3_setCup_28 : decode cX3_setCup 28 = .ok (.iload_n 3, 1) := dk_29 (dk_at dksX3_setCup_1 6 rfl rfl)
theorem dX3_setCup_29 : decode cX3_setCup 29 = .ok (.iconst 0, 1) := dk_3 (dk_at dksX3_setCup_1 7 rfl rfl)
theorem dX3_setCup_30 : decode cX3_setCup 30 = .ok (.bipush 20, 2) := dk_16 20 (dk_at dksX3_setCup_1 8 rfl rfl)
theorem dX3_setCup_32 : decode cX3_setCup 32 = .ok (.invokestatic 38, 3) := dk_184 0 38 (dk_at dksX3_setCup_1 10 rfl rfl)
theorem dX3_setCup_35 : decode cX3_setCup 35 = .ok (.ifCond .ne 9, 3) := dk_154 0 9 (dk_at dksX3_setCup_1 13 rfl rfl)
theorem dX3_setCup_38 : decode cX3_setCup 38 = .ok (.aload_n 0, 1) := dk_42 (dk_at dksX3_setCup_1 16 rfl rfl)
theorem dX3_setCup_39 : decode cX3_setCup 39 = .ok (.iconst 2, 1) := dk_5 (dk_at dksX3_setCup_1 17 rfl rfl)
theorem dX3_setCup_40 : decode cX3_setCup 40 = .ok (.invokevirtual 59, 3) := dk_182 0 59 (dk_at dksX3_setCup_1 18 rfl rfl)
theorem dX3_setCup_43 : decode cX3_setCup 43 = .ok (.ireturn, 1) := dk_172 (dk_at dksX3_setCup_1 21 rfl rfl)
theorem dX3_setCup_44 : decode cX3_setCup 44 = .ok (.aload_n 0, 1) := dk_42 (dk_at dksX3_setCup_1 22 rfl rfl)
theorem dX3_setCup_45 : decode cX3_setCup 45 = .ok (.getfield 9, 3) := dk_180 0 9 (dk_at dksX3_setCup_2 0 rfl rfl)
theorem dX3_setCup_48 : decode cX3_setCup 48 = .ok (.bipush 9, 2) := dk_16 9 (dk_at dksX3_setCup_2 3 rfl rfl)
theorem dX3_setCup_50 : decode cX3_setCup 50 = .ok (.iload_n 1, 1) := dk_27 (dk_at dksX3_setCup_2 5 rfl rfl)
theorem dX3_setCup_51 : decode cX3_setCup 51 = .ok (.imul, 1) := dk_104 (dk_at dksX3_setCup_2 6 rfl rfl)
theorem dX3_setCup_52 : decode cX3_setCup 52 = .ok (.iload_n 2, 1) := dk_28 (dk_at dksX3_setCup_2 7 rfl rfl)
theorem dX3_setCup_53 : decode cX3_setCup 53 = .ok (.iadd, 1) := dk_96 (dk_at dksX3_setCup_2 8 rfl rfl)
theorem dX3_setCup_54 : decode cX3_setCup 54 = .ok (.iaload, 1) := dk_46 (dk_at dksX3_setCup_2 9 rfl rfl)
theorem dX3_setCup_55 : decode cX3_setCup 55 = .ok (.istore 4, 2) := dk_54 4 (dk_at dksX3_setCup_2 10 rfl rfl)
theorem dX3_setCup_57 : decode cX3_setCup 57 = .ok (.aload_n 0, 1) := dk_42 (dk_at dksX3_setCup_2 12 rfl rfl)
theorem dX3_setCup_58 : decode cX3_setCup 58 = .ok (.getfield 9, 3) := dk_180 0 9 (dk_at dksX3_setCup_2 13 rfl rfl)
theorem dX3_setCup_61 : decode cX3_setCup 61 = .ok (.bipush 9, 2) := dk_16 9 (dk_at dksX3_setCup_2 16 rfl rfl)
theorem dX3_setCup_63 : decode cX3_setCup 63 = .ok (.iload_n 1, 1) := dk_27 (dk_at dksX3_setCup_2 18 rfl rfl)
theorem dX3_setCup_64 : decode cX3_setCup 64 = .ok (.imul, 1) := dk_104 (dk_at dksX3_setCup_2 19 rfl rfl)
theorem dX3_setCup_65 : decode cX3_setCup 65 = .ok (.iload_n 2, 1) := dk_28 (dk_at dksX3_setCup_2 20 rfl rfl)
theorem dX3_setCup_66 : decode cX3_setCup 66 = .ok (.iadd, 1) := dk_96 (dk_at dksX3_setCup_2 21 rfl rfl)
theorem dX3_setCup_67 : decode cX3_setCup 67 = .ok (.iload_n 3, 1) := dk_29 (dk_at dksX3_setCup_2 22 rfl rfl)
theorem dX3_setCup_68 : decode cX3_setCup 68 = .ok (.iastore, 1) := dk_79 (dk_at dksX3_setCup_2 23 rfl rfl)
theorem dX3_setCup_69 : decode cX3_setCup 69 = .ok (.iload 4, 2) := dk_21 4 (dk_at dksX3_setCup_3 0 rfl rfl)
theorem dX3_setCup_71 : decode cX3_setCup 71 = .ok (.ireturn, 1) := dk_172 (dk_at dksX3_setCup_3 2 rfl rfl)
abbrev cX3_machine : ByteArray := prog_8_method_21_code
def yX3_machine : MethodName := ⟨RX3, "machine", "(II)I"⟩
def dkwX3_machine_1 : List UInt8 := [27, 28, 182, 0, 84, 167, 0, 8, 42, 4, 182, 0, 59, 172]
abbrev dktX3_machine_1 : List UInt8 := dkwX3_machine_1 ++ []
def dkwX3_machine_0 : List UInt8 := [42, 3, 181, 0, 31, 42, 27, 182, 0, 67, 153, 0, 22, 28, 3, 16, 10, 184, 0, 38, 153, 0, 12, 42]
abbrev dktX3_machine_0 : List UInt8 := dkwX3_machine_0 ++ dktX3_machine_1
theorem dksX3_machine_0 : cX3_machine.data.toList.drop 0 = dktX3_machine_0 := by decide +kernel
theorem dksX3_machine_1 : cX3_machine.data.toList.drop 24 = dktX3_machine_1 := dk_seg dksX3_machine_0 24 rfl rfl
theorem dX3_machine_0 : decode cX3_machine 0 = .ok (.aload_n 0, 1) := dk_42 (dk_at dksX3_machine_0 0 rfl rfl)
theorem dX3_machine_1 : decode cX3_machine 1 = .ok (.iconst 0, 1) := dk_3 (dk_at dksX3_machine_0 1 rfl rfl)
theorem dX3_machine_2 : decode cX3_machine 2 = .ok (.putfield 31, 3) := dk_181 0 31 (dk_at dksX3_machine_0 2 rfl rfl)
theorem dX3_machine_5 : decode cX3_machine 5 = .ok (.aload_n 0, 1) := dk_42 (dk_at dksX3_machine_0 5 rfl rfl)
theorem dX3_machine_6 : decode cX3_machine 6 = .ok (.iload_n 1, 1) := dk_27 (dk_at dksX3_machine_0 6 rfl rfl)
theorem dX3_machine_7 : decode cX3_machine 7 = .ok (.invokevirtual 67, 3) := dk_182 0 67 (dk_at dksX3_machine_0 7 rfl rfl)
theorem dX3_machine_10 : decode cX3_machine 10 = .ok (.ifCond .eq 22, 3) := dk_153 0 22 (dk_at dksX3_machine_0 10 rfl rfl)
theorem dX3_machine_13 : decode cX3_machine 13 = .ok (.iload_n 2, 1) := dk_28 (dk_at dksX3_machine_0 13 rfl rfl)
theorem dX3_machine_14 : decode cX3_machine 14 = .ok (.iconst 0, 1) := dk_3 (dk_at dksX3_machine_0 14 rfl rfl)
theorem dX3_machine_15 : decode cX3_machine 15 = .ok (.bipush 10, 2) := dk_16 10 (dk_at dksX3_machine_0 15 rfl rfl)
theorem dX3_machine_17 : decode cX3_machine 17 = .ok (.invokestatic 38, 3) := dk_184 0 38 (dk_at dksX3_machine_0 17 rfl rfl)
theorem dX3_machine_20 : decode cX3_machine 20 = .ok (.ifCond .eq 12, 3) := dk_153 0 12 (dk_at dksX3_machine_0 20 rfl rfl)
theorem dX3_machine_23 : decode cX3_machine 23 = .ok (.aload_n 0, 1) := dk_42 (dk_at dksX3_machine_0 23 rfl rfl)
theorem dX3_machine_24 : decode cX3_machine 24 = .ok (.iload_n 1, 1) := dk_27 (dk_at dksX3_machine_1 0 rfl rfl)
theorem dX3_machine_25 : decode cX3_machine 25 = .ok (.iload_n 2, 1) := dk_28 (dk_at dksX3_machine_1 1 rfl rfl)
theorem dX3_machine_26 : decode cX3_machine 26 = .ok (.invokevirtual 84, 3) := dk_182 0 84 (dk_at dksX3_machine_1 2 rfl rfl)
theorem dX3_machine_29 : decode cX3_machine 29 = .ok (.goto 8, 3) := dk_167 0 8 (dk_at dksX3_machine_1 5 rfl rfl)
theorem dX3_machine_32 : decode cX3_machine 32 = .ok (.aload_n 0, 1) := dk_42 (dk_at dksX3_machine_1 8 rfl rfl)
theorem dX3_machine_33 : decode cX3_machine 33 = .ok (.iconst 1, 1) := dk_4 (dk_at dksX3_machine_1 9 rfl rfl)
theorem dX3_machine_34 : decode cX3_machine 34 = .ok (.invokevirtual 59, 3) := dk_182 0 59 (dk_at dksX3_machine_1 10 rfl rfl)
theorem dX3_machine_37 : decode cX3_machine 37 = .ok (.ireturn, 1) := dk_172 (dk_at dksX3_machine_1 13 rfl rfl)
abbrev cX3_machineTold : ByteArray := prog_8_method_20_code
def yX3_machineTold : MethodName := ⟨RX3, "machineTold", "(II)I"⟩
def dkwX3_machineTold_4 : List UInt8 := [42, 27, 182, 0, 81, 172, 42, 27, 28, 182, 0, 45, 172]
abbrev dktX3_machineTold_4 : List UInt8 := dkwX3_machineTold_4 ++ []
def dkwX3_machineTold_3 : List UInt8 := [4, 167, 0, 4, 3, 96, 62, 132, 4, 1, 167, 255, 225, 29, 172, 42, 27, 28, 4, 100, 182, 0, 45, 172]
abbrev dktX3_machineTold_3 : List UInt8 := dkwX3_machineTold_3 ++ dktX3_machineTold_4
def dkwX3_machineTold_2 : List UInt8 := [3, 54, 4, 21, 4, 42, 180, 0, 42, 162, 0, 28, 29, 42, 21, 4, 5, 182, 0, 78, 27, 160, 0, 7]
abbrev dktX3_machineTold_2 : List UInt8 := dkwX3_machineTold_2 ++ dktX3_machineTold_3
def dkwX3_machineTold_1 : List UInt8 := [170, 0, 0, 0, 83, 0, 0, 0, 7, 0, 0, 0, 10, 0, 0, 0, 29, 0, 0, 0, 68, 0, 0, 0, 68, 0, 0, 0, 77]
abbrev dktX3_machineTold_1 : List UInt8 := dkwX3_machineTold_1 ++ dktX3_machineTold_2
def dkwX3_machineTold_0 : List UInt8 := [3, 62, 28]
abbrev dktX3_machineTold_0 : List UInt8 := dkwX3_machineTold_0 ++ dktX3_machineTold_1
theorem dksX3_machineTold_0 : cX3_machineTold.data.toList.drop 0 = dktX3_machineTold_0 := by decide +kernel
theorem dksX3_machineTold_1 : cX3_machineTold.data.toList.drop 3 = dktX3_machineTold_1 := dk_seg dksX3_machineTold_0 3 rfl rfl
theorem dksX3_machineTold_2 : cX3_machineTold.data.toList.drop 32 = dktX3_machineTold_2 := dk_seg dksX3_machineTold_1 29 rfl rfl
theorem dksX3_machineTold_3 : cX3_machineTold.data.toList.drop 56 = dktX3_machineTold_3 := dk_seg dksX3_machineTold_2 24 rfl rfl
theorem dksX3_machineTold_4 : cX3_machineTold.data.toList.drop 80 = dktX3_machineTold_4 := dk_seg dksX3_machineTold_3 24 rfl rfl
theorem dX3_machineTold_0 : decode cX3_machineTold 0 = .ok (.iconst 0, 1) := dk_3 (dk_at dksX3_machineTold_0 0 rfl rfl)
theorem dX3_machineTold_1 : decode cX3_machineTold 1 = .ok (.istore_n 3, 1) := dk_62 (dk_at dksX3_machineTold_0 1 rfl rfl)
theorem dX3_machineTold_2 : decode cX3_machineTold 2 = .ok (.iload_n 2, 1) := dk_28 (dk_at dksX3_machineTold_0 2 rfl rfl)
theorem dX3_machineTold_3 : decode cX3_machineTold 3 = .ok (.tableswitch 83 7 10 #[29, 68, 68, 77], 29) := by decide +kernel
theorem dX3_machineTold_32 : decode cX3_machineTold 32 = .ok (.iconst 0, 1) := dk_3 (dk_at dksX3_machineTold_2 0 rfl rfl)
theorem dX3_machineTold_33 : decode cX3_machineTold 33 = .ok (.istore 4, 2) := dk_54 4 (dk_at dksX3_machineTold_2 1 rfl rfl)
theorem dX3_machineTold_35 : decode cX3_machineTold 35 = .ok (.iload 4, 2) := dk_21 4 (dk_at dksX3_machineTold_2 3 rfl rfl)
theorem dX3_machineTold_37 : decode cX3_machineTold 37 = .ok (.aload_n 0, 1) := dk_42 (dk_at dksX3_machineTold_2 5 rfl rfl)
theorem dX3_machineTold_38 : decode cX3_machineTold 38 = .ok (.getfield 42, 3) := dk_180 0 42 (dk_at dksX3_machineTold_2 6 rfl rfl)
theorem dX3_machineTold_41 : decode cX3_machineTold 41 = .ok (.if_icmp .ge 28, 3) := dk_162 0 28 (dk_at dksX3_machineTold_2 9 rfl rfl)
theorem dX3_machineTold_44 : decode cX3_machineTold 44 = .ok (.iload_n 3, 1) := dk_29 (dk_at dksX3_machineTold_2 12 rfl rfl)
theorem dX3_machineTold_45 : decode cX3_machineTold 45 = .ok (.aload_n 0, 1) := dk_42 (dk_at dksX3_machineTold_2 13 rfl rfl)
theorem dX3_machineTold_46 : decode cX3_machineTold 46 = .ok (.iload 4, 2) := dk_21 4 (dk_at dksX3_machineTold_2 14 rfl rfl)
theorem dX3_machineTold_48 : decode cX3_machineTold 48 = .ok (.iconst 2, 1) := dk_5 (dk_at dksX3_machineTold_2 16 rfl rfl)
theorem dX3_machineTold_49 : decode cX3_machineTold 49 = .ok (.invokevirtual 78, 3) := dk_182 0 78 (dk_at dksX3_machineTold_2 17 rfl rfl)
theorem dX3_machineTold_52 : decode cX3_machineTold 52 = .ok (.iload_n 1, 1) := dk_27 (dk_at dksX3_machineTold_2 20 rfl rfl)
theorem dX3_machineTold_53 : decode cX3_machineTold 53 = .ok (.if_icmp .ne 7, 3) := dk_160 0 7 (dk_at dksX3_machineTold_2 21 rfl rfl)
theorem dX3_machineTold_56 : decode cX3_machineTold 56 = .ok (.iconst 1, 1) := dk_4 (dk_at dksX3_machineTold_3 0 rfl rfl)
theorem dX3_machineTold_57 : decode cX3_machineTold 57 = .ok (.goto 4, 3) := dk_167 0 4 (dk_at dksX3_machineTold_3 1 rfl rfl)
theorem dX3_machineTold_60 : decode cX3_machineTold 60 = .ok (.iconst 0, 1) := dk_3 (dk_at dksX3_machineTold_3 4 rfl rfl)
theorem dX3_machineTold_61 : decode cX3_machineTold 61 = .ok (.iadd, 1) := dk_96 (dk_at dksX3_machineTold_3 5 rfl rfl)
theorem dX3_machineTold_62 : decode cX3_machineTold 62 = .ok (.istore_n 3, 1) := dk_62 (dk_at dksX3_machineTold_3 6 rfl rfl)
theorem dX3_machineTold_63 : decode cX3_machineTold 63 = .ok (.iinc 4 1, 3) := dk_132 4 1 (dk_at dksX3_machineTold_3 7 rfl rfl)
theorem dX3_machineTold_66 : decode cX3_machineTold 66 = .ok (.goto (-31), 3) := dk_167 255 225 (dk_at dksX3_machineTold_3 10 rfl rfl)
theorem dX3_machineTold_69 : decode cX3_machineTold 69 = .ok (.iload_n 3, 1) := dk_29 (dk_at dksX3_machineTold_3 13 rfl rfl)
theorem dX3_machineTold_70 : decode cX3_machineTold 70 = .ok (.ireturn, 1) := dk_172 (dk_at dksX3_machineTold_3 14 rfl rfl)
theorem dX3_machineTold_71 : decode cX3_machineTold 71 = .ok (.aload_n 0, 1) := dk_42 (dk_at dksX3_machineTold_3 15 rfl rfl)
theorem dX3_machineTold_72 : decode cX3_machineTold 72 = .ok (.iload_n 1, 1) := dk_27 (dk_at dksX3_machineTold_3 16 rfl rfl)
theorem dX3_machineTold_73 : decode cX3_machineTold 73 = .ok (.iload_n 2, 1) := dk_28 (dk_at dksX3_machineTold_3 17 rfl rfl)
theorem dX3_machineTold_74 : decode cX3_machineTold 74 = .ok (.iconst 1, 1) := dk_4 (dk_at dksX3_machineTold_3 18 rfl rfl)
theorem dX3_machineTold_75 : decode cX3_machineTold 75 = .ok (.isub, 1) := dk_100 (dk_at dksX3_machineTold_3 19 rfl rfl)
theorem dX3_machineTold_76 : decode cX3_machineTold 76 = .ok (.invokevirtual 45, 3) := dk_182 0 45 (dk_at dksX3_machineTold_3 20 rfl rfl)
theorem dX3_machineTold_79 : decode cX3_machineTold 79 = .ok (.ireturn, 1) := dk_172 (dk_at dksX3_machineTold_3 23 rfl rfl)
theorem dX3_machineTold_80 : decode cX3_machineTold 80 = .ok (.aload_n 0, 1) := dk_42 (dk_at dksX3_machineTold_4 0 rfl rfl)
theorem dX3_machineTold_81 : decode cX3_machineTold 81 = .ok (.iload_n 1, 1) := dk_27 (dk_at dksX3_machineTold_4 1 rfl rfl)
theorem dX3_machineTold_82 : decode cX3_machineTold 82 = .ok (.invokevirtual 81, 3) := dk_182 0 81 (dk_at dksX3_machineTold_4 2 rfl rfl)
theorem dX3_machineTold_85 : decode cX3_machineTold 85 = .ok (.ireturn, 1) := dk_172 (dk_at dksX3_machineTold_4 5 rfl rfl)
theorem dX3_machineTold_86 : decode cX3_machineTold 86 = .ok (.aload_n 0, 1) := dk_42 (dk_at dksX3_machineTold_4 6 rfl rfl)
theorem dX3_machineTold_87 : decode cX3_machineTold 87 = .ok (.iload_n 1, 1) := dk_27 (dk_at dksX3_machineTold_4 7 rfl rfl)
theorem dX3_machineTold_88 : decode cX3_machineTold 88 = .ok (.iload_n 2, 1) := dk_28 (dk_at dksX3_machineTold_4 8 rfl rfl)
theorem dX3_machineTold_89 : decode cX3_machineTold 89 = .ok (.invokevirtual 45, 3) := dk_182 0 45 (dk_at dksX3_machineTold_4 9 rfl rfl)
theorem dX3_machineTold_92 : decode cX3_machineTold 92 = .ok (.ireturn, 1) := dk_172 (dk_at dksX3_machineTold_4 12 rfl rfl)
abbrev cX3_pl : ByteArray := prog_8_method_9_code
def yX3_pl : MethodName := ⟨RX3, "pl", "(II)I"⟩
def dkwX3_pl_0 : List UInt8 := [42, 180, 0, 22, 16, 6, 27, 104, 28, 96, 46, 172]
abbrev dktX3_pl_0 : List UInt8 := dkwX3_pl_0 ++ []
theorem dksX3_pl_0 : cX3_pl.data.toList.drop 0 = dktX3_pl_0 := by decide +kernel
theorem dX3_pl_0 : decode cX3_pl 0 = .ok (.aload_n 0, 1) := dk_42 (dk_at dksX3_pl_0 0 rfl rfl)
theorem dX3_pl_1 : decode cX3_pl 1 = .ok (.getfield 22, 3) := dk_180 0 22 (dk_at dksX3_pl_0 1 rfl rfl)
theorem dX3_pl_4 : decode cX3_pl 4 = .ok (.bipush 6, 2) := dk_16 6 (dk_at dksX3_pl_0 4 rfl rfl)
theorem dX3_pl_6 : decode cX3_pl 6 = .ok (.iload_n 1, 1) := dk_27 (dk_at dksX3_pl_0 6 rfl rfl)
theorem dX3_pl_7 : decode cX3_pl 7 = .ok (.imul, 1) := dk_104 (dk_at dksX3_pl_0 7 rfl rfl)
theorem dX3_pl_8 : decode cX3_pl 8 = .ok (.iload_n 2, 1) := dk_28 (dk_at dksX3_pl_0 8 rfl rfl)
theorem dX3_pl_9 : decode cX3_pl 9 = .ok (.iadd, 1) := dk_96 (dk_at dksX3_pl_0 9 rfl rfl)
theorem dX3_pl_10 : decode cX3_pl 10 = .ok (.iaload, 1) := dk_46 (dk_at dksX3_pl_0 10 rfl rfl)
theorem dX3_pl_11 : decode cX3_pl 11 = .ok (.ireturn, 1) := dk_172 (dk_at dksX3_pl_0 11 rfl rfl)
abbrev cX3_onLedge : ByteArray := prog_8_method_19_code
def yX3_onLedge : MethodName := ⟨RX3, "onLedge", "(I)I"⟩
def dkwX3_onLedge_1 : List UInt8 := [132, 3, 1, 167, 255, 235, 28, 172]
abbrev dktX3_onLedge_1 : List UInt8 := dkwX3_onLedge_1 ++ []
def dkwX3_onLedge_0 : List UInt8 := [3, 61, 3, 62, 29, 8, 162, 0, 22, 28, 42, 180, 0, 19, 8, 27, 104, 29, 96, 46, 96, 61]
abbrev dktX3_onLedge_0 : List UInt8 := dkwX3_onLedge_0 ++ dktX3_onLedge_1
theorem dksX3_onLedge_0 : cX3_onLedge.data.toList.drop 0 = dktX3_onLedge_0 := by decide +kernel
theorem dksX3_onLedge_1 : cX3_onLedge.data.toList.drop 22 = dktX3_onLedge_1 := dk_seg dksX3_onLedge_0 22 rfl rfl
theorem dX3_onLedge_0 : decode cX3_onLedge 0 = .ok (.iconst 0, 1) := dk_3 (dk_at dksX3_onLedge_0 0 rfl rfl)
theorem dX3_onLedge_1 : decode cX3_onLedge 1 = .ok (.istore_n 2, 1) := dk_61 (dk_at dksX3_onLedge_0 1 rfl rfl)
theorem dX3_onLedge_2 : decode cX3_onLedge 2 = .ok (.iconst 0, 1) := dk_3 (dk_at dksX3_onLedge_0 2 rfl rfl)
theorem dX3_onLedge_3 : decode cX3_onLedge 3 = .ok (.istore_n 3, 1) := dk_62 (dk_at dksX3_onLedge_0 3 rfl rfl)
theorem dX3_onLedge_4 : decode cX3_onLedge 4 = .ok (.iload_n 3, 1) := dk_29 (dk_at dksX3_onLedge_0 4 rfl rfl)
theorem dX3_onLedge_5 : decode cX3_onLedge 5 = .ok (.iconst 5, 1) := dk_8 (dk_at dksX3_onLedge_0 5 rfl rfl)
theorem dX3_onLedge_6 : decode cX3_onLedge 6 = .ok (.if_icmp .ge 22, 3) := dk_162 0 22 (dk_at dksX3_onLedge_0 6 rfl rfl)
theorem dX3_onLedge_9 : decode cX3_onLedge 9 = .ok (.iload_n 2, 1) := dk_28 (dk_at dksX3_onLedge_0 9 rfl rfl)
theorem dX3_onLedge_10 : decode cX3_onLedge 10 = .ok (.aload_n 0, 1) := dk_42 (dk_at dksX3_onLedge_0 10 rfl rfl)
theorem dX3_onLedge_11 : decode cX3_onLedge 11 = .ok (.getfield 19, 3) := dk_180 0 19 (dk_at dksX3_onLedge_0 11 rfl rfl)
theorem dX3_onLedge_14 : decode cX3_onLedge 14 = .ok (.iconst 5, 1) := dk_8 (dk_at dksX3_onLedge_0 14 rfl rfl)
theorem dX3_onLedge_15 : decode cX3_onLedge 15 = .ok (.iload_n 1, 1) := dk_27 (dk_at dksX3_onLedge_0 15 rfl rfl)
theorem dX3_onLedge_16 : decode cX3_onLedge 16 = .ok (.imul, 1) := dk_104 (dk_at dksX3_onLedge_0 16 rfl rfl)
theorem dX3_onLedge_17 : decode cX3_onLedge 17 = .ok (.iload_n 3, 1) := dk_29 (dk_at dksX3_onLedge_0 17 rfl rfl)
theorem dX3_onLedge_18 : decode cX3_onLedge 18 = .ok (.iadd, 1) := dk_96 (dk_at dksX3_onLedge_0 18 rfl rfl)
theorem dX3_onLedge_19 : decode cX3_onLedge 19 = .ok (.iaload, 1) := dk_46 (dk_at dksX3_onLedge_0 19 rfl rfl)
theorem dX3_onLedge_20 : decode cX3_onLedge 20 = .ok (.iadd, 1) := dk_96 (dk_at dksX3_onLedge_0 20 rfl rfl)
theorem dX3_onLedge_21 : decode cX3_onLedge 21 = .ok (.istore_n 2, 1) := dk_61 (dk_at dksX3_onLedge_0 21 rfl rfl)
theorem dX3_onLedge_22 : decode cX3_onLedge 22 = .ok (.iinc 3 1, 3) := dk_132 3 1 (dk_at dksX3_onLedge_1 0 rfl rfl)
theorem dX3_onLedge_25 : decode cX3_onLedge 25 = .ok (.goto (-21), 3) := dk_167 255 235 (dk_at dksX3_onLedge_1 3 rfl rfl)
theorem dX3_onLedge_28 : decode cX3_onLedge 28 = .ok (.iload_n 2, 1) := dk_28 (dk_at dksX3_onLedge_1 6 rfl rfl)
theorem dX3_onLedge_29 : decode cX3_onLedge 29 = .ok (.ireturn, 1) := dk_172 (dk_at dksX3_onLedge_1 7 rfl rfl)
abbrev cX3_ends : ByteArray := prog_8_method_23_code
def yX3_ends : MethodName := ⟨RX3, "ends", "(III)I"⟩
def dkwX3_ends_2 : List UInt8 := [167, 0, 8, 42, 5, 182, 0, 59, 172]
abbrev dktX3_ends_2 : List UInt8 := dkwX3_ends_2 ++ []
def dkwX3_ends_1 : List UInt8 := [182, 0, 70, 153, 0, 22, 29, 2, 4, 184, 0, 38, 153, 0, 13, 42, 27, 28, 29, 182, 0, 95]
abbrev dktX3_ends_1 : List UInt8 := dkwX3_ends_1 ++ dktX3_ends_2
def dkwX3_ends_0 : List UInt8 := [42, 3, 181, 0, 31, 42, 27, 182, 0, 67, 154, 0, 9, 42, 4, 182, 0, 59, 172, 42, 27, 28]
abbrev dktX3_ends_0 : List UInt8 := dkwX3_ends_0 ++ dktX3_ends_1
theorem dksX3_ends_0 : cX3_ends.data.toList.drop 0 = dktX3_ends_0 := by decide +kernel
theorem dksX3_ends_1 : cX3_ends.data.toList.drop 22 = dktX3_ends_1 := dk_seg dksX3_ends_0 22 rfl rfl
theorem dksX3_ends_2 : cX3_ends.data.toList.drop 44 = dktX3_ends_2 := dk_seg dksX3_ends_1 22 rfl rfl
theorem dX3_ends_0 : decode cX3_ends 0 = .ok (.aload_n 0, 1) := dk_42 (dk_at dksX3_ends_0 0 rfl rfl)
theorem dX3_ends_1 : decode cX3_ends 1 = .ok (.iconst 0, 1) := dk_3 (dk_at dksX3_ends_0 1 rfl rfl)
theorem dX3_ends_2 : decode cX3_ends 2 = .ok (.putfield 31, 3) := dk_181 0 31 (dk_at dksX3_ends_0 2 rfl rfl)
theorem dX3_ends_5 : decode cX3_ends 5 = .ok (.aload_n 0, 1) := dk_42 (dk_at dksX3_ends_0 5 rfl rfl)
theorem dX3_ends_6 : decode cX3_ends 6 = .ok (.iload_n 1, 1) := dk_27 (dk_at dksX3_ends_0 6 rfl rfl)
theorem dX3_ends_7 : decode cX3_ends 7 = .ok (.invokevirtual 67, 3) := dk_182 0 67 (dk_at dksX3_ends_0 7 rfl rfl)
theorem dX3_ends_10 : decode cX3_ends 10 = .ok (.ifCond .ne 9, 3) := dk_154 0 9 (dk_at dksX3_ends_0 10 rfl rfl)
theorem dX3_ends_13 : decode cX3_ends 13 = .ok (.aload_n 0, 1) := dk_42 (dk_at dksX3_ends_0 13 rfl rfl)
theorem dX3_ends_14 : decode cX3_ends 14 = .ok (.iconst 1, 1) := dk_4 (dk_at dksX3_ends_0 14 rfl rfl)
theorem dX3_ends_15 : decode cX3_ends 15 = .ok (.invokevirtual 59, 3) := dk_182 0 59 (dk_at dksX3_ends_0 15 rfl rfl)
theorem dX3_ends_18 : decode cX3_ends 18 = .ok (.ireturn, 1) := dk_172 (dk_at dksX3_ends_0 18 rfl rfl)
theorem dX3_ends_19 : decode cX3_ends 19 = .ok (.aload_n 0, 1) := dk_42 (dk_at dksX3_ends_0 19 rfl rfl)
theorem dX3_ends_20 : decode cX3_ends 20 = .ok (.iload_n 1, 1) := dk_27 (dk_at dksX3_ends_0 20 rfl rfl)
theorem dX3_ends_21 : decode cX3_ends 21 = .ok (.iload_n 2, 1) := dk_28 (dk_at dksX3_ends_0 21 rfl rfl)
theorem dX3_ends_22 : decode cX3_ends 22 = .ok (.invokevirtual 70, 3) := dk_182 0 70 (dk_at dksX3_ends_1 0 rfl rfl)
theorem dX3_ends_25 : decode cX3_ends 25 = .ok (.ifCond .eq 22, 3) := dk_153 0 22 (dk_at dksX3_ends_1 3 rfl rfl)
theorem dX3_ends_28 : decode cX3_ends 28 = .ok (.iload_n 3, 1) := dk_29 (dk_at dksX3_ends_1 6 rfl rfl)
theorem dX3_ends_29 : decode cX3_ends 29 = .ok (.iconst (-1), 1) := dk_2 (dk_at dksX3_ends_1 7 rfl rfl)
theorem dX3_ends_30 : decode cX3_ends 30 = .ok (.iconst 1, 1) := dk_4 (dk_at dksX3_ends_1 8 rfl rfl)
theorem dX3_ends_31 : decode cX3_ends 31 = .ok (.invokestatic 38, 3) := dk_184 0 38 (dk_at dksX3_ends_1 9 rfl rfl)
theorem dX3_ends_34 : decode cX3_ends 34 = .ok (.ifCond .eq 13, 3) := dk_153 0 13 (dk_at dksX3_ends_1 12 rfl rfl)
theorem dX3_ends_37 : decode cX3_ends 37 = .ok (.aload_n 0, 1) := dk_42 (dk_at dksX3_ends_1 15 rfl rfl)
theorem dX3_ends_38 : decode cX3_ends 38 = .ok (.iload_n 1, 1) := dk_27 (dk_at dksX3_ends_1 16 rfl rfl)
theorem dX3_ends_39 : decode cX3_ends 39 = .ok (.iload_n 2, 1) := dk_28 (dk_at dksX3_ends_1 17 rfl rfl)
theorem dX3_ends_40 : decode cX3_ends 40 = .ok (.iload_n 3, 1) := dk_29 (dk_at dksX3_ends_1 18 rfl rfl)
theorem dX3_ends_41 : decode cX3_ends 41 = .ok (.invokevirtual 95, 3) := dk_182 0 95 (dk_at dksX3_ends_1 19 rfl rfl)
theorem dX3_ends_44 : decode cX3_ends 44 = .ok (.goto 8, 3) := dk_167 0 8 (dk_at dksX3_ends_2 0 rfl rfl)
theorem dX3_ends_47 : decode cX3_ends 47 = .ok (.aload_n 0, 1) := dk_42 (dk_at dksX3_ends_2 3 rfl rfl)
theorem dX3_ends_48 : decode cX3_ends 48 = .ok (.iconst 2, 1) := dk_5 (dk_at dksX3_ends_2 4 rfl rfl)
theorem dX3_ends_49 : decode cX3_ends 49 = .ok (.invokevirtual 59, 3) := dk_182 0 59 (dk_at dksX3_ends_2 5 rfl rfl)
theorem dX3_ends_52 : decode cX3_ends 52 = .ok (.ireturn, 1) := dk_172 (dk_at dksX3_ends_2 8 rfl rfl)
abbrev cX3_end : ByteArray := prog_8_method_22_code
def yX3_end : MethodName := ⟨RX3, "end", "(III)I"⟩
def dkwX3_end_3 : List UInt8 := [96, 184, 0, 87, 184, 0, 92, 54, 4, 132, 5, 1, 167, 255, 178, 21, 4, 172]
abbrev dktX3_end_3 : List UInt8 := dkwX3_end_3 ++ []
def dkwX3_end_2 : List UInt8 := [112, 154, 0, 7, 29, 167, 0, 4, 3, 54, 7, 3, 42, 27, 4, 182, 0, 45, 4, 100, 21, 4, 21, 7]
abbrev dktX3_end_2 : List UInt8 := dkwX3_end_2 ++ dktX3_end_3
def dkwX3_end_1 : List UInt8 := [21, 4, 184, 0, 74, 46, 54, 6, 21, 6, 153, 0, 8, 21, 6, 167, 0, 18, 21, 5, 21, 4, 96, 5]
abbrev dktX3_end_1 : List UInt8 := dkwX3_end_1 ++ dktX3_end_2
def dkwX3_end_0 : List UInt8 := [28, 54, 4, 3, 54, 5, 21, 5, 42, 27, 5, 182, 0, 45, 162, 0, 73, 42, 180, 0, 13, 27, 21, 5]
abbrev dktX3_end_0 : List UInt8 := dkwX3_end_0 ++ dktX3_end_1
theorem dksX3_end_0 : cX3_end.data.toList.drop 0 = dktX3_end_0 := by decide +kernel
theorem dksX3_end_1 : cX3_end.data.toList.drop 24 = dktX3_end_1 := dk_seg dksX3_end_0 24 rfl rfl
theorem dksX3_end_2 : cX3_end.data.toList.drop 48 = dktX3_end_2 := dk_seg dksX3_end_1 24 rfl rfl
theorem dksX3_end_3 : cX3_end.data.toList.drop 72 = dktX3_end_3 := dk_seg dksX3_end_2 24 rfl rfl
theorem dX3_end_0 : decode cX3_end 0 = .ok (.iload_n 2, 1) := dk_28 (dk_at dksX3_end_0 0 rfl rfl)
theorem dX3_end_1 : decode cX3_end 1 = .ok (.istore 4, 2) := dk_54 4 (dk_at dksX3_end_0 1 rfl rfl)
theorem dX3_end_3 : decode cX3_end 3 = .ok (.iconst 0, 1) := dk_3 (dk_at dksX3_end_0 3 rfl rfl)
theorem dX3_end_4 : decode cX3_end 4 = .ok (.istore 5, 2) := dk_54 5 (dk_at dksX3_end_0 4 rfl rfl)
theorem dX3_end_6 : decode cX3_end 6 = .ok (.iload 5, 2) := dk_21 5 (dk_at dksX3_end_0 6 rfl rfl)
theorem dX3_end_8 : decode cX3_end 8 = .ok (.aload_n 0, 1) := dk_42 (dk_at dksX3_end_0 8 rfl rfl)
theorem dX3_end_9 : decode cX3_end 9 = .ok (.iload_n 1, 1) := dk_27 (dk_at dksX3_end_0 9 rfl rfl)
theorem dX3_end_10 : decode cX3_end 10 = .ok (.iconst 2, 1) := dk_5 (dk_at dksX3_end_0 10 rfl rfl)
theorem dX3_end_11 : decode cX3_end 11 = .ok (.invokevirtual 45, 3) := dk_182 0 45 (dk_at dksX3_end_0 11 rfl rfl)
theorem dX3_end_14 : decode cX3_end 14 = .ok (.if_icmp .ge 73, 3) := dk_162 0 73 (dk_at dksX3_end_0 14 rfl rfl)
theorem dX3_end_17 : decode cX3_end 17 = .ok (.aload_n 0, 1) := dk_42 (dk_at dksX3_end_0 17 rfl rfl)
theorem dX3_end_18 : decode cX3_end 18 = .ok (.getfield 13, 3) := dk_180 0 13 (dk_at dksX3_end_0 18 rfl rfl)
theorem dX3_end_21 : decode cX3_end 21 = .ok (.iload_n 1, 1) := dk_27 (dk_at dksX3_end_0 21 rfl rfl)
theorem dX3_end_22 : decode cX3_end 22 = .ok (.iload 5, 2) := dk_21 5 (dk_at dksX3_end_0 22 rfl rfl)
theorem dX3_end_24 : decode cX3_end 24 = .ok (.iload 4, 2) := dk_21 4 (dk_at dksX3_end_1 0 rfl rfl)
theorem dX3_end_26 : decode cX3_end 26 = .ok (.invokestatic 74, 3) := dk_184 0 74 (dk_at dksX3_end_1 2 rfl rfl)
theorem dX3_end_29 : decode cX3_end 29 = .ok (.iaload, 1) := dk_46 (dk_at dksX3_end_1 5 rfl rfl)
theorem dX3_end_30 : decode cX3_end 30 = .ok (.istore 6, 2) := dk_54 6 (dk_at dksX3_end_1 6 rfl rfl)
theorem dX3_end_32 : decode cX3_end 32 = .ok (.iload 6, 2) := dk_21 6 (dk_at dksX3_end_1 8 rfl rfl)
theorem dX3_end_34 : decode cX3_end 34 = .ok (.ifCond .eq 8, 3) := dk_153 0 8 (dk_at dksX3_end_1 10 rfl rfl)
theorem dX3_end_37 : decode cX3_end 37 = .ok (.iload 6, 2) := dk_21 6 (dk_at dksX3_end_1 13 rfl rfl)
theorem dX3_end_39 : decode cX3_end 39 = .ok (.goto 18, 3) := dk_167 0 18 (dk_at dksX3_end_1 15 rfl rfl)
theorem dX3_end_42 : decode cX3_end 42 = .ok (.iload 5, 2) := dk_21 5 (dk_at dksX3_end_1 18 rfl rfl)
theorem dX3_end_44 : decode cX3_end 44 = .ok (.iload 4, 2) := dk_21 4 (dk_at dksX3_end_1 20 rfl rfl)
theorem dX3_end_46 : decode cX3_end 46 = .ok (.iadd, 1) := dk_96 (dk_at dksX3_end_1 22 rfl rfl)
theorem dX3_end_47 : decode cX3_end 47 = .ok (.iconst 2, 1) := dk_5 (dk_at dksX3_end_1 23 rfl rfl)
theorem dX3_end_48 : decode cX3_end 48 = .ok (.irem, 1) := dk_112 (dk_at dksX3_end_2 0 rfl rfl)
theorem dX3_end_49 : decode cX3_end 49 = .ok (.ifCond .ne 7, 3) := dk_154 0 7 (dk_at dksX3_end_2 1 rfl rfl)
theorem dX3_end_52 : decode cX3_end 52 = .ok (.iload_n 3, 1) := dk_29 (dk_at dksX3_end_2 4 rfl rfl)
theorem dX3_end_53 : decode cX3_end 53 = .ok (.goto 4, 3) := dk_167 0 4 (dk_at dksX3_end_2 5 rfl rfl)
theorem dX3_end_56 : decode cX3_end 56 = .ok (.iconst 0, 1) := dk_3 (dk_at dksX3_end_2 8 rfl rfl)
theorem dX3_end_57 : decode cX3_end 57 = .ok (.istore 7, 2) := dk_54 7 (dk_at dksX3_end_2 9 rfl rfl)
theorem dX3_end_59 : decode cX3_end 59 = .ok (.iconst 0, 1) := dk_3 (dk_at dksX3_end_2 11 rfl rfl)
theorem dX3_end_60 : decode cX3_end 60 = .ok (.aload_n 0, 1) := dk_42 (dk_at dksX3_end_2 12 rfl rfl)
theorem dX3_end_61 : decode cX3_end 61 = .ok (.iload_n 1, 1) := dk_27 (dk_at dksX3_end_2 13 rfl rfl)
theorem dX3_end_62 : decode cX3_end 62 = .ok (.iconst 1, 1) := dk_4 (dk_at dksX3_end_2 14 rfl rfl)
theorem dX3_end_63 : decode cX3_end 63 = .ok (.invokevirtual 45, 3) := dk_182 0 45 (dk_at dksX3_end_2 15 rfl rfl)
theorem dX3_end_66 : decode cX3_end 66 = .ok (.iconst 1, 1) := dk_4 (dk_at dksX3_end_2 18 rfl rfl)
theorem dX3_end_67 : decode cX3_end 67 = .ok (.isub, 1) := dk_100 (dk_at dksX3_end_2 19 rfl rfl)
theorem dX3_end_68 : decode cX3_end 68 = .ok (.iload 4, 2) := dk_21 4 (dk_at dksX3_end_2 20 rfl rfl)
theorem dX3_end_70 : decode cX3_end 70 = .ok (.iload 7, 2) := dk_21 7 (dk_at dksX3_end_2 22 rfl rfl)
theorem dX3_end_72 : decode cX3_end 72 = .ok (.iadd, 1) := dk_96 (dk_at dksX3_end_3 0 rfl rfl)
theorem dX3_end_73 : decode cX3_end 73 = .ok (.invokestatic 87, 3) := dk_184 0 87 (dk_at dksX3_end_3 1 rfl rfl)
theorem dX3_end_76 : decode cX3_end 76 = .ok (.invokestatic 92, 3) := dk_184 0 92 (dk_at dksX3_end_3 4 rfl rfl)
theorem dX3_end_79 : decode cX3_end 79 = .ok (.istore 4, 2) := dk_54 4 (dk_at dksX3_end_3 7 rfl rfl)
theorem dX3_end_81 : decode cX3_end 81 = .ok (.iinc 5 1, 3) := dk_132 5 1 (dk_at dksX3_end_3 9 rfl rfl)
theorem dX3_end_84 : decode cX3_end 84 = .ok (.goto (-78), 3) := dk_167 255 178 (dk_at dksX3_end_3 12 rfl rfl)
theorem dX3_end_87 : decode cX3_end 87 = .ok (.iload 4, 2) := dk_21 4 (dk_at dksX3_end_3 15 rfl rfl)
theorem dX3_end_89 : decode cX3_end 89 = .ok (.ireturn, 1) := dk_172 (dk_at dksX3_end_3 17 rfl rfl)
abbrev cX3_bestTilt : ByteArray := prog_8_method_26_code
def yX3_bestTilt : MethodName := ⟨RX3, "bestTilt", "(II)I"⟩
def dkwX3_bestTilt_1 : List UInt8 := [182, 0, 70, 153, 0, 12, 42, 27, 28, 182, 0, 101, 167, 0, 8, 42, 5, 182, 0, 59, 172]
abbrev dktX3_bestTilt_1 : List UInt8 := dkwX3_bestTilt_1 ++ []
def dkwX3_bestTilt_0 : List UInt8 := [42, 3, 181, 0, 31, 42, 27, 182, 0, 67, 154, 0, 9, 42, 4, 182, 0, 59, 172, 42, 27, 28]
abbrev dktX3_bestTilt_0 : List UInt8 := dkwX3_bestTilt_0 ++ dktX3_bestTilt_1
theorem dksX3_bestTilt_0 : cX3_bestTilt.data.toList.drop 0 = dktX3_bestTilt_0 := by decide +kernel
theorem dksX3_bestTilt_1 : cX3_bestTilt.data.toList.drop 22 = dktX3_bestTilt_1 := dk_seg dksX3_bestTilt_0 22 rfl rfl
theorem dX3_bestTilt_0 : decode cX3_bestTilt 0 = .ok (.aload_n 0, 1) := dk_42 (dk_at dksX3_bestTilt_0 0 rfl rfl)
theorem dX3_bestTilt_1 : decode cX3_bestTilt 1 = .ok (.iconst 0, 1) := dk_3 (dk_at dksX3_bestTilt_0 1 rfl rfl)
theorem dX3_bestTilt_2 : decode cX3_bestTilt 2 = .ok (.putfield 31, 3) := dk_181 0 31 (dk_at dksX3_bestTilt_0 2 rfl rfl)
theorem dX3_bestTilt_5 : decode cX3_bestTilt 5 = .ok (.aload_n 0, 1) := dk_42 (dk_at dksX3_bestTilt_0 5 rfl rfl)
theorem dX3_bestTilt_6 : decode cX3_bestTilt 6 = .ok (.iload_n 1, 1) := dk_27 (dk_at dksX3_bestTilt_0 6 rfl rfl)
theorem dX3_bestTilt_7 : decode cX3_bestTilt 7 = .ok (.invokevirtual 67, 3) := dk_182 0 67 (dk_at dksX3_bestTilt_0 7 rfl rfl)
theorem dX3_bestTilt_10 : decode cX3_bestTilt 10 = .ok (.ifCond .ne 9, 3) := dk_154 0 9 (dk_at dksX3_bestTilt_0 10 rfl rfl)
theorem dX3_bestTilt_13 : decode cX3_bestTilt 13 = .ok (.aload_n 0, 1) := dk_42 (dk_at dksX3_bestTilt_0 13 rfl rfl)
theorem dX3_bestTilt_14 : decode cX3_bestTilt 14 = .ok (.iconst 1, 1) := dk_4 (dk_at dksX3_bestTilt_0 14 rfl rfl)
theorem dX3_bestTilt_15 : decode cX3_bestTilt 15 = .ok (.invokevirtual 59, 3) := dk_182 0 59 (dk_at dksX3_bestTilt_0 15 rfl rfl)
theorem dX3_bestTilt_18 : decode cX3_bestTilt 18 = .ok (.ireturn, 1) := dk_172 (dk_at dksX3_bestTilt_0 18 rfl rfl)
theorem dX3_bestTilt_19 : decode cX3_bestTilt 19 = .ok (.aload_n 0, 1) := dk_42 (dk_at dksX3_bestTilt_0 19 rfl rfl)
theorem dX3_bestTilt_20 : decode cX3_bestTilt 20 = .ok (.iload_n 1, 1) := dk_27 (dk_at dksX3_bestTilt_0 20 rfl rfl)
theorem dX3_bestTilt_21 : decode cX3_bestTilt 21 = .ok (.iload_n 2, 1) := dk_28 (dk_at dksX3_bestTilt_0 21 rfl rfl)
theorem dX3_bestTilt_22 : decode cX3_bestTilt 22 = .ok (.invokevirtual 70, 3) := dk_182 0 70 (dk_at dksX3_bestTilt_1 0 rfl rfl)
theorem dX3_bestTilt_25 : decode cX3_bestTilt 25 = .ok (.ifCond .eq 12, 3) := dk_153 0 12 (dk_at dksX3_bestTilt_1 3 rfl rfl)
theorem dX3_bestTilt_28 : decode cX3_bestTilt 28 = .ok (.aload_n 0, 1) := dk_42 (dk_at dksX3_bestTilt_1 6 rfl rfl)
theorem dX3_bestTilt_29 : decode cX3_bestTilt 29 = .ok (.iload_n 1, 1) := dk_27 (dk_at dksX3_bestTilt_1 7 rfl rfl)
theorem dX3_bestTilt_30 : decode cX3_bestTilt 30 = .ok (.iload_n 2, 1) := dk_28 (dk_at dksX3_bestTilt_1 8 rfl rfl)
theorem dX3_bestTilt_31 : decode cX3_bestTilt 31 = .ok (.invokevirtual 101, 3) := dk_182 0 101 (dk_at dksX3_bestTilt_1 9 rfl rfl)
theorem dX3_bestTilt_34 : decode cX3_bestTilt 34 = .ok (.goto 8, 3) := dk_167 0 8 (dk_at dksX3_bestTilt_1 12 rfl rfl)
theorem dX3_bestTilt_37 : decode cX3_bestTilt 37 = .ok (.aload_n 0, 1) := dk_42 (dk_at dksX3_bestTilt_1 15 rfl rfl)
theorem dX3_bestTilt_38 : decode cX3_bestTilt 38 = .ok (.iconst 2, 1) := dk_5 (dk_at dksX3_bestTilt_1 16 rfl rfl)
theorem dX3_bestTilt_39 : decode cX3_bestTilt 39 = .ok (.invokevirtual 59, 3) := dk_182 0 59 (dk_at dksX3_bestTilt_1 17 rfl rfl)
theorem dX3_bestTilt_42 : decode cX3_bestTilt 42 = .ok (.ireturn, 1) := dk_172 (dk_at dksX3_bestTilt_1 20 rfl rfl)
abbrev cX3_best : ByteArray := prog_8_method_25_code
def yX3_best : MethodName := ⟨RX3, "best", "(II)I"⟩
def dkwX3_best_1 : List UInt8 := [182, 0, 98, 164, 0, 6, 21, 4, 62, 132, 4, 1, 167, 255, 226, 29, 172]
abbrev dktX3_best_1 : List UInt8 := dkwX3_best_1 ++ []
def dkwX3_best_0 : List UInt8 := [2, 62, 3, 54, 4, 21, 4, 5, 162, 0, 30, 42, 27, 28, 21, 4, 182, 0, 98, 42, 27, 28, 29]
abbrev dktX3_best_0 : List UInt8 := dkwX3_best_0 ++ dktX3_best_1
theorem dksX3_best_0 : cX3_best.data.toList.drop 0 = dktX3_best_0 := by decide +kernel
theorem dksX3_best_1 : cX3_best.data.toList.drop 23 = dktX3_best_1 := dk_seg dksX3_best_0 23 rfl rfl
theorem dX3_best_0 : decode cX3_best 0 = .ok (.iconst (-1), 1) := dk_2 (dk_at dksX3_best_0 0 rfl rfl)
theorem dX3_best_1 : decode cX3_best 1 = .ok (.istore_n 3, 1) := dk_62 (dk_at dksX3_best_0 1 rfl rfl)
theorem dX3_best_2 : decode cX3_best 2 = .ok (.iconst 0, 1) := dk_3 (dk_at dksX3_best_0 2 rfl rfl)
theorem dX3_best_3 : decode cX3_best 3 = .ok (.istore 4, 2) := dk_54 4 (dk_at dksX3_best_0 3 rfl rfl)
theorem dX3_best_5 : decode cX3_best 5 = .ok (.iload 4, 2) := dk_21 4 (dk_at dksX3_best_0 5 rfl rfl)
theorem dX3_best_7 : decode cX3_best 7 = .ok (.iconst 2, 1) := dk_5 (dk_at dksX3_best_0 7 rfl rfl)
theorem dX3_best_8 : decode cX3_best 8 = .ok (.if_icmp .ge 30, 3) := dk_162 0 30 (dk_at dksX3_best_0 8 rfl rfl)
theorem dX3_best_11 : decode cX3_best 11 = .ok (.aload_n 0, 1) := dk_42 (dk_at dksX3_best_0 11 rfl rfl)
theorem dX3_best_12 : decode cX3_best 12 = .ok (.iload_n 1, 1) := dk_27 (dk_at dksX3_best_0 12 rfl rfl)
theorem dX3_best_13 : decode cX3_best 13 = .ok (.iload_n 2, 1) := dk_28 (dk_at dksX3_best_0 13 rfl rfl)
theorem dX3_best_14 : decode cX3_best 14 = .ok (.iload 4, 2) := dk_21 4 (dk_at dksX3_best_0 14 rfl rfl)
theorem dX3_best_16 : decode cX3_best 16 = .ok (.invokevirtual 98, 3) := dk_182 0 98 (dk_at dksX3_best_0 16 rfl rfl)
theorem dX3_best_19 : decode cX3_best 19 = .ok (.aload_n 0, 1) := dk_42 (dk_at dksX3_best_0 19 rfl rfl)
theorem dX3_best_20 : decode cX3_best 20 = .ok (.iload_n 1, 1) := dk_27 (dk_at dksX3_best_0 20 rfl rfl)
theorem dX3_best_21 : decode cX3_best 21 = .ok (.iload_n 2, 1) := dk_28 (dk_at dksX3_best_0 21 rfl rfl)
theorem dX3_best_22 : decode cX3_best 22 = .ok (.iload_n 3, 1) := dk_29 (dk_at dksX3_best_0 22 rfl rfl)
theorem dX3_best_23 : decode cX3_best 23 = .ok (.invokevirtual 98, 3) := dk_182 0 98 (dk_at dksX3_best_1 0 rfl rfl)
theorem dX3_best_26 : decode cX3_best 26 = .ok (.if_icmp .le 6, 3) := dk_164 0 6 (dk_at dksX3_best_1 3 rfl rfl)
theorem dX3_best_29 : decode cX3_best 29 = .ok (.iload 4, 2) := dk_21 4 (dk_at dksX3_best_1 6 rfl rfl)
theorem dX3_best_31 : decode cX3_best 31 = .ok (.istore_n 3, 1) := dk_62 (dk_at dksX3_best_1 8 rfl rfl)
theorem dX3_best_32 : decode cX3_best 32 = .ok (.iinc 4 1, 3) := dk_132 4 1 (dk_at dksX3_best_1 9 rfl rfl)
theorem dX3_best_35 : decode cX3_best 35 = .ok (.goto (-30), 3) := dk_167 255 226 (dk_at dksX3_best_1 12 rfl rfl)
theorem dX3_best_38 : decode cX3_best 38 = .ok (.iload_n 3, 1) := dk_29 (dk_at dksX3_best_1 15 rfl rfl)
theorem dX3_best_39 : decode cX3_best 39 = .ok (.ireturn, 1) := dk_172 (dk_at dksX3_best_1 16 rfl rfl)
abbrev cX3_cupOf : ByteArray := prog_8_method_24_code
def yX3_cupOf : MethodName := ⟨RX3, "cupOf", "(III)I"⟩
def dkwX3_cupOf_0 : List UInt8 := [42, 180, 0, 9, 16, 9, 27, 104, 42, 27, 28, 29, 182, 0, 95, 96, 46, 172]
abbrev dktX3_cupOf_0 : List UInt8 := dkwX3_cupOf_0 ++ []
theorem dksX3_cupOf_0 : cX3_cupOf.data.toList.drop 0 = dktX3_cupOf_0 := by decide +kernel
theorem dX3_cupOf_0 : decode cX3_cupOf 0 = .ok (.aload_n 0, 1) := dk_42 (dk_at dksX3_cupOf_0 0 rfl rfl)
theorem dX3_cupOf_1 : decode cX3_cupOf 1 = .ok (.getfield 9, 3) := dk_180 0 9 (dk_at dksX3_cupOf_0 1 rfl rfl)
theorem dX3_cupOf_4 : decode cX3_cupOf 4 = .ok (.bipush 9, 2) := dk_16 9 (dk_at dksX3_cupOf_0 4 rfl rfl)
theorem dX3_cupOf_6 : decode cX3_cupOf 6 = .ok (.iload_n 1, 1) := dk_27 (dk_at dksX3_cupOf_0 6 rfl rfl)
theorem dX3_cupOf_7 : decode cX3_cupOf 7 = .ok (.imul, 1) := dk_104 (dk_at dksX3_cupOf_0 7 rfl rfl)
theorem dX3_cupOf_8 : decode cX3_cupOf 8 = .ok (.aload_n 0, 1) := dk_42 (dk_at dksX3_cupOf_0 8 rfl rfl)
theorem dX3_cupOf_9 : decode cX3_cupOf 9 = .ok (.iload_n 1, 1) := dk_27 (dk_at dksX3_cupOf_0 9 rfl rfl)
theorem dX3_cupOf_10 : decode cX3_cupOf 10 = .ok (.iload_n 2, 1) := dk_28 (dk_at dksX3_cupOf_0 10 rfl rfl)
theorem dX3_cupOf_11 : decode cX3_cupOf 11 = .ok (.iload_n 3, 1) := dk_29 (dk_at dksX3_cupOf_0 11 rfl rfl)
theorem dX3_cupOf_12 : decode cX3_cupOf 12 = .ok (.invokevirtual 95, 3) := dk_182 0 95 (dk_at dksX3_cupOf_0 12 rfl rfl)
theorem dX3_cupOf_15 : decode cX3_cupOf 15 = .ok (.iadd, 1) := dk_96 (dk_at dksX3_cupOf_0 15 rfl rfl)
theorem dX3_cupOf_16 : decode cX3_cupOf 16 = .ok (.iaload, 1) := dk_46 (dk_at dksX3_cupOf_0 16 rfl rfl)
theorem dX3_cupOf_17 : decode cX3_cupOf 17 = .ok (.ireturn, 1) := dk_172 (dk_at dksX3_cupOf_0 17 rfl rfl)
abbrev cX3_dead : ByteArray := prog_8_method_27_code
def yX3_dead : MethodName := ⟨RX3, "dead", "(I)I"⟩
def dkwX3_dead_3 : List UInt8 := [167, 255, 234, 132, 3, 1, 167, 255, 215, 42, 27, 4, 182, 0, 45, 28, 184, 0, 104, 100, 172]
abbrev dktX3_dead_3 : List UInt8 := dkwX3_dead_3 ++ []
def dkwX3_dead_2 : List UInt8 := [54, 4, 21, 4, 5, 162, 0, 22, 28, 4, 42, 27, 29, 21, 4, 182, 0, 95, 120, 128, 61, 132, 4, 1]
abbrev dktX3_dead_2 : List UInt8 := dkwX3_dead_2 ++ dktX3_dead_3
def dkwX3_dead_1 : List UInt8 := [154, 0, 9, 42, 5, 182, 0, 59, 172, 3, 61, 3, 62, 29, 42, 27, 4, 182, 0, 45, 162, 0, 37, 2]
abbrev dktX3_dead_1 : List UInt8 := dkwX3_dead_1 ++ dktX3_dead_2
def dkwX3_dead_0 : List UInt8 := [42, 3, 181, 0, 31, 42, 27, 182, 0, 67, 154, 0, 9, 42, 4, 182, 0, 59, 172, 42, 27, 182, 0, 49]
abbrev dktX3_dead_0 : List UInt8 := dkwX3_dead_0 ++ dktX3_dead_1
theorem dksX3_dead_0 : cX3_dead.data.toList.drop 0 = dktX3_dead_0 := by decide +kernel
theorem dksX3_dead_1 : cX3_dead.data.toList.drop 24 = dktX3_dead_1 := dk_seg dksX3_dead_0 24 rfl rfl
theorem dksX3_dead_2 : cX3_dead.data.toList.drop 48 = dktX3_dead_2 := dk_seg dksX3_dead_1 24 rfl rfl
theorem dksX3_dead_3 : cX3_dead.data.toList.drop 72 = dktX3_dead_3 := dk_seg dksX3_dead_2 24 rfl rfl
theorem dX3_dead_0 : decode cX3_dead 0 = .ok (.aload_n 0, 1) := dk_42 (dk_at dksX3_dead_0 0 rfl rfl)
theorem dX3_dead_1 : decode cX3_dead 1 = .ok (.iconst 0, 1) := dk_3 (dk_at dksX3_dead_0 1 rfl rfl)
theorem dX3_dead_2 : decode cX3_dead 2 = .ok (.putfield 31, 3) := dk_181 0 31 (dk_at dksX3_dead_0 2 rfl rfl)
theorem dX3_dead_5 : decode cX3_dead 5 = .ok (.aload_n 0, 1) := dk_42 (dk_at dksX3_dead_0 5 rfl rfl)
theorem dX3_dead_6 : decode cX3_dead 6 = .ok (.iload_n 1, 1) := dk_27 (dk_at dksX3_dead_0 6 rfl rfl)
theorem dX3_dead_7 : decode cX3_dead 7 = .ok (.invokevirtual 67, 3) := dk_182 0 67 (dk_at dksX3_dead_0 7 rfl rfl)
theorem dX3_dead_10 : decode cX3_dead 10 = .ok (.ifCond .ne 9, 3) := dk_154 0 9 (dk_at dksX3_dead_0 10 rfl rfl)
theorem dX3_dead_13 : decode cX3_dead 13 = .ok (.aload_n 0, 1) := dk_42 (dk_at dksX3_dead_0 13 rfl rfl)
theorem dX3_dead_14 : decode cX3_dead 14 = .ok (.iconst 1, 1) := dk_4 (dk_at dksX3_dead_0 14 rfl rfl)
theorem dX3_dead_15 : decode cX3_dead 15 = .ok (.invokevirtual 59, 3) := dk_182 0 59 (dk_at dksX3_dead_0 15 rfl rfl)
theorem dX3_dead_18 : decode cX3_dead 18 = .ok (.ireturn, 1) := dk_172 (dk_at dksX3_dead_0 18 rfl rfl)
theorem dX3_dead_19 : decode cX3_dead 19 = .ok (.aload_n 0, 1) := dk_42 (dk_at dksX3_dead_0 19 rfl rfl)
theorem dX3_dead_20 : decode cX3_dead 20 = .ok (.iload_n 1, 1) := dk_27 (dk_at dksX3_dead_0 20 rfl rfl)
theorem dX3_dead_21 : decode cX3_dead 21 = .ok (.invokevirtual 49, 3) := dk_182 0 49 (dk_at dksX3_dead_0 21 rfl rfl)
theorem dX3_dead_24 : decode cX3_dead 24 = .ok (.ifCond .ne 9, 3) := dk_154 0 9 (dk_at dksX3_dead_1 0 rfl rfl)
theorem dX3_dead_27 : decode cX3_dead 27 = .ok (.aload_n 0, 1) := dk_42 (dk_at dksX3_dead_1 3 rfl rfl)
theorem dX3_dead_28 : decode cX3_dead 28 = .ok (.iconst 2, 1) := dk_5 (dk_at dksX3_dead_1 4 rfl rfl)
theorem dX3_dead_29 : decode cX3_dead 29 = .ok (.invokevirtual 59, 3) := dk_182 0 59 (dk_at dksX3_dead_1 5 rfl rfl)
theorem dX3_dead_32 : decode cX3_dead 32 = .ok (.ireturn, 1) := dk_172 (dk_at dksX3_dead_1 8 rfl rfl)
theorem dX3_dead_33 : decode cX3_dead 33 = .ok (.iconst 0, 1) := dk_3 (dk_at dksX3_dead_1 9 rfl rfl)
theorem dX3_dead_34 : decode cX3_dead 34 = .ok (.istore_n 2, 1) := dk_61 (dk_at dksX3_dead_1 10 rfl rfl)
theorem dX3_dead_35 : decode cX3_dead 35 = .ok (.iconst 0, 1) := dk_3 (dk_at dksX3_dead_1 11 rfl rfl)
theorem dX3_dead_36 : decode cX3_dead 36 = .ok (.istore_n 3, 1) := dk_62 (dk_at dksX3_dead_1 12 rfl rfl)
theorem dX3_dead_37 : decode cX3_dead 37 = .ok (.iload_n 3, 1) := dk_29 (dk_at dksX3_dead_1 13 rfl rfl)
theorem dX3_dead_38 : decode cX3_dead 38 = .ok (.aload_n 0, 1) := dk_42 (dk_at dksX3_dead_1 14 rfl rfl)
theorem dX3_dead_39 : decode cX3_dead 39 = .ok (.iload_n 1, 1) := dk_27 (dk_at dksX3_dead_1 15 rfl rfl)
theorem dX3_dead_40 : decode cX3_dead 40 = .ok (.iconst 1, 1) := dk_4 (dk_at dksX3_dead_1 16 rfl rfl)
theorem dX3_dead_41 : decode cX3_dead 41 = .ok (.invokevirtual 45, 3) := dk_182 0 45 (dk_at dksX3_dead_1 17 rfl rfl)
theorem dX3_dead_44 : decode cX3_dead 44 = .ok (.if_icmp .ge 37, 3) := dk_162 0 37 (dk_at dksX3_dead_1 20 rfl rfl)
theorem dX3_dead_47 : decode cX3_dead 47 = .ok (.iconst (-1), 1) := dk_2 (dk_at dksX3_dead_1 23 rfl rfl)
theorem dX3_dead_48 : decode cX3_dead 48 = .ok (.istore 4, 2) := dk_54 4 (dk_at dksX3_dead_2 0 rfl rfl)
theorem dX3_dead_50 : decode cX3_dead 50 = .ok (.iload 4, 2) := dk_21 4 (dk_at dksX3_dead_2 2 rfl rfl)
theorem dX3_dead_52 : decode cX3_dead 52 = .ok (.iconst 2, 1) := dk_5 (dk_at dksX3_dead_2 4 rfl rfl)
theorem dX3_dead_53 : decode cX3_dead 53 = .ok (.if_icmp .ge 22, 3) := dk_162 0 22 (dk_at dksX3_dead_2 5 rfl rfl)
theorem dX3_dead_56 : decode cX3_dead 56 = .ok (.iload_n 2, 1) := dk_28 (dk_at dksX3_dead_2 8 rfl rfl)
theorem dX3_dead_57 : decode cX3_dead 57 = .ok (.iconst 1, 1) := dk_4 (dk_at dksX3_dead_2 9 rfl rfl)
theorem dX3_dead_58 : decode cX3_dead 58 = .ok (.aload_n 0, 1) := dk_42 (dk_at dksX3_dead_2 10 rfl rfl)
theorem dX3_dead_59 : decode cX3_dead 59 = .ok (.iload_n 1, 1) := dk_27 (dk_at dksX3_dead_2 11 rfl rfl)
theorem dX3_dead_60 : decode cX3_dead 60 = .ok (.iload_n 3, 1) := dk_29 (dk_at dksX3_dead_2 12 rfl rfl)
theorem dX3_dead_61 : decode cX3_dead 61 = .ok (.iload 4, 2) := dk_21 4 (dk_at dksX3_dead_2 13 rfl rfl)
theorem dX3_dead_63 : decode cX3_dead 63 = .ok (.invokevirtual 95, 3) := dk_182 0 95 (dk_at dksX3_dead_2 15 rfl rfl)
theorem dX3_dead_66 : decode cX3_dead 66 = .ok (.ishl, 1) := dk_120 (dk_at dksX3_dead_2 18 rfl rfl)
theorem dX3_dead_67 : decode cX3_dead 67 = .ok (.ior, 1) := dk_128 (dk_at dksX3_dead_2 19 rfl rfl)
theorem dX3_dead_68 : decode cX3_dead 68 = .ok (.istore_n 2, 1) := dk_61 (dk_at dksX3_dead_2 20 rfl rfl)
theorem dX3_dead_69 : decode cX3_dead 69 = .ok (.iinc 4 1, 3) := dk_132 4 1 (dk_at dksX3_dead_2 21 rfl rfl)
theorem dX3_dead_72 : decode cX3_dead 72 = .ok (.goto (-22), 3) := dk_167 255 234 (dk_at dksX3_dead_3 0 rfl rfl)
theorem dX3_dead_75 : decode cX3_dead 75 = .ok (.iinc 3 1, 3) := dk_132 3 1 (dk_at dksX3_dead_3 3 rfl rfl)
theorem dX3_dead_78 : decode cX3_dead 78 = .ok (.goto (-41), 3) := dk_167 255 215 (dk_at dksX3_dead_3 6 rfl rfl)
theorem dX3_dead_81 : decode cX3_dead 81 = .ok (.aload_n 0, 1) := dk_42 (dk_at dksX3_dead_3 9 rfl rfl)
theorem dX3_dead_82 : decode cX3_dead 82 = .ok (.iload_n 1, 1) := dk_27 (dk_at dksX3_dead_3 10 rfl rfl)
theorem dX3_dead_83 : decode cX3_dead 83 = .ok (.iconst 1, 1) := dk_4 (dk_at dksX3_dead_3 11 rfl rfl)
theorem dX3_dead_84 : decode cX3_dead 84 = .ok (.invokevirtual 45, 3) := dk_182 0 45 (dk_at dksX3_dead_3 12 rfl rfl)
theorem dX3_dead_87 : decode cX3_dead 87 = .ok (.iload_n 2, 1) := dk_28 (dk_at dksX3_dead_3 15 rfl rfl)
theorem dX3_dead_88 : decode cX3_dead 88 = .ok (.invokestatic 104, 3) := dk_184 0 104 (dk_at dksX3_dead_3 16 rfl rfl)
theorem dX3_dead_91 : decode cX3_dead 91 = .ok (.isub, 1) := dk_100 (dk_at dksX3_dead_3 19 rfl rfl)
theorem dX3_dead_92 : decode cX3_dead 92 = .ok (.ireturn, 1) := dk_172 (dk_at dksX3_dead_3 20 rfl rfl)
abbrev cX3_ledge : ByteArray := prog_8_method_28_code
def yX3_ledge : MethodName := ⟨RX3, "ledge", "(II)I"⟩
def dkwX3_ledge_2 : List UInt8 := [167, 0, 8, 42, 5, 182, 0, 59, 172]
abbrev dktX3_ledge_2 : List UInt8 := dkwX3_ledge_2 ++ []
def dkwX3_ledge_1 : List UInt8 := [154, 0, 25, 28, 3, 7, 184, 0, 38, 153, 0, 16, 42, 180, 0, 19, 8, 27, 104, 28, 96, 46]
abbrev dktX3_ledge_1 : List UInt8 := dkwX3_ledge_1 ++ dktX3_ledge_2
def dkwX3_ledge_0 : List UInt8 := [42, 3, 181, 0, 31, 42, 27, 182, 0, 67, 154, 0, 9, 42, 4, 182, 0, 59, 172, 42, 27, 182, 0, 49]
abbrev dktX3_ledge_0 : List UInt8 := dkwX3_ledge_0 ++ dktX3_ledge_1
theorem dksX3_ledge_0 : cX3_ledge.data.toList.drop 0 = dktX3_ledge_0 := by decide +kernel
theorem dksX3_ledge_1 : cX3_ledge.data.toList.drop 24 = dktX3_ledge_1 := dk_seg dksX3_ledge_0 24 rfl rfl
theorem dksX3_ledge_2 : cX3_ledge.data.toList.drop 46 = dktX3_ledge_2 := dk_seg dksX3_ledge_1 22 rfl rfl
theorem dX3_ledge_0 : decode cX3_ledge 0 = .ok (.aload_n 0, 1) := dk_42 (dk_at dksX3_ledge_0 0 rfl rfl)
theorem dX3_ledge_1 : decode cX3_ledge 1 = .ok (.iconst 0, 1) := dk_3 (dk_at dksX3_ledge_0 1 rfl rfl)
theorem dX3_ledge_2 : decode cX3_ledge 2 = .ok (.putfield 31, 3) := dk_181 0 31 (dk_at dksX3_ledge_0 2 rfl rfl)
theorem dX3_ledge_5 : decode cX3_ledge 5 = .ok (.aload_n 0, 1) := dk_42 (dk_at dksX3_ledge_0 5 rfl rfl)
theorem dX3_ledge_6 : decode cX3_ledge 6 = .ok (.iload_n 1, 1) := dk_27 (dk_at dksX3_ledge_0 6 rfl rfl)
theorem dX3_ledge_7 : decode cX3_ledge 7 = .ok (.invokevirtual 67, 3) := dk_182 0 67 (dk_at dksX3_ledge_0 7 rfl rfl)
theorem dX3_ledge_10 : decode cX3_ledge 10 = .ok (.ifCond .ne 9, 3) := dk_154 0 9 (dk_at dksX3_ledge_0 10 rfl rfl)
theorem dX3_ledge_13 : decode cX3_ledge 13 = .ok (.aload_n 0, 1) := dk_42 (dk_at dksX3_ledge_0 13 rfl rfl)
theorem dX3_ledge_14 : decode cX3_ledge 14 = .ok (.iconst 1, 1) := dk_4 (dk_at dksX3_ledge_0 14 rfl rfl)
theorem dX3_ledge_15 : decode cX3_ledge 15 = .ok (.invokevirtual 59, 3) := dk_182 0 59 (dk_at dksX3_ledge_0 15 rfl rfl)
theorem dX3_ledge_18 : decode cX3_ledge 18 = .ok (.ireturn, 1) := dk_172 (dk_at dksX3_ledge_0 18 rfl rfl)
theorem dX3_ledge_19 : decode cX3_ledge 19 = .ok (.aload_n 0, 1) := dk_42 (dk_at dksX3_ledge_0 19 rfl rfl)
theorem dX3_ledge_20 : decode cX3_ledge 20 = .ok (.iload_n 1, 1) := dk_27 (dk_at dksX3_ledge_0 20 rfl rfl)
theorem dX3_ledge_21 : decode cX3_ledge 21 = .ok (.invokevirtual 49, 3) := dk_182 0 49 (dk_at dksX3_ledge_0 21 rfl rfl)
theorem dX3_ledge_24 : decode cX3_ledge 24 = .ok (.ifCond .ne 25, 3) := dk_154 0 25 (dk_at dksX3_ledge_1 0 rfl rfl)
theorem dX3_ledge_27 : decode cX3_ledge 27 = .ok (.iload_n 2, 1) := dk_28 (dk_at dksX3_ledge_1 3 rfl rfl)
theorem dX3_ledge_28 : decode cX3_ledge 28 = .ok (.iconst 0, 1) := dk_3 (dk_at dksX3_ledge_1 4 rfl rfl)
theorem dX3_ledge_29 : decode cX3_ledge 29 = .ok (.iconst 4, 1) := dk_7 (dk_at dksX3_ledge_1 5 rfl rfl)
theorem dX3_ledge_30 : decode cX3_ledge 30 = .ok (.invokestatic 38, 3) := dk_184 0 38 (dk_at dksX3_ledge_1 6 rfl rfl)
theorem dX3_ledge_33 : decode cX3_ledge 33 = .ok (.ifCond .eq 16, 3) := dk_153 0 16 (dk_at dksX3_ledge_1 9 rfl rfl)
theorem dX3_ledge_36 : decode cX3_ledge 36 = .ok (.aload_n 0, 1) := dk_42 (dk_at dksX3_ledge_1 12 rfl rfl)
theorem dX3_ledge_37 : decode cX3_ledge 37 = .ok (.getfield 19, 3) := dk_180 0 19 (dk_at dksX3_ledge_1 13 rfl rfl)
theorem dX3_ledge_40 : decode cX3_ledge 40 = .ok (.iconst 5, 1) := dk_8 (dk_at dksX3_ledge_1 16 rfl rfl)
theorem dX3_ledge_41 : decode cX3_ledge 41 = .ok (.iload_n 1, 1) := dk_27 (dk_at dksX3_ledge_1 17 rfl rfl)
theorem dX3_ledge_42 : decode cX3_ledge 42 = .ok (.imul, 1) := dk_104 (dk_at dksX3_ledge_1 18 rfl rfl)
theorem dX3_ledge_43 : decode cX3_ledge 43 = .ok (.iload_n 2, 1) := dk_28 (dk_at dksX3_ledge_1 19 rfl rfl)
theorem dX3_ledge_44 : decode cX3_ledge 44 = .ok (.iadd, 1) := dk_96 (dk_at dksX3_ledge_1 20 rfl rfl)
theorem dX3_ledge_45 : decode cX3_ledge 45 = .ok (.iaload, 1) := dk_46 (dk_at dksX3_ledge_1 21 rfl rfl)
theorem dX3_ledge_46 : decode cX3_ledge 46 = .ok (.goto 8, 3) := dk_167 0 8 (dk_at dksX3_ledge_2 0 rfl rfl)
theorem dX3_ledge_49 : decode cX3_ledge 49 = .ok (.aload_n 0, 1) := dk_42 (dk_at dksX3_ledge_2 3 rfl rfl)
theorem dX3_ledge_50 : decode cX3_ledge 50 = .ok (.iconst 2, 1) := dk_5 (dk_at dksX3_ledge_2 4 rfl rfl)
theorem dX3_ledge_51 : decode cX3_ledge 51 = .ok (.invokevirtual 59, 3) := dk_182 0 59 (dk_at dksX3_ledge_2 5 rfl rfl)
theorem dX3_ledge_54 : decode cX3_ledge 54 = .ok (.ireturn, 1) := dk_172 (dk_at dksX3_ledge_2 8 rfl rfl)
abbrev cX3_come : ByteArray := prog_8_method_29_code
def yX3_come : MethodName := ⟨RX3, "come", "(II)I"⟩
def dkwX3_come_4 : List UInt8 := [89, 180, 0, 42, 4, 96, 181, 0, 42, 42, 180, 0, 42, 4, 100, 172]
abbrev dktX3_come_4 : List UInt8 := dkwX3_come_4 ++ []
def dkwX3_come_3 : List UInt8 := [89, 8, 3, 79, 78, 45, 3, 42, 180, 0, 22, 16, 6, 42, 180, 0, 42, 104, 16, 6, 184, 0, 53, 42]
abbrev dktX3_come_3 : List UInt8 := dkwX3_come_3 ++ dktX3_come_4
def dkwX3_come_2 : List UInt8 := [16, 6, 188, 10, 89, 3, 27, 79, 89, 4, 28, 79, 89, 5, 2, 79, 89, 6, 3, 79, 89, 7, 3, 79]
abbrev dktX3_come_2 : List UInt8 := dkwX3_come_2 ++ dktX3_come_3
def dkwX3_come_1 : List UInt8 := [154, 0, 9, 42, 4, 182, 0, 59, 172, 42, 180, 0, 42, 16, 10, 160, 0, 9, 42, 5, 182, 0, 59, 172]
abbrev dktX3_come_1 : List UInt8 := dkwX3_come_1 ++ dktX3_come_2
def dkwX3_come_0 : List UInt8 := [42, 3, 181, 0, 31, 27, 3, 17, 1, 244, 184, 0, 38, 153, 0, 13, 28, 4, 16, 9, 184, 0, 38]
abbrev dktX3_come_0 : List UInt8 := dkwX3_come_0 ++ dktX3_come_1
theorem dksX3_come_0 : cX3_come.data.toList.drop 0 = dktX3_come_0 := by decide +kernel
theorem dksX3_come_1 : cX3_come.data.toList.drop 23 = dktX3_come_1 := dk_seg dksX3_come_0 23 rfl rfl
theorem dksX3_come_2 : cX3_come.data.toList.drop 47 = dktX3_come_2 := dk_seg dksX3_come_1 24 rfl rfl
theorem dksX3_come_3 : cX3_come.data.toList.drop 71 = dktX3_come_3 := dk_seg dksX3_come_2 24 rfl rfl
theorem dksX3_come_4 : cX3_come.data.toList.drop 95 = dktX3_come_4 := dk_seg dksX3_come_3 24 rfl rfl
theorem dX3_come_0 : decode cX3_come 0 = .ok (.aload_n 0, 1) := dk_42 (dk_at dksX3_come_0 0 rfl rfl)
theorem dX3_come_1 : decode cX3_come 1 = .ok (.iconst 0, 1) := dk_3 (dk_at dksX3_come_0 1 rfl rfl)
theorem dX3_come_2 : decode cX3_come 2 = .ok (.putfield 31, 3) := dk_181 0 31 (dk_at dksX3_come_0 2 rfl rfl)
theorem dX3_come_5 : decode cX3_come 5 = .ok (.iload_n 1, 1) := dk_27 (dk_at dksX3_come_0 5 rfl rfl)
theorem dX3_come_6 : decode cX3_come 6 = .ok (.iconst 0, 1) := dk_3 (dk_at dksX3_come_0 6 rfl rfl)
theorem dX3_come_7 : decode cX3_come 7 = .ok (.sipush 500, 3) := dk_17 1 244 (dk_at dksX3_come_0 7 rfl rfl)
theorem dX3_come_10 : decode cX3_come 10 = .ok (.invokestatic 38, 3) := dk_184 0 38 (dk_at dksX3_come_0 10 rfl rfl)
theorem dX3_come_13 : decode cX3_come 13 = .ok (.ifCond .eq 13, 3) := dk_153 0 13 (dk_at dksX3_come_0 13 rfl rfl)
theorem dX3_come_16 : decode cX3_come 16 = .ok (.iload_n 2, 1) := dk_28 (dk_at dksX3_come_0 16 rfl rfl)
theorem dX3_come_17 : decode cX3_come 17 = .ok (.iconst 1, 1) := dk_4 (dk_at dksX3_come_0 17 rfl rfl)
theorem dX3_come_18 : decode cX3_come 18 = .ok (.bipush 9, 2) := dk_16 9 (dk_at dksX3_come_0 18 rfl rfl)
theorem dX3_come_20 : decode cX3_come 20 = .ok (.invokestatic 38, 3) := dk_184 0 38 (dk_at dksX3_come_0 20 rfl rfl)
theorem dX3_come_23 : decode cX3_come 23 = .ok (.ifCond .ne 9, 3) := dk_154 0 9 (dk_at dksX3_come_1 0 rfl rfl)
theorem dX3_come_26 : decode cX3_come 26 = .ok (.aload_n 0, 1) := dk_42 (dk_at dksX3_come_1 3 rfl rfl)
theorem dX3_come_27 : decode cX3_come 27 = .ok (.iconst 1, 1) := dk_4 (dk_at dksX3_come_1 4 rfl rfl)
theorem dX3_come_28 : decode cX3_come 28 = .ok (.invokevirtual 59, 3) := dk_182 0 59 (dk_at dksX3_come_1 5 rfl rfl)
theorem dX3_come_31 : decode cX3_come 31 = .ok (.ireturn, 1) := dk_172 (dk_at dksX3_come_1 8 rfl rfl)
theorem dX3_come_32 : decode cX3_come 32 = .ok (.aload_n 0, 1) := dk_42 (dk_at dksX3_come_1 9 rfl rfl)
theorem dX3_come_33 : decode cX3_come 33 = .ok (.getfield 42, 3) := dk_180 0 42 (dk_at dksX3_come_1 10 rfl rfl)
theorem dX3_come_36 : decode cX3_come 36 = .ok (.bipush 10, 2) := dk_16 10 (dk_at dksX3_come_1 13 rfl rfl)
theorem dX3_come_38 : decode cX3_come 38 = .ok (.if_icmp .ne 9, 3) := dk_160 0 9 (dk_at dksX3_come_1 15 rfl rfl)
theorem dX3_come_41 : decode cX3_come 41 = .ok (.aload_n 0, 1) := dk_42 (dk_at dksX3_come_1 18 rfl rfl)
theorem dX3_come_42 : decode cX3_come 42 = .ok (.iconst 2, 1) := dk_5 (dk_at dksX3_come_1 19 rfl rfl)
theorem dX3_come_43 : decode cX3_come 43 = .ok (.invokevirtual 59, 3) := dk_182 0 59 (dk_at dksX3_come_1 20 rfl rfl)
theorem dX3_come_46 : decode cX3_come 46 = .ok (.ireturn, 1) := dk_172 (dk_at dksX3_come_1 23 rfl rfl)
theorem dX3_come_47 : decode cX3_come 47 = .ok (.bipush 6, 2) := dk_16 6 (dk_at dksX3_come_2 0 rfl rfl)
theorem dX3_come_49 : decode cX3_come 49 = .ok (.newarray .int, 2) := dk_188_10 (dk_at dksX3_come_2 2 rfl rfl)
theorem dX3_come_51 : decode cX3_come 51 = .ok (.dup, 1) := dk_89 (dk_at dksX3_come_2 4 rfl rfl)
theorem dX3_come_52 : decode cX3_come 52 = .ok (.iconst 0, 1) := dk_3 (dk_at dksX3_come_2 5 rfl rfl)
theorem dX3_come_53 : decode cX3_come 53 = .ok (.iload_n 1, 1) := dk_27 (dk_at dksX3_come_2 6 rfl rfl)
theorem dX3_come_54 : decode cX3_come 54 = .ok (.iastore, 1) := dk_79 (dk_at dksX3_come_2 7 rfl rfl)
theorem dX3_come_55 : decode cX3_come 55 = .ok (.dup, 1) := dk_89 (dk_at dksX3_come_2 8 rfl rfl)
theorem dX3_come_56 : decode cX3_come 56 = .ok (.iconst 1, 1) := dk_4 (dk_at dksX3_come_2 9 rfl rfl)
theorem dX3_come_57 : decode cX3_come 57 = .ok (.iload_n 2, 1) := dk_28 (dk_at dksX3_come_2 10 rfl rfl)
theorem dX3_come_58 : decode cX3_come 58 = .ok (.iastore, 1) := dk_79 (dk_at dksX3_come_2 11 rfl rfl)
theorem dX3_come_59 : decode cX3_come 59 = .ok (.dup, 1) := dk_89 (dk_at dksX3_come_2 12 rfl rfl)
theorem dX3_come_60 : decode cX3_come 60 = .ok (.iconst 2, 1) := dk_5 (dk_at dksX3_come_2 13 rfl rfl)
theorem dX3_come_61 : decode cX3_come 61 = .ok (.iconst (-1), 1) := dk_2 (dk_at dksX3_come_2 14 rfl rfl)
theorem dX3_come_62 : decode cX3_come 62 = .ok (.iastore, 1) := dk_79 (dk_at dksX3_come_2 15 rfl rfl)
theorem dX3_come_63 : decode cX3_come 63 = .ok (.dup, 1) := dk_89 (dk_at dksX3_come_2 16 rfl rfl)
theorem dX3_come_64 : decode cX3_come 64 = .ok (.iconst 3, 1) := dk_6 (dk_at dksX3_come_2 17 rfl rfl)
theorem dX3_come_65 : decode cX3_come 65 = .ok (.iconst 0, 1) := dk_3 (dk_at dksX3_come_2 18 rfl rfl)
theorem dX3_come_66 : decode cX3_come 66 = .ok (.iastore, 1) := dk_79 (dk_at dksX3_come_2 19 rfl rfl)
theorem dX3_come_67 : decode cX3_come 67 = .ok (.dup, 1) := dk_89 (dk_at dksX3_come_2 20 rfl rfl)
theorem dX3_come_68 : decode cX3_come 68 = .ok (.iconst 4, 1) := dk_7 (dk_at dksX3_come_2 21 rfl rfl)
theorem dX3_come_69 : decode cX3_come 69 = .ok (.iconst 0, 1) := dk_3 (dk_at dksX3_come_2 22 rfl rfl)
theorem dX3_come_70 : decode cX3_come 70 = .ok (.iastore, 1) := dk_79 (dk_at dksX3_come_2 23 rfl rfl)
theorem dX3_come_71 : decode cX3_come 71 = .ok (.dup, 1) := dk_89 (dk_at dksX3_come_3 0 rfl rfl)
theorem dX3_come_72 : decode cX3_come 72 = .ok (.iconst 5, 1) := dk_8 (dk_at dksX3_come_3 1 rfl rfl)
theorem dX3_come_73 : decode cX3_come 73 = .ok (.iconst 0, 1) := dk_3 (dk_at dksX3_come_3 2 rfl rfl)
theorem dX3_come_74 : decode cX3_come 74 = .ok (.iastore, 1) := dk_79 (dk_at dksX3_come_3 3 rfl rfl)
theorem dX3_come_75 : decode cX3_come 75 = .ok (.astore_n 3, 1) := dk_78 (dk_at dksX3_come_3 4 rfl rfl)
theorem dX3_come_76 : decode cX3_come 76 = .ok (.aload_n 3, 1) := dk_45 (dk_at dksX3_come_3 5 rfl rfl)
theorem dX3_come_77 : decode cX3_come 77 = .ok (.iconst 0, 1) := dk_3 (dk_at dksX3_come_3 6 rfl rfl)
theorem dX3_come_78 : decode cX3_come 78 = .ok (.aload_n 0, 1) := dk_42 (dk_at dksX3_come_3 7 rfl rfl)
theorem dX3_come_79 : decode cX3_come 79 = .ok (.getfield 22, 3) := dk_180 0 22 (dk_at dksX3_come_3 8 rfl rfl)
theorem dX3_come_82 : decode cX3_come 82 = .ok (.bipush 6, 2) := dk_16 6 (dk_at dksX3_come_3 11 rfl rfl)
theorem dX3_come_84 : decode cX3_come 84 = .ok (.aload_n 0, 1) := dk_42 (dk_at dksX3_come_3 13 rfl rfl)
theorem dX3_come_85 : decode cX3_come 85 = .ok (.getfield 42, 3) := dk_180 0 42 (dk_at dksX3_come_3 14 rfl rfl)
theorem dX3_come_88 : decode cX3_come 88 = .ok (.imul, 1) := dk_104 (dk_at dksX3_come_3 17 rfl rfl)
theorem dX3_come_89 : decode cX3_come 89 = .ok (.bipush 6, 2) := dk_16 6 (dk_at dksX3_come_3 18 rfl rfl)
theorem dX3_come_91 : decode cX3_come 91 = .ok (.invokestatic 53, 3) := dk_184 0 53 (dk_at dksX3_come_3 20 rfl rfl)
theorem dX3_come_94 : decode cX3_come 94 = .ok (.aload_n 0, 1) := dk_42 (dk_at dksX3_come_3 23 rfl rfl)
theorem dX3_come_95 : decode cX3_come 95 = .ok (.dup, 1) := dk_89 (dk_at dksX3_come_4 0 rfl rfl)
theorem dX3_come_96 : decode cX3_come 96 = .ok (.getfield 42, 3) := dk_180 0 42 (dk_at dksX3_come_4 1 rfl rfl)
theorem dX3_come_99 : decode cX3_come 99 = .ok (.iconst 1, 1) := dk_4 (dk_at dksX3_come_4 4 rfl rfl)
theorem dX3_come_100 : decode cX3_come 100 = .ok (.iadd, 1) := dk_96 (dk_at dksX3_come_4 5 rfl rfl)
theorem dX3_come_101 : decode cX3_come 101 = .ok (.putfield 42, 3) := dk_181 0 42 (dk_at dksX3_come_4 6 rfl rfl)
theorem dX3_come_104 : decode cX3_come 104 = .ok (.aload_n 0, 1) := dk_42 (dk_at dksX3_come_4 9 rfl rfl)
theorem dX3_come_105 : decode cX3_come 105 = .ok (.getfield 42, 3) := dk_180 0 42 (dk_at dksX3_come_4 10 rfl rfl)
theorem dX3_come_108 : decode cX3_come 108 = .ok (.iconst 1, 1) := dk_4 (dk_at dksX3_come_4 13 rfl rfl)
theorem dX3_come_109 : decode cX3_come 109 = .ok (.isub, 1) := dk_100 (dk_at dksX3_come_4 14 rfl rfl)
theorem dX3_come_110 : decode cX3_come 110 = .ok (.ireturn, 1) := dk_172 (dk_at dksX3_come_4 15 rfl rfl)
abbrev cX3_go : ByteArray := prog_8_method_31_code
def yX3_go : MethodName := ⟨RX3, "go", "(II)I"⟩
def dkwX3_go_1 : List UInt8 := [154, 0, 9, 42, 4, 182, 0, 59, 172, 42, 27, 5, 182, 0, 78, 62, 42, 27, 28, 182, 0, 116, 29, 172]
abbrev dktX3_go_1 : List UInt8 := dkwX3_go_1 ++ []
def dkwX3_go_0 : List UInt8 := [42, 3, 181, 0, 31, 42, 27, 182, 0, 113, 153, 0, 16, 28, 2, 159, 0, 17, 42, 28, 182, 0, 67]
abbrev dktX3_go_0 : List UInt8 := dkwX3_go_0 ++ dktX3_go_1
theorem dksX3_go_0 : cX3_go.data.toList.drop 0 = dktX3_go_0 := by decide +kernel
theorem dksX3_go_1 : cX3_go.data.toList.drop 23 = dktX3_go_1 := dk_seg dksX3_go_0 23 rfl rfl
theorem dX3_go_0 : decode cX3_go 0 = .ok (.aload_n 0, 1) := dk_42 (dk_at dksX3_go_0 0 rfl rfl)
theorem dX3_go_1 : decode cX3_go 1 = .ok (.iconst 0, 1) := dk_3 (dk_at dksX3_go_0 1 rfl rfl)
theorem dX3_go_2 : decode cX3_go 2 = .ok (.putfield 31, 3) := dk_181 0 31 (dk_at dksX3_go_0 2 rfl rfl)
theorem dX3_go_5 : decode cX3_go 5 = .ok (.aload_n 0, 1) := dk_42 (dk_at dksX3_go_0 5 rfl rfl)
theorem dX3_go_6 : decode cX3_go 6 = .ok (.iload_n 1, 1) := dk_27 (dk_at dksX3_go_0 6 rfl rfl)
theorem dX3_go_7 : decode cX3_go 7 = .ok (.invokevirtual 113, 3) := dk_182 0 113 (dk_at dksX3_go_0 7 rfl rfl)
theorem dX3_go_10 : decode cX3_go 10 = .ok (.ifCond .eq 16, 3) := dk_153 0 16 (dk_at dksX3_go_0 10 rfl rfl)
theorem dX3_go_13 : decode cX3_go 13 = .ok (.iload_n 2, 1) := dk_28 (dk_at dksX3_go_0 13 rfl rfl)
theorem dX3_go_14 : decode cX3_go 14 = .ok (.iconst (-1), 1) := dk_2 (dk_at dksX3_go_0 14 rfl rfl)
theorem dX3_go_15 : decode cX3_go 15 = .ok (.if_icmp .eq 17, 3) := dk_159 0 17 (dk_at dksX3_go_0 15 rfl rfl)
theorem dX3_go_18 : decode cX3_go 18 = .ok (.aload_n 0, 1) := dk_42 (dk_at dksX3_go_0 18 rfl rfl)
theorem dX3_go_19 : decode cX3_go 19 = .ok (.iload_n 2, 1) := dk_28 (dk_at dksX3_go_0 19 rfl rfl)
theorem dX3_go_20 : decode cX3_go 20 = .ok (.invokevirtual 67, 3) := dk_182 0 67 (dk_at dksX3_go_0 20 rfl rfl)
theorem dX3_go_23 : decode cX3_go 23 = .ok (.ifCond .ne 9, 3) := dk_154 0 9 (dk_at dksX3_go_1 0 rfl rfl)
theorem dX3_go_26 : decode cX3_go 26 = .ok (.aload_n 0, 1) := dk_42 (dk_at dksX3_go_1 3 rfl rfl)
theorem dX3_go_27 : decode cX3_go 27 = .ok (.iconst 1, 1) := dk_4 (dk_at dksX3_go_1 4 rfl rfl)
theorem dX3_go_28 : decode cX3_go 28 = .ok (.invokevirtual 59, 3) := dk_182 0 59 (dk_at dksX3_go_1 5 rfl rfl)
theorem dX3_go_31 : decode cX3_go 31 = .ok (.ireturn, 1) := dk_172 (dk_at dksX3_go_1 8 rfl rfl)
theorem dX3_go_32 : decode cX3_go 32 = .ok (.aload_n 0, 1) := dk_42 (dk_at dksX3_go_1 9 rfl rfl)
theorem dX3_go_33 : decode cX3_go 33 = .ok (.iload_n 1, 1) := dk_27 (dk_at dksX3_go_1 10 rfl rfl)
theorem dX3_go_34 : decode cX3_go 34 = .ok (.iconst 2, 1) := dk_5 (dk_at dksX3_go_1 11 rfl rfl)
theorem dX3_go_35 : decode cX3_go 35 = .ok (.invokevirtual 78, 3) := dk_182 0 78 (dk_at dksX3_go_1 12 rfl rfl)
theorem dX3_go_38 : decode cX3_go 38 = .ok (.istore_n 3, 1) := dk_62 (dk_at dksX3_go_1 15 rfl rfl)
theorem dX3_go_39 : decode cX3_go 39 = .ok (.aload_n 0, 1) := dk_42 (dk_at dksX3_go_1 16 rfl rfl)
theorem dX3_go_40 : decode cX3_go 40 = .ok (.iload_n 1, 1) := dk_27 (dk_at dksX3_go_1 17 rfl rfl)
theorem dX3_go_41 : decode cX3_go 41 = .ok (.iload_n 2, 1) := dk_28 (dk_at dksX3_go_1 18 rfl rfl)
theorem dX3_go_42 : decode cX3_go 42 = .ok (.invokevirtual 116, 3) := dk_182 0 116 (dk_at dksX3_go_1 19 rfl rfl)
theorem dX3_go_45 : decode cX3_go 45 = .ok (.iload_n 3, 1) := dk_29 (dk_at dksX3_go_1 22 rfl rfl)
theorem dX3_go_46 : decode cX3_go 46 = .ok (.ireturn, 1) := dk_172 (dk_at dksX3_go_1 23 rfl rfl)
abbrev cX3_isPlayer : ByteArray := prog_8_method_6_code
def yX3_isPlayer : MethodName := ⟨RX3, "isPlayer", "(I)Z"⟩
def dkwX3_isPlayer_0 : List UInt8 := [27, 3, 42, 180, 0, 42, 4, 100, 184, 0, 38, 172]
abbrev dktX3_isPlayer_0 : List UInt8 := dkwX3_isPlayer_0 ++ []
theorem dksX3_isPlayer_0 : cX3_isPlayer.data.toList.drop 0 = dktX3_isPlayer_0 := by decide +kernel
theorem dX3_isPlayer_0 : decode cX3_isPlayer 0 = .ok (.iload_n 1, 1) := dk_27 (dk_at dksX3_isPlayer_0 0 rfl rfl)
theorem dX3_isPlayer_1 : decode cX3_isPlayer 1 = .ok (.iconst 0, 1) := dk_3 (dk_at dksX3_isPlayer_0 1 rfl rfl)
theorem dX3_isPlayer_2 : decode cX3_isPlayer 2 = .ok (.aload_n 0, 1) := dk_42 (dk_at dksX3_isPlayer_0 2 rfl rfl)
theorem dX3_isPlayer_3 : decode cX3_isPlayer 3 = .ok (.getfield 42, 3) := dk_180 0 42 (dk_at dksX3_isPlayer_0 3 rfl rfl)
theorem dX3_isPlayer_6 : decode cX3_isPlayer 6 = .ok (.iconst 1, 1) := dk_4 (dk_at dksX3_isPlayer_0 6 rfl rfl)
theorem dX3_isPlayer_7 : decode cX3_isPlayer 7 = .ok (.isub, 1) := dk_100 (dk_at dksX3_isPlayer_0 7 rfl rfl)
theorem dX3_isPlayer_8 : decode cX3_isPlayer 8 = .ok (.invokestatic 38, 3) := dk_184 0 38 (dk_at dksX3_isPlayer_0 8 rfl rfl)
theorem dX3_isPlayer_11 : decode cX3_isPlayer 11 = .ok (.ireturn, 1) := dk_172 (dk_at dksX3_isPlayer_0 11 rfl rfl)
abbrev cX3_to : ByteArray := prog_8_method_30_code
def yX3_to : MethodName := ⟨RX3, "to", "(II)V"⟩
def dkwX3_to_0 : List UInt8 := [42, 27, 5, 28, 182, 0, 109, 42, 27, 6, 3, 182, 0, 109, 177]
abbrev dktX3_to_0 : List UInt8 := dkwX3_to_0 ++ []
theorem dksX3_to_0 : cX3_to.data.toList.drop 0 = dktX3_to_0 := by decide +kernel
theorem dX3_to_0 : decode cX3_to 0 = .ok (.aload_n 0, 1) := dk_42 (dk_at dksX3_to_0 0 rfl rfl)
theorem dX3_to_1 : decode cX3_to 1 = .ok (.iload_n 1, 1) := dk_27 (dk_at dksX3_to_0 1 rfl rfl)
theorem dX3_to_2 : decode cX3_to 2 = .ok (.iconst 2, 1) := dk_5 (dk_at dksX3_to_0 2 rfl rfl)
theorem dX3_to_3 : decode cX3_to 3 = .ok (.iload_n 2, 1) := dk_28 (dk_at dksX3_to_0 3 rfl rfl)
theorem dX3_to_4 : decode cX3_to 4 = .ok (.invokevirtual 109, 3) := dk_182 0 109 (dk_at dksX3_to_0 4 rfl rfl)
theorem dX3_to_7 : decode cX3_to 7 = .ok (.aload_n 0, 1) := dk_42 (dk_at dksX3_to_0 7 rfl rfl)
theorem dX3_to_8 : decode cX3_to 8 = .ok (.iload_n 1, 1) := dk_27 (dk_at dksX3_to_0 8 rfl rfl)
theorem dX3_to_9 : decode cX3_to 9 = .ok (.iconst 3, 1) := dk_6 (dk_at dksX3_to_0 9 rfl rfl)
theorem dX3_to_10 : decode cX3_to 10 = .ok (.iconst 0, 1) := dk_3 (dk_at dksX3_to_0 10 rfl rfl)
theorem dX3_to_11 : decode cX3_to 11 = .ok (.invokevirtual 109, 3) := dk_182 0 109 (dk_at dksX3_to_0 11 rfl rfl)
theorem dX3_to_14 : decode cX3_to 14 = .ok (.return_, 1) := dk_177 (dk_at dksX3_to_0 14 rfl rfl)
abbrev cX3_setPl : ByteArray := prog_8_method_10_code
def yX3_setPl : MethodName := ⟨RX3, "setPl", "(III)V"⟩
def dkwX3_setPl_0 : List UInt8 := [42, 180, 0, 22, 16, 6, 27, 104, 28, 96, 29, 79, 177]
abbrev dktX3_setPl_0 : List UInt8 := dkwX3_setPl_0 ++ []
theorem dksX3_setPl_0 : cX3_setPl.data.toList.drop 0 = dktX3_setPl_0 := by decide +kernel
theorem dX3_setPl_0 : decode cX3_setPl 0 = .ok (.aload_n 0, 1) := dk_42 (dk_at dksX3_setPl_0 0 rfl rfl)
theorem dX3_setPl_1 : decode cX3_setPl 1 = .ok (.getfield 22, 3) := dk_180 0 22 (dk_at dksX3_setPl_0 1 rfl rfl)
theorem dX3_setPl_4 : decode cX3_setPl 4 = .ok (.bipush 6, 2) := dk_16 6 (dk_at dksX3_setPl_0 4 rfl rfl)
theorem dX3_setPl_6 : decode cX3_setPl 6 = .ok (.iload_n 1, 1) := dk_27 (dk_at dksX3_setPl_0 6 rfl rfl)
theorem dX3_setPl_7 : decode cX3_setPl 7 = .ok (.imul, 1) := dk_104 (dk_at dksX3_setPl_0 7 rfl rfl)
theorem dX3_setPl_8 : decode cX3_setPl 8 = .ok (.iload_n 2, 1) := dk_28 (dk_at dksX3_setPl_0 8 rfl rfl)
theorem dX3_setPl_9 : decode cX3_setPl 9 = .ok (.iadd, 1) := dk_96 (dk_at dksX3_setPl_0 9 rfl rfl)
theorem dX3_setPl_10 : decode cX3_setPl 10 = .ok (.iload_n 3, 1) := dk_29 (dk_at dksX3_setPl_0 10 rfl rfl)
theorem dX3_setPl_11 : decode cX3_setPl 11 = .ok (.iastore, 1) := dk_79 (dk_at dksX3_setPl_0 11 rfl rfl)
theorem dX3_setPl_12 : decode cX3_setPl 12 = .ok (.return_, 1) := dk_177 (dk_at dksX3_setPl_0 12 rfl rfl)
abbrev cX3_play : ByteArray := prog_8_method_35_code
def yX3_play : MethodName := ⟨RX3, "play", "(IIII)I"⟩
def dkwX3_play_3 : List UInt8 := [182, 0, 78, 158, 0, 15, 42, 27, 28, 29, 21, 4, 182, 0, 129, 167, 0, 8, 42, 6, 182, 0, 59, 172]
abbrev dktX3_play_3 : List UInt8 := dkwX3_play_3 ++ []
def dkwX3_play_2 : List UInt8 := [4, 184, 0, 38, 154, 0, 9, 42, 5, 182, 0, 59, 172, 42, 28, 182, 0, 126, 153, 0, 24, 42, 27, 3]
abbrev dktX3_play_2 : List UInt8 := dkwX3_play_2 ++ dktX3_play_3
def dkwX3_play_1 : List UInt8 := [182, 0, 59, 172, 42, 28, 182, 0, 49, 153, 0, 28, 42, 28, 29, 182, 0, 70, 153, 0, 13, 21, 4, 2]
abbrev dktX3_play_1 : List UInt8 := dkwX3_play_1 ++ dktX3_play_2
def dkwX3_play_0 : List UInt8 := [42, 3, 181, 0, 31, 42, 27, 182, 0, 113, 153, 0, 11, 42, 28, 182, 0, 67, 154, 0, 9, 42, 4]
abbrev dktX3_play_0 : List UInt8 := dkwX3_play_0 ++ dktX3_play_1
theorem dksX3_play_0 : cX3_play.data.toList.drop 0 = dktX3_play_0 := by decide +kernel
theorem dksX3_play_1 : cX3_play.data.toList.drop 23 = dktX3_play_1 := dk_seg dksX3_play_0 23 rfl rfl
theorem dksX3_play_2 : cX3_play.data.toList.drop 47 = dktX3_play_2 := dk_seg dksX3_play_1 24 rfl rfl
theorem dksX3_play_3 : cX3_play.data.toList.drop 71 = dktX3_play_3 := dk_seg dksX3_play_2 24 rfl rfl
theorem dX3_play_0 : decode cX3_play 0 = .ok (.aload_n 0, 1) := dk_42 (dk_at dksX3_play_0 0 rfl rfl)
theorem dX3_play_1 : decode cX3_play 1 = .ok (.iconst 0, 1) := dk_3 (dk_at dksX3_play_0 1 rfl rfl)
theorem dX3_play_2 : decode cX3_play 2 = .ok (.putfield 31, 3) := dk_181 0 31 (dk_at dksX3_play_0 2 rfl rfl)
theorem dX3_play_5 : decode cX3_play 5 = .ok (.aload_n 0, 1) := dk_42 (dk_at dksX3_play_0 5 rfl rfl)
theorem dX3_play_6 : decode cX3_play 6 = .ok (.iload_n 1, 1) := dk_27 (dk_at dksX3_play_0 6 rfl rfl)
theorem dX3_play_7 : decode cX3_play 7 = .ok (.invokevirtual 113, 3) := dk_182 0 113 (dk_at dksX3_play_0 7 rfl rfl)
theorem dX3_play_10 : decode cX3_play 10 = .ok (.ifCond .eq 11, 3) := dk_153 0 11 (dk_at dksX3_play_0 10 rfl rfl)
theorem dX3_play_13 : decode cX3_play 13 = .ok (.aload_n 0, 1) := dk_42 (dk_at dksX3_play_0 13 rfl rfl)
theorem dX3_play_14 : decode cX3_play 14 = .ok (.iload_n 2, 1) := dk_28 (dk_at dksX3_play_0 14 rfl rfl)
theorem dX3_play_15 : decode cX3_play 15 = .ok (.invokevirtual 67, 3) := dk_182 0 67 (dk_at dksX3_play_0 15 rfl rfl)
theorem dX3_play_18 : decode cX3_play 18 = .ok (.ifCond .ne 9, 3) := dk_154 0 9 (dk_at dksX3_play_0 18 rfl rfl)
theorem dX3_play_21 : decode cX3_play 21 = .ok (.aload_n 0, 1) := dk_42 (dk_at dksX3_play_0 21 rfl rfl)
theorem dX3_play_22 : decode cX3_play 22 = .ok (.iconst 1, 1) := dk_4 (dk_at dksX3_play_0 22 rfl rfl)
theorem dX3_play_23 : decode cX3_play 23 = .ok (.invokevirtual 59, 3) := dk_182 0 59 (dk_at dksX3_play_1 0 rfl rfl)
theorem dX3_play_26 : decode cX3_play 26 = .ok (.ireturn, 1) := dk_172 (dk_at dksX3_play_1 3 rfl rfl)
theorem dX3_play_27 : decode cX3_play 27 = .ok (.aload_n 0, 1) := dk_42 (dk_at dksX3_play_1 4 rfl rfl)
theorem dX3_play_28 : decode cX3_play 28 = .ok (.iload_n 2, 1) := dk_28 (dk_at dksX3_play_1 5 rfl rfl)
theorem dX3_play_29 : decode cX3_play 29 = .ok (.invokevirtual 49, 3) := dk_182 0 49 (dk_at dksX3_play_1 6 rfl rfl)
theorem dX3_play_32 : decode cX3_play 32 = .ok (.ifCond .eq 28, 3) := dk_153 0 28 (dk_at dksX3_play_1 9 rfl rfl)
theorem dX3_play_35 : decode cX3_play 35 = .ok (.aload_n 0, 1) := dk_42 (dk_at dksX3_play_1 12 rfl rfl)
theorem dX3_play_36 : decode cX3_play 36 = .ok (.iload_n 2, 1) := dk_28 (dk_at dksX3_play_1 13 rfl rfl)
theorem dX3_play_37 : decode cX3_play 37 = .ok (.iload_n 3, 1) := dk_29 (dk_at dksX3_play_1 14 rfl rfl)
theorem dX3_play_38 : decode cX3_play 38 = .ok (.invokevirtual 70, 3) := dk_182 0 70 (dk_at dksX3_play_1 15 rfl rfl)
theorem dX3_play_41 : decode cX3_play 41 = .ok (.ifCond .eq 13, 3) := dk_153 0 13 (dk_at dksX3_play_1 18 rfl rfl)
theorem dX3_play_44 : decode cX3_play 44 = .ok (.iload 4, 2) := dk_21 4 (dk_at dksX3_play_1 21 rfl rfl)
theorem dX3_play_46 : decode cX3_play 46 = .ok (.iconst (-1), 1) := dk_2 (dk_at dksX3_play_1 23 rfl rfl)
theorem dX3_play_47 : decode cX3_play 47 = .ok (.iconst 1, 1) := dk_4 (dk_at dksX3_play_2 0 rfl rfl)
theorem dX3_play_48 : decode cX3_play 48 = .ok (.invokestatic 38, 3) := dk_184 0 38 (dk_at dksX3_play_2 1 rfl rfl)
theorem dX3_play_51 : decode cX3_play 51 = .ok (.ifCond .ne 9, 3) := dk_154 0 9 (dk_at dksX3_play_2 4 rfl rfl)
theorem dX3_play_54 : decode cX3_play 54 = .ok (.aload_n 0, 1) := dk_42 (dk_at dksX3_play_2 7 rfl rfl)
theorem dX3_play_55 : decode cX3_play 55 = .ok (.iconst 2, 1) := dk_5 (dk_at dksX3_play_2 8 rfl rfl)
theorem dX3_play_56 : decode cX3_play 56 = .ok (.invokevirtual 59, 3) := dk_182 0 59 (dk_at dksX3_play_2 9 rfl rfl)
theorem dX3_play_59 : decode cX3_play 59 = .ok (.ireturn, 1) := dk_172 (dk_at dksX3_play_2 12 rfl rfl)
theorem dX3_play_60 : decode cX3_play 60 = .ok (.aload_n 0, 1) := dk_42 (dk_at dksX3_play_2 13 rfl rfl)
theorem dX3_play_61 : decode cX3_play 61 = .ok (.iload_n 2, 1) := dk_28 (dk_at dksX3_play_2 14 rfl rfl)
theorem dX3_play_62 : decode cX3_play 62 = .ok (.invokevirtual 126, 3) := dk_182 0 126 (dk_at dksX3_play_2 15 rfl rfl)
theorem dX3_play_65 : decode cX3_play 65 = .ok (.ifCond .eq 24, 3) := dk_153 0 24 (dk_at dksX3_play_2 18 rfl rfl)
theorem dX3_play_68 : decode cX3_play 68 = .ok (.aload_n 0, 1) := dk_42 (dk_at dksX3_play_2 21 rfl rfl)
theorem dX3_play_69 : decode cX3_play 69 = .ok (.iload_n 1, 1) := dk_27 (dk_at dksX3_play_2 22 rfl rfl)
theorem dX3_play_70 : decode cX3_play 70 = .ok (.iconst 0, 1) := dk_3 (dk_at dksX3_play_2 23 rfl rfl)
theorem dX3_play_71 : decode cX3_play 71 = .ok (.invokevirtual 78, 3) := dk_182 0 78 (dk_at dksX3_play_3 0 rfl rfl)
theorem dX3_play_74 : decode cX3_play 74 = .ok (.ifCond .le 15, 3) := dk_158 0 15 (dk_at dksX3_play_3 3 rfl rfl)
theorem dX3_play_77 : decode cX3_play 77 = .ok (.aload_n 0, 1) := dk_42 (dk_at dksX3_play_3 6 rfl rfl)
theorem dX3_play_78 : decode cX3_play 78 = .ok (.iload_n 1, 1) := dk_27 (dk_at dksX3_play_3 7 rfl rfl)
theorem dX3_play_79 : decode cX3_play 79 = .ok (.iload_n 2, 1) := dk_28 (dk_at dksX3_play_3 8 rfl rfl)
theorem dX3_play_80 : decode cX3_play 80 = .ok (.iload_n 3, 1) := dk_29 (dk_at dksX3_play_3 9 rfl rfl)
theorem dX3_play_81 : decode cX3_play 81 = .ok (.iload 4, 2) := dk_21 4 (dk_at dksX3_play_3 10 rfl rfl)
theorem dX3_play_83 : decode cX3_play 83 = .ok (.invokevirtual 129, 3) := dk_182 0 129 (dk_at dksX3_play_3 12 rfl rfl)
theorem dX3_play_86 : decode cX3_play 86 = .ok (.goto 8, 3) := dk_167 0 8 (dk_at dksX3_play_3 15 rfl rfl)
theorem dX3_play_89 : decode cX3_play 89 = .ok (.aload_n 0, 1) := dk_42 (dk_at dksX3_play_3 18 rfl rfl)
theorem dX3_play_90 : decode cX3_play 90 = .ok (.iconst 3, 1) := dk_6 (dk_at dksX3_play_3 19 rfl rfl)
theorem dX3_play_91 : decode cX3_play 91 = .ok (.invokevirtual 59, 3) := dk_182 0 59 (dk_at dksX3_play_3 20 rfl rfl)
theorem dX3_play_94 : decode cX3_play 94 = .ok (.ireturn, 1) := dk_172 (dk_at dksX3_play_3 23 rfl rfl)
abbrev cX3_works : ByteArray := prog_8_method_32_code
def yX3_works : MethodName := ⟨RX3, "works", "(I)Z"⟩
def dkwX3_works_0 : List UInt8 := [42, 27, 16, 6, 182, 0, 45, 154, 0, 7, 4, 167, 0, 4, 3, 172]
abbrev dktX3_works_0 : List UInt8 := dkwX3_works_0 ++ []
theorem dksX3_works_0 : cX3_works.data.toList.drop 0 = dktX3_works_0 := by decide +kernel
theorem dX3_works_0 : decode cX3_works 0 = .ok (.aload_n 0, 1) := dk_42 (dk_at dksX3_works_0 0 rfl rfl)
theorem dX3_works_1 : decode cX3_works 1 = .ok (.iload_n 1, 1) := dk_27 (dk_at dksX3_works_0 1 rfl rfl)
theorem dX3_works_2 : decode cX3_works 2 = .ok (.bipush 6, 2) := dk_16 6 (dk_at dksX3_works_0 2 rfl rfl)
theorem dX3_works_4 : decode cX3_works 4 = .ok (.invokevirtual 45, 3) := dk_182 0 45 (dk_at dksX3_works_0 4 rfl rfl)
theorem dX3_works_7 : decode cX3_works 7 = .ok (.ifCond .ne 7, 3) := dk_154 0 7 (dk_at dksX3_works_0 7 rfl rfl)
theorem dX3_works_10 : decode cX3_works 10 = .ok (.iconst 1, 1) := dk_4 (dk_at dksX3_works_0 10 rfl rfl)
theorem dX3_works_11 : decode cX3_works 11 = .ok (.goto 4, 3) := dk_167 0 4 (dk_at dksX3_works_0 11 rfl rfl)
theorem dX3_works_14 : decode cX3_works 14 = .ok (.iconst 0, 1) := dk_3 (dk_at dksX3_works_0 14 rfl rfl)
theorem dX3_works_15 : decode cX3_works 15 = .ok (.ireturn, 1) := dk_172 (dk_at dksX3_works_0 15 rfl rfl)
abbrev cX3_playAt : ByteArray := prog_8_method_34_code
def yX3_playAt : MethodName := ⟨RX3, "playAt", "(IIII)I"⟩
def dkwX3_playAt_8 : List UInt8 := [16, 6, 4, 182, 0, 120, 21, 5, 172]
abbrev dktX3_playAt_8 : List UInt8 := dkwX3_playAt_8 ++ []
def dkwX3_playAt_7 : List UInt8 := [8, 182, 0, 45, 16, 20, 161, 0, 23, 42, 28, 8, 182, 0, 45, 16, 10, 112, 154, 0, 11, 42, 28]
abbrev dktX3_playAt_7 : List UInt8 := dkwX3_playAt_7 ++ dktX3_playAt_8
def dkwX3_playAt_6 : List UInt8 := [182, 0, 109, 42, 28, 8, 16, 100, 42, 28, 8, 182, 0, 45, 4, 96, 184, 0, 87, 182, 0, 120, 42, 28]
abbrev dktX3_playAt_6 : List UInt8 := dkwX3_playAt_6 ++ dktX3_playAt_7
def dkwX3_playAt_5 : List UInt8 := [42, 27, 7, 182, 0, 78, 4, 96, 182, 0, 109, 42, 27, 8, 42, 27, 8, 182, 0, 78, 21, 5, 96]
abbrev dktX3_playAt_5 : List UInt8 := dkwX3_playAt_5 ++ dktX3_playAt_6
def dkwX3_playAt_4 : List UInt8 := [96, 182, 0, 120, 42, 27, 3, 42, 27, 3, 182, 0, 78, 4, 100, 21, 5, 96, 182, 0, 109, 42, 27, 7]
abbrev dktX3_playAt_4 : List UInt8 := dkwX3_playAt_4 ++ dktX3_playAt_5
def dkwX3_playAt_3 : List UInt8 := [28, 16, 7, 182, 0, 45, 4, 96, 182, 0, 120, 42, 28, 16, 8, 42, 28, 16, 8, 182, 0, 45, 21, 5]
abbrev dktX3_playAt_3 : List UInt8 := dkwX3_playAt_3 ++ dktX3_playAt_4
def dkwX3_playAt_2 : List UInt8 := [182, 0, 45, 21, 5, 100, 182, 0, 120, 167, 0, 10, 42, 28, 182, 0, 123, 54, 5, 42, 28, 16, 7, 42]
abbrev dktX3_playAt_2 : List UInt8 := dkwX3_playAt_2 ++ dktX3_playAt_3
def dkwX3_playAt_1 : List UInt8 := [7, 182, 0, 45, 42, 28, 29, 21, 4, 182, 0, 98, 184, 0, 87, 54, 5, 42, 28, 7, 42, 28, 7]
abbrev dktX3_playAt_1 : List UInt8 := dkwX3_playAt_1 ++ dktX3_playAt_2
def dkwX3_playAt_0 : List UInt8 := [42, 28, 182, 0, 49, 153, 0, 54, 42, 28, 7, 42, 28, 7, 182, 0, 45, 4, 96, 182, 0, 120, 42, 28]
abbrev dktX3_playAt_0 : List UInt8 := dkwX3_playAt_0 ++ dktX3_playAt_1
theorem dksX3_playAt_0 : cX3_playAt.data.toList.drop 0 = dktX3_playAt_0 := by decide +kernel
theorem dksX3_playAt_1 : cX3_playAt.data.toList.drop 24 = dktX3_playAt_1 := dk_seg dksX3_playAt_0 24 rfl rfl
theorem dksX3_playAt_2 : cX3_playAt.data.toList.drop 47 = dktX3_playAt_2 := dk_seg dksX3_playAt_1 23 rfl rfl
theorem dksX3_playAt_3 : cX3_playAt.data.toList.drop 71 = dktX3_playAt_3 := dk_seg dksX3_playAt_2 24 rfl rfl
theorem dksX3_playAt_4 : cX3_playAt.data.toList.drop 95 = dktX3_playAt_4 := dk_seg dksX3_playAt_3 24 rfl rfl
theorem dksX3_playAt_5 : cX3_playAt.data.toList.drop 119 = dktX3_playAt_5 := dk_seg dksX3_playAt_4 24 rfl rfl
theorem dksX3_playAt_6 : cX3_playAt.data.toList.drop 142 = dktX3_playAt_6 := dk_seg dksX3_playAt_5 23 rfl rfl
theorem dksX3_playAt_7 : cX3_playAt.data.toList.drop 166 = dktX3_playAt_7 := dk_seg dksX3_playAt_6 24 rfl rfl
theorem dksX3_playAt_8 : cX3_playAt.data.toList.drop 189 = dktX3_playAt_8 := dk_seg dksX3_playAt_7 23 rfl rfl
theorem dX3_playAt_0 : decode cX3_playAt 0 = .ok (.aload_n 0, 1) := dk_42 (dk_at dksX3_playAt_0 0 rfl rfl)
theorem dX3_playAt_1 : decode cX3_playAt 1 = .ok (.iload_n 2, 1) := dk_28 (dk_at dksX3_playAt_0 1 rfl rfl)
theorem dX3_playAt_2 : decode cX3_playAt 2 = .ok (.invokevirtual 49, 3) := dk_182 0 49 (dk_at dksX3_playAt_0 2 rfl rfl)
theorem dX3_playAt_5 : decode cX3_playAt 5 = .ok (.ifCond .eq 54, 3) := dk_153 0 54 (dk_at dksX3_playAt_0 5 rfl rfl)
theorem dX3_playAt_8 : decode cX3_playAt 8 = .ok (.aload_n 0, 1) := dk_42 (dk_at dksX3_playAt_0 8 rfl rfl)
theorem dX3_playAt_9 : decode cX3_playAt 9 = .ok (.iload_n 2, 1) := dk_28 (dk_at dksX3_playAt_0 9 rfl rfl)
theorem dX3_playAt_10 : decode cX3_playAt 10 = .ok (.iconst 4, 1) := dk_7 (dk_at dksX3_playAt_0 10 rfl rfl)
theorem dX3_playAt_11 : decode cX3_playAt 11 = .ok (.aload_n 0, 1) := dk_42 (dk_at dksX3_playAt_0 11 rfl rfl)
theorem dX3_playAt_12 : decode cX3_playAt 12 = .ok (.iload_n 2, 1) := dk_28 (dk_at dksX3_playAt_0 12 rfl rfl)
theorem dX3_playAt_13 : decode cX3_playAt 13 = .ok (.iconst 4, 1) := dk_7 (dk_at dksX3_playAt_0 13 rfl rfl)
theorem dX3_playAt_14 : decode cX3_playAt 14 = .ok (.invokevirtual 45, 3) := dk_182 0 45 (dk_at dksX3_playAt_0 14 rfl rfl)
theorem dX3_playAt_17 : decode cX3_playAt 17 = .ok (.iconst 1, 1) := dk_4 (dk_at dksX3_playAt_0 17 rfl rfl)
theorem dX3_playAt_18 : decode cX3_playAt 18 = .ok (.iadd, 1) := dk_96 (dk_at dksX3_playAt_0 18 rfl rfl)
theorem dX3_playAt_19 : decode cX3_playAt 19 = .ok (.invokevirtual 120, 3) := dk_182 0 120 (dk_at dksX3_playAt_0 19 rfl rfl)
theorem dX3_playAt_22 : decode cX3_playAt 22 = .ok (.aload_n 0, 1) := dk_42 (dk_at dksX3_playAt_0 22 rfl rfl)
theorem dX3_playAt_23 : decode cX3_playAt 23 = .ok (.iload_n 2, 1) := dk_28 (dk_at dksX3_playAt_0 23 rfl rfl)
theorem dX3_playAt_24 : decode cX3_playAt 24 = .ok (.iconst 4, 1) := dk_7 (dk_at dksX3_playAt_1 0 rfl rfl)
theorem dX3_playAt_25 : decode cX3_playAt 25 = .ok (.invokevirtual 45, 3) := dk_182 0 45 (dk_at dksX3_playAt_1 1 rfl rfl)
theorem dX3_playAt_28 : decode cX3_playAt 28 = .ok (.aload_n 0, 1) := dk_42 (dk_at dksX3_playAt_1 4 rfl rfl)
theorem dX3_playAt_29 : decode cX3_playAt 29 = .ok (.iload_n 2, 1) := dk_28 (dk_at dksX3_playAt_1 5 rfl rfl)
theorem dX3_playAt_30 : decode cX3_playAt 30 = .ok (.iload_n 3, 1) := dk_29 (dk_at dksX3_playAt_1 6 rfl rfl)
theorem dX3_playAt_31 : decode cX3_playAt 31 = .ok (.iload 4, 2) := dk_21 4 (dk_at dksX3_playAt_1 7 rfl rfl)
theorem dX3_playAt_33 : decode cX3_playAt 33 = .ok (.invokevirtual 98, 3) := dk_182 0 98 (dk_at dksX3_playAt_1 9 rfl rfl)
theorem dX3_playAt_36 : decode cX3_playAt 36 = .ok (.invokestatic 87, 3) := dk_184 0 87 (dk_at dksX3_playAt_1 12 rfl rfl)
theorem dX3_playAt_39 : decode cX3_playAt 39 = .ok (.istore 5, 2) := dk_54 5 (dk_at dksX3_playAt_1 15 rfl rfl)
theorem dX3_playAt_41 : decode cX3_playAt 41 = .ok (.aload_n 0, 1) := dk_42 (dk_at dksX3_playAt_1 17 rfl rfl)
theorem dX3_playAt_42 : decode cX3_playAt 42 = .ok (.iload_n 2, 1) := dk_28 (dk_at dksX3_playAt_1 18 rfl rfl)
theorem dX3_playAt_43 : decode cX3_playAt 43 = .ok (.iconst 4, 1) := dk_7 (dk_at dksX3_playAt_1 19 rfl rfl)
theorem dX3_playAt_44 : decode cX3_playAt 44 = .ok (.aload_n 0, 1) := dk_42 (dk_at dksX3_playAt_1 20 rfl rfl)
theorem dX3_playAt_45 : decode cX3_playAt 45 = .ok (.iload_n 2, 1) := dk_28 (dk_at dksX3_playAt_1 21 rfl rfl)
theorem dX3_playAt_46 : decode cX3_playAt 46 = .ok (.iconst 4, 1) := dk_7 (dk_at dksX3_playAt_1 22 rfl rfl)
theorem dX3_playAt_47 : decode cX3_playAt 47 = .ok (.invokevirtual 45, 3) := dk_182 0 45 (dk_at dksX3_playAt_2 0 rfl rfl)
theorem dX3_playAt_50 : decode cX3_playAt 50 = .ok (.iload 5, 2) := dk_21 5 (dk_at dksX3_playAt_2 3 rfl rfl)
theorem dX3_playAt_52 : decode cX3_playAt 52 = .ok (.isub, 1) := dk_100 (dk_at dksX3_playAt_2 5 rfl rfl)
theorem dX3_playAt_53 : decode cX3_playAt 53 = .ok (.invokevirtual 120, 3) := dk_182 0 120 (dk_at dksX3_playAt_2 6 rfl rfl)
theorem dX3_playAt_56 : decode cX3_playAt 56 = .ok (.goto 10, 3) := dk_167 0 10 (dk_at dksX3_playAt_2 9 rfl rfl)
theorem dX3_playAt_59 : decode cX3_playAt 59 = .ok (.aload_n 0, 1) := dk_42 (dk_at dksX3_playAt_2 12 rfl rfl)
theorem dX3_playAt_60 : decode cX3_playAt 60 = .ok (.iload_n 2, 1) := dk_28 (dk_at dksX3_playAt_2 13 rfl rfl)
theorem dX3_playAt_61 : decode cX3_playAt 61 = .ok (.invokevirtual 123, 3) := dk_182 0 123 (dk_at dksX3_playAt_2 14 rfl rfl)
theorem dX3_playAt_64 : decode cX3_playAt 64 = .ok (.istore 5, 2) := dk_54 5 (dk_at dksX3_playAt_2 17 rfl rfl)
theorem dX3_playAt_66 : decode cX3_playAt 66 = .ok (.aload_n 0, 1) := dk_42 (dk_at dksX3_playAt_2 19 rfl rfl)
theorem dX3_playAt_67 : decode cX3_playAt 67 = .ok (.iload_n 2, 1) := dk_28 (dk_at dksX3_playAt_2 20 rfl rfl)
theorem dX3_playAt_68 : decode cX3_playAt 68 = .ok (.bipush 7, 2) := dk_16 7 (dk_at dksX3_playAt_2 21 rfl rfl)
theorem dX3_playAt_70 : decode cX3_playAt 70 = .ok (.aload_n 0, 1) := dk_42 (dk_at dksX3_playAt_2 23 rfl rfl)
theorem dX3_playAt_71 : decode cX3_playAt 71 = .ok (.iload_n 2, 1) := dk_28 (dk_at dksX3_playAt_3 0 rfl rfl)
theorem dX3_playAt_72 : decode cX3_playAt 72 = .ok (.bipush 7, 2) := dk_16 7 (dk_at dksX3_playAt_3 1 rfl rfl)
theorem dX3_playAt_74 : decode cX3_playAt 74 = .ok (.invokevirtual 45, 3) := dk_182 0 45 (dk_at dksX3_playAt_3 3 rfl rfl)
theorem dX3_playAt_77 : decode cX3_playAt 77 = .ok (.iconst 1, 1) := dk_4 (dk_at dksX3_playAt_3 6 rfl rfl)
theorem dX3_playAt_78 : decode cX3_playAt 78 = .ok (.iadd, 1) := dk_96 (dk_at dksX3_playAt_3 7 rfl rfl)
theorem dX3_playAt_79 : decode cX3_playAt 79 = .ok (.invokevirtual 120, 3) := dk_182 0 120 (dk_at dksX3_playAt_3 8 rfl rfl)
theorem dX3_playAt_82 : decode cX3_playAt 82 = .ok (.aload_n 0, 1) := dk_42 (dk_at dksX3_playAt_3 11 rfl rfl)
theorem dX3_playAt_83 : decode cX3_playAt 83 = .ok (.iload_n 2, 1) := dk_28 (dk_at dksX3_playAt_3 12 rfl rfl)
theorem dX3_playAt_84 : decode cX3_playAt 84 = .ok (.bipush 8, 2) := dk_16 8 (dk_at dksX3_playAt_3 13 rfl rfl)
theorem dX3_playAt_86 : decode cX3_playAt 86 = .ok (.aload_n 0, 1) := dk_42 (dk_at dksX3_playAt_3 15 rfl rfl)
theorem dX3_playAt_87 : decode cX3_playAt 87 = .ok (.iload_n 2, 1) := dk_28 (dk_at dksX3_playAt_3 16 rfl rfl)
theorem dX3_playAt_88 : decode cX3_playAt 88 = .ok (.bipush 8, 2) := dk_16 8 (dk_at dksX3_playAt_3 17 rfl rfl)
theorem dX3_playAt_90 : decode cX3_playAt 90 = .ok (.invokevirtual 45, 3) := dk_182 0 45 (dk_at dksX3_playAt_3 19 rfl rfl)
theorem dX3_playAt_93 : decode cX3_playAt 93 = .ok (.iload 5, 2) := dk_21 5 (dk_at dksX3_playAt_3 22 rfl rfl)
theorem dX3_playAt_95 : decode cX3_playAt 95 = .ok (.iadd, 1) := dk_96 (dk_at dksX3_playAt_4 0 rfl rfl)
theorem dX3_playAt_96 : decode cX3_playAt 96 = .ok (.invokevirtual 120, 3) := dk_182 0 120 (dk_at dksX3_playAt_4 1 rfl rfl)
theorem dX3_playAt_99 : decode cX3_playAt 99 = .ok (.aload_n 0, 1) := dk_42 (dk_at dksX3_playAt_4 4 rfl rfl)
theorem dX3_playAt_100 : decode cX3_playAt 100 = .ok (.iload_n 1, 1) := dk_27 (dk_at dksX3_playAt_4 5 rfl rfl)
theorem dX3_playAt_101 : decode cX3_playAt 101 = .ok (.iconst 0, 1) := dk_3 (dk_at dksX3_playAt_4 6 rfl rfl)
theorem dX3_playAt_102 : decode cX3_playAt 102 = .ok (.aload_n 0, 1) := dk_42 (dk_at dksX3_playAt_4 7 rfl rfl)
theorem dX3_playAt_103 : decode cX3_playAt 103 = .ok (.iload_n 1, 1) := dk_27 (dk_at dksX3_playAt_4 8 rfl rfl)
theorem dX3_playAt_104 : decode cX3_playAt 104 = .ok (.iconst 0, 1) := dk_3 (dk_at dksX3_playAt_4 9 rfl rfl)
theorem dX3_playAt_105 : decode cX3_playAt 105 = .ok (.invokevirtual 78, 3) := dk_182 0 78 (dk_at dksX3_playAt_4 10 rfl rfl)
theorem dX3_playAt_108 : decode cX3_playAt 108 = .ok (.iconst 1, 1) := dk_4 (dk_at dksX3_playAt_4 13 rfl rfl)
theorem dX3_playAt_109 : decode cX3_playAt 109 = .ok (.isub, 1) := dk_100 (dk_at dksX3_playAt_4 14 rfl rfl)
theorem dX3_playAt_110 : decode cX3_playAt 110 = .ok (.iload 5, 2) := dk_21 5 (dk_at dksX3_playAt_4 15 rfl rfl)
theorem dX3_playAt_112 : decode cX3_playAt 112 = .ok (.iadd, 1) := dk_96 (dk_at dksX3_playAt_4 17 rfl rfl)
theorem dX3_playAt_113 : decode cX3_playAt 113 = .ok (.invokevirtual 109, 3) := dk_182 0 109 (dk_at dksX3_playAt_4 18 rfl rfl)
theorem dX3_playAt_116 : decode cX3_playAt 116 = .ok (.aload_n 0, 1) := dk_42 (dk_at dksX3_playAt_4 21 rfl rfl)
theorem dX3_playAt_117 : decode cX3_playAt 117 = .ok (.iload_n 1, 1) := dk_27 (dk_at dksX3_playAt_4 22 rfl rfl)
theorem dX3_playAt_118 : decode cX3_playAt 118 = .ok (.iconst 4, 1) := dk_7 (dk_at dksX3_playAt_4 23 rfl rfl)
theorem dX3_playAt_119 : decode cX3_playAt 119 = .ok (.aload_n 0, 1) := dk_42 (dk_at dksX3_playAt_5 0 rfl rfl)
theorem dX3_playAt_120 : decode cX3_playAt 120 = .ok (.iload_n 1, 1) := dk_27 (dk_at dksX3_playAt_5 1 rfl rfl)
theorem dX3_playAt_121 : decode cX3_playAt 121 = .ok (.iconst 4, 1) := dk_7 (dk_at dksX3_playAt_5 2 rfl rfl)
theorem dX3_playAt_122 : decode cX3_playAt 122 = .ok (.invokevirtual 78, 3) := dk_182 0 78 (dk_at dksX3_playAt_5 3 rfl rfl)
theorem dX3_playAt_125 : decode cX3_playAt 125 = .ok (.iconst 1, 1) := dk_4 (dk_at dksX3_playAt_5 6 rfl rfl)
theorem dX3_playAt_126 : decode cX3_playAt 126 = .ok (.iadd, 1) := dk_96 (dk_at dksX3_playAt_5 7 rfl rfl)
theorem dX3_playAt_127 : decode cX3_playAt 127 = .ok (.invokevirtual 109, 3) := dk_182 0 109 (dk_at dksX3_playAt_5 8 rfl rfl)
theorem dX3_playAt_130 : decode cX3_playAt 130 = .ok (.aload_n 0, 1) := dk_42 (dk_at dksX3_playAt_5 11 rfl rfl)
theorem dX3_playAt_131 : decode cX3_playAt 131 = .ok (.iload_n 1, 1) := dk_27 (dk_at dksX3_playAt_5 12 rfl rfl)
theorem dX3_playAt_132 : decode cX3_playAt 132 = .ok (.iconst 5, 1) := dk_8 (dk_at dksX3_playAt_5 13 rfl rfl)
theorem dX3_playAt_133 : decode cX3_playAt 133 = .ok (.aload_n 0, 1) := dk_42 (dk_at dksX3_playAt_5 14 rfl rfl)
theorem dX3_playAt_134 : decode cX3_playAt 134 = .ok (.iload_n 1, 1) := dk_27 (dk_at dksX3_playAt_5 15 rfl rfl)
theorem dX3_playAt_135 : decode cX3_playAt 135 = .ok (.iconst 5, 1) := dk_8 (dk_at dksX3_playAt_5 16 rfl rfl)
theorem dX3_playAt_136 : decode cX3_playAt 136 = .ok (.invokevirtual 78, 3) := dk_182 0 78 (dk_at dksX3_playAt_5 17 rfl rfl)
theorem dX3_playAt_139 : decode cX3_playAt 139 = .ok (.iload 5, 2) := dk_21 5 (dk_at dksX3_playAt_5 20 rfl rfl)
theorem dX3_playAt_141 : decode cX3_playAt 141 = .ok (.iadd, 1) := dk_96 (dk_at dksX3_playAt_5 22 rfl rfl)
theorem dX3_playAt_142 : decode cX3_playAt 142 = .ok (.invokevirtual 109, 3) := dk_182 0 109 (dk_at dksX3_playAt_6 0 rfl rfl)
theorem dX3_playAt_145 : decode cX3_playAt 145 = .ok (.aload_n 0, 1) := dk_42 (dk_at dksX3_playAt_6 3 rfl rfl)
theorem dX3_playAt_146 : decode cX3_playAt 146 = .ok (.iload_n 2, 1) := dk_28 (dk_at dksX3_playAt_6 4 rfl rfl)
theorem dX3_playAt_147 : decode cX3_playAt 147 = .ok (.iconst 5, 1) := dk_8 (dk_at dksX3_playAt_6 5 rfl rfl)
theorem dX3_playAt_148 : decode cX3_playAt 148 = .ok (.bipush 100, 2) := dk_16 100 (dk_at dksX3_playAt_6 6 rfl rfl)
theorem dX3_playAt_150 : decode cX3_playAt 150 = .ok (.aload_n 0, 1) := dk_42 (dk_at dksX3_playAt_6 8 rfl rfl)
theorem dX3_playAt_151 : decode cX3_playAt 151 = .ok (.iload_n 2, 1) := dk_28 (dk_at dksX3_playAt_6 9 rfl rfl)
theorem dX3_playAt_152 : decode cX3_playAt 152 = .ok (.iconst 5, 1) := dk_8 (dk_at dksX3_playAt_6 10 rfl rfl)
theorem dX3_playAt_153 : decode cX3_playAt 153 = .ok (.invokevirtual 45, 3) := dk_182 0 45 (dk_at dksX3_playAt_6 11 rfl rfl)
theorem dX3_playAt_156 : decode cX3_playAt 156 = .ok (.iconst 1, 1) := dk_4 (dk_at dksX3_playAt_6 14 rfl rfl)
theorem dX3_playAt_157 : decode cX3_playAt 157 = .ok (.iadd, 1) := dk_96 (dk_at dksX3_playAt_6 15 rfl rfl)
theorem dX3_playAt_158 : decode cX3_playAt 158 = .ok (.invokestatic 87, 3) := dk_184 0 87 (dk_at dksX3_playAt_6 16 rfl rfl)
theorem dX3_playAt_161 : decode cX3_playAt 161 = .ok (.invokevirtual 120, 3) := dk_182 0 120 (dk_at dksX3_playAt_6 19 rfl rfl)
theorem dX3_playAt_164 : decode cX3_playAt 164 = .ok (.aload_n 0, 1) := dk_42 (dk_at dksX3_playAt_6 22 rfl rfl)
theorem dX3_playAt_165 : decode cX3_playAt 165 = .ok (.iload_n 2, 1) := dk_28 (dk_at dksX3_playAt_6 23 rfl rfl)
theorem dX3_playAt_166 : decode cX3_playAt 166 = .ok (.iconst 5, 1) := dk_8 (dk_at dksX3_playAt_7 0 rfl rfl)
theorem dX3_playAt_167 : decode cX3_playAt 167 = .ok (.invokevirtual 45, 3) := dk_182 0 45 (dk_at dksX3_playAt_7 1 rfl rfl)
theorem dX3_playAt_170 : decode cX3_playAt 170 = .ok (.bipush 20, 2) := dk_16 20 (dk_at dksX3_playAt_7 4 rfl rfl)
theorem dX3_playAt_172 : decode cX3_playAt 172 = .ok (.if_icmp .lt 23, 3) := dk_161 0 23 (dk_at dksX3_playAt_7 6 rfl rfl)
theorem dX3_playAt_175 : decode cX3_playAt 175 = .ok (.aload_n 0, 1) := dk_42 (dk_at dksX3_playAt_7 9 rfl rfl)
theorem dX3_playAt_176 : decode cX3_playAt 176 = .ok (.iload_n 2, 1) := dk_28 (dk_at dksX3_playAt_7 10 rfl rfl)
theorem dX3_playAt_177 : decode cX3_playAt 177 = .ok (.iconst 5, 1) := dk_8 (dk_at dksX3_playAt_7 11 rfl rfl)
theorem dX3_playAt_178 : decode cX3_playAt 178 = .ok (.invokevirtual 45, 3) := dk_182 0 45 (dk_at dksX3_playAt_7 12 rfl rfl)
theorem dX3_playAt_181 : decode cX3_playAt 181 = .ok (.bipush 10, 2) := dk_16 10 (dk_at dksX3_playAt_7 15 rfl rfl)
theorem dX3_playAt_183 : decode cX3_playAt 183 = .ok (.irem, 1) := dk_112 (dk_at dksX3_playAt_7 17 rfl rfl)
theorem dX3_playAt_184 : decode cX3_playAt 184 = .ok (.ifCond .ne 11, 3) := dk_154 0 11 (dk_at dksX3_playAt_7 18 rfl rfl)
theorem dX3_playAt_187 : decode cX3_playAt 187 = .ok (.aload_n 0, 1) := dk_42 (dk_at dksX3_playAt_7 21 rfl rfl)
theorem dX3_playAt_188 : decode cX3_playAt 188 = .ok (.iload_n 2, 1) := dk_28 (dk_at dksX3_playAt_7 22 rfl rfl)
theorem dX3_playAt_189 : decode cX3_playAt 189 = .ok (.bipush 6, 2) := dk_16 6 (dk_at dksX3_playAt_8 0 rfl rfl)
theorem dX3_playAt_191 : decode cX3_playAt 191 = .ok (.iconst 1, 1) := dk_4 (dk_at dksX3_playAt_8 2 rfl rfl)
theorem dX3_playAt_192 : decode cX3_playAt 192 = .ok (.invokevirtual 120, 3) := dk_182 0 120 (dk_at dksX3_playAt_8 3 rfl rfl)
theorem dX3_playAt_195 : decode cX3_playAt 195 = .ok (.iload 5, 2) := dk_21 5 (dk_at dksX3_playAt_8 6 rfl rfl)
theorem dX3_playAt_197 : decode cX3_playAt 197 = .ok (.ireturn, 1) := dk_172 (dk_at dksX3_playAt_8 8 rfl rfl)
abbrev cX3_setMa : ByteArray := prog_8_method_8_code
def yX3_setMa : MethodName := ⟨RX3, "setMa", "(III)V"⟩
def dkwX3_setMa_0 : List UInt8 := [42, 180, 0, 16, 16, 9, 27, 104, 28, 96, 29, 79, 177]
abbrev dktX3_setMa_0 : List UInt8 := dkwX3_setMa_0 ++ []
theorem dksX3_setMa_0 : cX3_setMa.data.toList.drop 0 = dktX3_setMa_0 := by decide +kernel
theorem dX3_setMa_0 : decode cX3_setMa 0 = .ok (.aload_n 0, 1) := dk_42 (dk_at dksX3_setMa_0 0 rfl rfl)
theorem dX3_setMa_1 : decode cX3_setMa 1 = .ok (.getfield 16, 3) := dk_180 0 16 (dk_at dksX3_setMa_0 1 rfl rfl)
theorem dX3_setMa_4 : decode cX3_setMa 4 = .ok (.bipush 9, 2) := dk_16 9 (dk_at dksX3_setMa_0 4 rfl rfl)
theorem dX3_setMa_6 : decode cX3_setMa 6 = .ok (.iload_n 1, 1) := dk_27 (dk_at dksX3_setMa_0 6 rfl rfl)
theorem dX3_setMa_7 : decode cX3_setMa 7 = .ok (.imul, 1) := dk_104 (dk_at dksX3_setMa_0 7 rfl rfl)
theorem dX3_setMa_8 : decode cX3_setMa 8 = .ok (.iload_n 2, 1) := dk_28 (dk_at dksX3_setMa_0 8 rfl rfl)
theorem dX3_setMa_9 : decode cX3_setMa 9 = .ok (.iadd, 1) := dk_96 (dk_at dksX3_setMa_0 9 rfl rfl)
theorem dX3_setMa_10 : decode cX3_setMa 10 = .ok (.iload_n 3, 1) := dk_29 (dk_at dksX3_setMa_0 10 rfl rfl)
theorem dX3_setMa_11 : decode cX3_setMa 11 = .ok (.iastore, 1) := dk_79 (dk_at dksX3_setMa_0 11 rfl rfl)
theorem dX3_setMa_12 : decode cX3_setMa 12 = .ok (.return_, 1) := dk_177 (dk_at dksX3_setMa_0 12 rfl rfl)
abbrev cX3_push : ByteArray := prog_8_method_33_code
def yX3_push : MethodName := ⟨RX3, "push", "(I)I"⟩
def dkwX3_push_4 : List UInt8 := [21, 4, 5, 108, 96, 79, 132, 3, 1, 167, 255, 173, 28, 172]
abbrev dktX3_push_4 : List UInt8 := dkwX3_push_4 ++ []
def dkwX3_push_3 : List UInt8 := [160, 0, 11, 21, 4, 5, 108, 61, 167, 0, 22, 42, 180, 0, 19, 8, 27, 104, 29, 96, 4, 96, 92, 46]
abbrev dktX3_push_3 : List UInt8 := dkwX3_push_3 ++ dktX3_push_4
def dkwX3_push_2 : List UInt8 := [167, 0, 52, 42, 180, 0, 19, 8, 27, 104, 29, 96, 92, 46, 21, 4, 5, 108, 100, 79, 29, 7]
abbrev dktX3_push_2 : List UInt8 := dkwX3_push_2 ++ dktX3_push_3
def dkwX3_push_1 : List UInt8 := [180, 0, 19, 8, 27, 104, 29, 96, 46, 54, 4, 21, 4, 42, 27, 6, 182, 0, 45, 163, 0, 6]
abbrev dktX3_push_1 : List UInt8 := dkwX3_push_1 ++ dktX3_push_2
def dkwX3_push_0 : List UInt8 := [3, 61, 42, 180, 0, 19, 8, 27, 104, 92, 46, 4, 96, 79, 3, 62, 29, 8, 162, 0, 84, 42]
abbrev dktX3_push_0 : List UInt8 := dkwX3_push_0 ++ dktX3_push_1
theorem dksX3_push_0 : cX3_push.data.toList.drop 0 = dktX3_push_0 := by decide +kernel
theorem dksX3_push_1 : cX3_push.data.toList.drop 22 = dktX3_push_1 := dk_seg dksX3_push_0 22 rfl rfl
theorem dksX3_push_2 : cX3_push.data.toList.drop 44 = dktX3_push_2 := dk_seg dksX3_push_1 22 rfl rfl
theorem dksX3_push_3 : cX3_push.data.toList.drop 66 = dktX3_push_3 := dk_seg dksX3_push_2 22 rfl rfl
theorem dksX3_push_4 : cX3_push.data.toList.drop 90 = dktX3_push_4 := dk_seg dksX3_push_3 24 rfl rfl
theorem dX3_push_0 : decode cX3_push 0 = .ok (.iconst 0, 1) := dk_3 (dk_at dksX3_push_0 0 rfl rfl)
theorem dX3_push_1 : decode cX3_push 1 = .ok (.istore_n 2, 1) := dk_61 (dk_at dksX3_push_0 1 rfl rfl)
theorem dX3_push_2 : decode cX3_push 2 = .ok (.aload_n 0, 1) := dk_42 (dk_at dksX3_push_0 2 rfl rfl)
theorem dX3_push_3 : decode cX3_push 3 = .ok (.getfield 19, 3) := dk_180 0 19 (dk_at dksX3_push_0 3 rfl rfl)
theorem dX3_push_6 : decode cX3_push 6 = .ok (.iconst 5, 1) := dk_8 (dk_at dksX3_push_0 6 rfl rfl)
theorem dX3_push_7 : decode cX3_push 7 = .ok (.iload_n 1, 1) := dk_27 (dk_at dksX3_push_0 7 rfl rfl)
theorem dX3_push_8 : decode cX3_push 8 = .ok (.imul, 1) := dk_104 (dk_at dksX3_push_0 8 rfl rfl)
theorem dX3_push_9 : decode cX3_push 9 = .ok (.dup2, 1) := dk_92 (dk_at dksX3_push_0 9 rfl rfl)
theorem dX3_push_10 : decode cX3_push 10 = .ok (.iaload, 1) := dk_46 (dk_at dksX3_push_0 10 rfl rfl)
theorem dX3_push_11 : decode cX3_push 11 = .ok (.iconst 1, 1) := dk_4 (dk_at dksX3_push_0 11 rfl rfl)
theorem dX3_push_12 : decode cX3_push 12 = .ok (.iadd, 1) := dk_96 (dk_at dksX3_push_0 12 rfl rfl)
theorem dX3_push_13 : decode cX3_push 13 = .ok (.iastore, 1) := dk_79 (dk_at dksX3_push_0 13 rfl rfl)
theorem dX3_push_14 : decode cX3_push 14 = .ok (.iconst 0, 1) := dk_3 (dk_at dksX3_push_0 14 rfl rfl)
theorem dX3_push_15 : decode cX3_push 15 = .ok (.istore_n 3, 1) := dk_62 (dk_at dksX3_push_0 15 rfl rfl)
theorem dX3_push_16 : decode cX3_push 16 = .ok (.iload_n 3, 1) := dk_29 (dk_at dksX3_push_0 16 rfl rfl)
theorem dX3_push_17 : decode cX3_push 17 = .ok (.iconst 5, 1) := dk_8 (dk_at dksX3_push_0 17 rfl rfl)
theorem dX3_push_18 : decode cX3_push 18 = .ok (.if_icmp .ge 84, 3) := dk_162 0 84 (dk_at dksX3_push_0 18 rfl rfl)
theorem dX3_push_21 : decode cX3_push 21 = .ok (.aload_n 0, 1) := dk_42 (dk_at dksX3_push_0 21 rfl rfl)
theorem dX3_push_22 : decode cX3_push 22 = .ok (.getfield 19, 3) := dk_180 0 19 (dk_at dksX3_push_1 0 rfl rfl)
theorem dX3_push_25 : decode cX3_push 25 = .ok (.iconst 5, 1) := dk_8 (dk_at dksX3_push_1 3 rfl rfl)
theorem dX3_push_26 : decode cX3_push 26 = .ok (.iload_n 1, 1) := dk_27 (dk_at dksX3_push_1 4 rfl rfl)
theorem dX3_push_27 : decode cX3_push 27 = .ok (.imul, 1) := dk_104 (dk_at dksX3_push_1 5 rfl rfl)
theorem dX3_push_28 : decode cX3_push 28 = .ok (.iload_n 3, 1) := dk_29 (dk_at dksX3_push_1 6 rfl rfl)
theorem dX3_push_29 : decode cX3_push 29 = .ok (.iadd, 1) := dk_96 (dk_at dksX3_push_1 7 rfl rfl)
theorem dX3_push_30 : decode cX3_push 30 = .ok (.iaload, 1) := dk_46 (dk_at dksX3_push_1 8 rfl rfl)
theorem dX3_push_31 : decode cX3_push 31 = .ok (.istore 4, 2) := dk_54 4 (dk_at dksX3_push_1 9 rfl rfl)
theorem dX3_push_33 : decode cX3_push 33 = .ok (.iload 4, 2) := dk_21 4 (dk_at dksX3_push_1 11 rfl rfl)
theorem dX3_push_35 : decode cX3_push 35 = .ok (.aload_n 0, 1) := dk_42 (dk_at dksX3_push_1 13 rfl rfl)
theorem dX3_push_36 : decode cX3_push 36 = .ok (.iload_n 1, 1) := dk_27 (dk_at dksX3_push_1 14 rfl rfl)
theorem dX3_push_37 : decode cX3_push 37 = .ok (.iconst 3, 1) := dk_6 (dk_at dksX3_push_1 15 rfl rfl)
theorem dX3_push_38 : decode cX3_push 38 = .ok (.invokevirtual 45, 3) := dk_182 0 45 (dk_at dksX3_push_1 16 rfl rfl)
theorem dX3_push_41 : decode cX3_push 41 = .ok (.if_icmp .gt 6, 3) := dk_163 0 6 (dk_at dksX3_push_1 19 rfl rfl)
theorem dX3_push_44 : decode cX3_push 44 = .ok (.goto 52, 3) := dk_167 0 52 (dk_at dksX3_push_2 0 rfl rfl)
theorem dX3_push_47 : decode cX3_push 47 = .ok (.aload_n 0, 1) := dk_42 (dk_at dksX3_push_2 3 rfl rfl)
theorem dX3_push_48 : decode cX3_push 48 = .ok (.getfield 19, 3) := dk_180 0 19 (dk_at dksX3_push_2 4 rfl rfl)
theorem dX3_push_51 : decode cX3_push 51 = .ok (.iconst 5, 1) := dk_8 (dk_at dksX3_push_2 7 rfl rfl)
theorem dX3_push_52 : decode cX3_push 52 = .ok (.iload_n 1, 1) := dk_27 (dk_at dksX3_push_2 8 rfl rfl)
theorem dX3_push_53 : decode cX3_push 53 = .ok (.imul, 1) := dk_104 (dk_at dksX3_push_2 9 rfl rfl)
theorem dX3_push_54 : decode cX3_push 54 = .ok (.iload_n 3, 1) := dk_29 (dk_at dksX3_push_2 10 rfl rfl)
theorem dX3_push_55 : decode cX3_push 55 = .ok (.iadd, 1) := dk_96 (dk_at dksX3_push_2 11 rfl rfl)
theorem dX3_push_56 : decode cX3_push 56 = .ok (.dup2, 1) := dk_92 (dk_at dksX3_push_2 12 rfl rfl)
theorem dX3_push_57 : decode cX3_push 57 = .ok (.iaload, 1) := dk_46 (dk_at dksX3_push_2 13 rfl rfl)
theorem dX3_push_58 : decode cX3_push 58 = .ok (.iload 4, 2) := dk_21 4 (dk_at dksX3_push_2 14 rfl rfl)
theorem dX3_push_60 : decode cX3_push 60 = .ok (.iconst 2, 1) := dk_5 (dk_at dksX3_push_2 16 rfl rfl)
theorem dX3_push_61 : decode cX3_push 61 = .ok (.idiv, 1) := dk_108 (dk_at dksX3_push_2 17 rfl rfl)
theorem dX3_push_62 : decode cX3_push 62 = .ok (.isub, 1) := dk_100 (dk_at dksX3_push_2 18 rfl rfl)
theorem dX3_push_63 : decode cX3_push 63 = .ok (.iastore, 1) := dk_79 (dk_at dksX3_push_2 19 rfl rfl)
theorem dX3_push_64 : decode cX3_push 64 = .ok (.iload_n 3, 1) := dk_29 (dk_at dksX3_push_2 20 rfl rfl)
theorem dX3_push_65 : decode cX3_push 65 = .ok (.iconst 4, 1) := dk_7 (dk_at dksX3_push_2 21 rfl rfl)
theorem dX3_push_66 : decode cX3_push 66 = .ok (.if_icmp .ne 11, 3) := dk_160 0 11 (dk_at dksX3_push_3 0 rfl rfl)
theorem dX3_push_69 : decode cX3_push 69 = .ok (.iload 4, 2) := dk_21 4 (dk_at dksX3_push_3 3 rfl rfl)
theorem dX3_push_71 : decode cX3_push 71 = .ok (.iconst 2, 1) := dk_5 (dk_at dksX3_push_3 5 rfl rfl)
theorem dX3_push_72 : decode cX3_push 72 = .ok (.idiv, 1) := dk_108 (dk_at dksX3_push_3 6 rfl rfl)
theorem dX3_push_73 : decode cX3_push 73 = .ok (.istore_n 2, 1) := dk_61 (dk_at dksX3_push_3 7 rfl rfl)
theorem dX3_push_74 : decode cX3_push 74 = .ok (.goto 22, 3) := dk_167 0 22 (dk_at dksX3_push_3 8 rfl rfl)
theorem dX3_push_77 : decode cX3_push 77 = .ok (.aload_n 0, 1) := dk_42 (dk_at dksX3_push_3 11 rfl rfl)
theorem dX3_push_78 : decode cX3_push 78 = .ok (.getfield 19, 3) := dk_180 0 19 (dk_at dksX3_push_3 12 rfl rfl)
theorem dX3_push_81 : decode cX3_push 81 = .ok (.iconst 5, 1) := dk_8 (dk_at dksX3_push_3 15 rfl rfl)
theorem dX3_push_82 : decode cX3_push 82 = .ok (.iload_n 1, 1) := dk_27 (dk_at dksX3_push_3 16 rfl rfl)
theorem dX3_push_83 : decode cX3_push 83 = .ok (.imul, 1) := dk_104 (dk_at dksX3_push_3 17 rfl rfl)
theorem dX3_push_84 : decode cX3_push 84 = .ok (.iload_n 3, 1) := dk_29 (dk_at dksX3_push_3 18 rfl rfl)
theorem dX3_push_85 : decode cX3_push 85 = .ok (.iadd, 1) := dk_96 (dk_at dksX3_push_3 19 rfl rfl)
theorem dX3_push_86 : decode cX3_push 86 = .ok (.iconst 1, 1) := dk_4 (dk_at dksX3_push_3 20 rfl rfl)
theorem dX3_push_87 : decode cX3_push 87 = .ok (.iadd, 1) := dk_96 (dk_at dksX3_push_3 21 rfl rfl)
theorem dX3_push_88 : decode cX3_push 88 = .ok (.dup2, 1) := dk_92 (dk_at dksX3_push_3 22 rfl rfl)
theorem dX3_push_89 : decode cX3_push 89 = .ok (.iaload, 1) := dk_46 (dk_at dksX3_push_3 23 rfl rfl)
theorem dX3_push_90 : decode cX3_push 90 = .ok (.iload 4, 2) := dk_21 4 (dk_at dksX3_push_4 0 rfl rfl)
theorem dX3_push_92 : decode cX3_push 92 = .ok (.iconst 2, 1) := dk_5 (dk_at dksX3_push_4 2 rfl rfl)
theorem dX3_push_93 : decode cX3_push 93 = .ok (.idiv, 1) := dk_108 (dk_at dksX3_push_4 3 rfl rfl)
theorem dX3_push_94 : decode cX3_push 94 = .ok (.iadd, 1) := dk_96 (dk_at dksX3_push_4 4 rfl rfl)
theorem dX3_push_95 : decode cX3_push 95 = .ok (.iastore, 1) := dk_79 (dk_at dksX3_push_4 5 rfl rfl)
theorem dX3_push_96 : decode cX3_push 96 = .ok (.iinc 3 1, 3) := dk_132 3 1 (dk_at dksX3_push_4 6 rfl rfl)
theorem dX3_push_99 : decode cX3_push 99 = .ok (.goto (-83), 3) := dk_167 255 173 (dk_at dksX3_push_4 9 rfl rfl)
theorem dX3_push_102 : decode cX3_push 102 = .ok (.iload_n 2, 1) := dk_28 (dk_at dksX3_push_4 12 rfl rfl)
theorem dX3_push_103 : decode cX3_push 103 = .ok (.ireturn, 1) := dk_172 (dk_at dksX3_push_4 13 rfl rfl)
abbrev cX3_player : ByteArray := prog_8_method_36_code
def yX3_player : MethodName := ⟨RX3, "player", "(II)I"⟩
def dkwX3_player_1 : List UInt8 := [28, 182, 0, 78, 167, 0, 8, 42, 4, 182, 0, 59, 172]
abbrev dktX3_player_1 : List UInt8 := dkwX3_player_1 ++ []
def dkwX3_player_0 : List UInt8 := [42, 3, 181, 0, 31, 42, 27, 182, 0, 113, 153, 0, 21, 28, 3, 8, 184, 0, 38, 153, 0, 12, 42, 27]
abbrev dktX3_player_0 : List UInt8 := dkwX3_player_0 ++ dktX3_player_1
theorem dksX3_player_0 : cX3_player.data.toList.drop 0 = dktX3_player_0 := by decide +kernel
theorem dksX3_player_1 : cX3_player.data.toList.drop 24 = dktX3_player_1 := dk_seg dksX3_player_0 24 rfl rfl
theorem dX3_player_0 : decode cX3_player 0 = .ok (.aload_n 0, 1) := dk_42 (dk_at dksX3_player_0 0 rfl rfl)
theorem dX3_player_1 : decode cX3_player 1 = .ok (.iconst 0, 1) := dk_3 (dk_at dksX3_player_0 1 rfl rfl)
theorem dX3_player_2 : decode cX3_player 2 = .ok (.putfield 31, 3) := dk_181 0 31 (dk_at dksX3_player_0 2 rfl rfl)
theorem dX3_player_5 : decode cX3_player 5 = .ok (.aload_n 0, 1) := dk_42 (dk_at dksX3_player_0 5 rfl rfl)
theorem dX3_player_6 : decode cX3_player 6 = .ok (.iload_n 1, 1) := dk_27 (dk_at dksX3_player_0 6 rfl rfl)
theorem dX3_player_7 : decode cX3_player 7 = .ok (.invokevirtual 113, 3) := dk_182 0 113 (dk_at dksX3_player_0 7 rfl rfl)
theorem dX3_player_10 : decode cX3_player 10 = .ok (.ifCond .eq 21, 3) := dk_153 0 21 (dk_at dksX3_player_0 10 rfl rfl)
theorem dX3_player_13 : decode cX3_player 13 = .ok (.iload_n 2, 1) := dk_28 (dk_at dksX3_player_0 13 rfl rfl)
theorem dX3_player_14 : decode cX3_player 14 = .ok (.iconst 0, 1) := dk_3 (dk_at dksX3_player_0 14 rfl rfl)
theorem dX3_player_15 : decode cX3_player 15 = .ok (.iconst 5, 1) := dk_8 (dk_at dksX3_player_0 15 rfl rfl)
theorem dX3_player_16 : decode cX3_player 16 = .ok (.invokestatic 38, 3) := dk_184 0 38 (dk_at dksX3_player_0 16 rfl rfl)
theorem dX3_player_19 : decode cX3_player 19 = .ok (.ifCond .eq 12, 3) := dk_153 0 12 (dk_at dksX3_player_0 19 rfl rfl)
theorem dX3_player_22 : decode cX3_player 22 = .ok (.aload_n 0, 1) := dk_42 (dk_at dksX3_player_0 22 rfl rfl)
theorem dX3_player_23 : decode cX3_player 23 = .ok (.iload_n 1, 1) := dk_27 (dk_at dksX3_player_0 23 rfl rfl)
theorem dX3_player_24 : decode cX3_player 24 = .ok (.iload_n 2, 1) := dk_28 (dk_at dksX3_player_1 0 rfl rfl)
theorem dX3_player_25 : decode cX3_player 25 = .ok (.invokevirtual 78, 3) := dk_182 0 78 (dk_at dksX3_player_1 1 rfl rfl)
theorem dX3_player_28 : decode cX3_player 28 = .ok (.goto 8, 3) := dk_167 0 8 (dk_at dksX3_player_1 4 rfl rfl)
theorem dX3_player_31 : decode cX3_player 31 = .ok (.aload_n 0, 1) := dk_42 (dk_at dksX3_player_1 7 rfl rfl)
theorem dX3_player_32 : decode cX3_player 32 = .ok (.iconst 1, 1) := dk_4 (dk_at dksX3_player_1 8 rfl rfl)
theorem dX3_player_33 : decode cX3_player 33 = .ok (.invokevirtual 59, 3) := dk_182 0 59 (dk_at dksX3_player_1 9 rfl rfl)
theorem dX3_player_36 : decode cX3_player 36 = .ok (.ireturn, 1) := dk_172 (dk_at dksX3_player_1 12 rfl rfl)
abbrev cX3_setSkill : ByteArray := prog_8_method_37_code
def yX3_setSkill : MethodName := ⟨RX3, "setSkill", "(I)I"⟩
def dkwX3_setSkill_1 : List UInt8 := [61, 42, 27, 181, 0, 133, 28, 172]
abbrev dktX3_setSkill_1 : List UInt8 := dkwX3_setSkill_1 ++ []
def dkwX3_setSkill_0 : List UInt8 := [42, 3, 181, 0, 31, 27, 3, 8, 184, 0, 38, 154, 0, 9, 42, 4, 182, 0, 59, 172, 42, 180, 0, 133]
abbrev dktX3_setSkill_0 : List UInt8 := dkwX3_setSkill_0 ++ dktX3_setSkill_1
theorem dksX3_setSkill_0 : cX3_setSkill.data.toList.drop 0 = dktX3_setSkill_0 := by decide +kernel
theorem dksX3_setSkill_1 : cX3_setSkill.data.toList.drop 24 = dktX3_setSkill_1 := dk_seg dksX3_setSkill_0 24 rfl rfl
theorem dX3_setSkill_0 : decode cX3_setSkill 0 = .ok (.aload_n 0, 1) := dk_42 (dk_at dksX3_setSkill_0 0 rfl rfl)
theorem dX3_setSkill_1 : decode cX3_setSkill 1 = .ok (.iconst 0, 1) := dk_3 (dk_at dksX3_setSkill_0 1 rfl rfl)
theorem dX3_setSkill_2 : decode cX3_setSkill 2 = .ok (.putfield 31, 3) := dk_181 0 31 (dk_at dksX3_setSkill_0 2 rfl rfl)
theorem dX3_setSkill_5 : decode cX3_setSkill 5 = .ok (.iload_n 1, 1) := dk_27 (dk_at dksX3_setSkill_0 5 rfl rfl)
theorem dX3_setSkill_6 : decode cX3_setSkill 6 = .ok (.iconst 0, 1) := dk_3 (dk_at dksX3_setSkill_0 6 rfl rfl)
theorem dX3_setSkill_7 : decode cX3_setSkill 7 = .ok (.iconst 5, 1) := dk_8 (dk_at dksX3_setSkill_0 7 rfl rfl)
theorem dX3_setSkill_8 : decode cX3_setSkill 8 = .ok (.invokestatic 38, 3) := dk_184 0 38 (dk_at dksX3_setSkill_0 8 rfl rfl)
theorem dX3_setSkill_11 : decode cX3_setSkill 11 = .ok (.ifCond .ne 9, 3) := dk_154 0 9 (dk_at dksX3_setSkill_0 11 rfl rfl)
theorem dX3_setSkill_14 : decode cX3_setSkill 14 = .ok (.aload_n 0, 1) := dk_42 (dk_at dksX3_setSkill_0 14 rfl rfl)
theorem dX3_setSkill_15 : decode cX3_setSkill 15 = .ok (.iconst 1, 1) := dk_4 (dk_at dksX3_setSkill_0 15 rfl rfl)
theorem dX3_setSkill_16 : decode cX3_setSkill 16 = .ok (.invokevirtual 59, 3) := dk_182 0 59 (dk_at dksX3_setSkill_0 16 rfl rfl)
theorem dX3_setSkill_19 : decode cX3_setSkill 19 = .ok (.ireturn, 1) := dk_172 (dk_at dksX3_setSkill_0 19 rfl rfl)
theorem dX3_setSkill_20 : decode cX3_setSkill 20 = .ok (.aload_n 0, 1) := dk_42 (dk_at dksX3_setSkill_0 20 rfl rfl)
theorem dX3_setSkill_21 : decode cX3_setSkill 21 = .ok (.getfield 133, 3) := dk_180 0 133 (dk_at dksX3_setSkill_0 21 rfl rfl)
theorem dX3_setSkill_24 : decode cX3_setSkill 24 = .ok (.istore_n 2, 1) := dk_61 (dk_at dksX3_setSkill_1 0 rfl rfl)
theorem dX3_setSkill_25 : decode cX3_setSkill 25 = .ok (.aload_n 0, 1) := dk_42 (dk_at dksX3_setSkill_1 1 rfl rfl)
theorem dX3_setSkill_26 : decode cX3_setSkill 26 = .ok (.iload_n 1, 1) := dk_27 (dk_at dksX3_setSkill_1 2 rfl rfl)
theorem dX3_setSkill_27 : decode cX3_setSkill 27 = .ok (.putfield 133, 3) := dk_181 0 133 (dk_at dksX3_setSkill_1 3 rfl rfl)
theorem dX3_setSkill_30 : decode cX3_setSkill 30 = .ok (.iload_n 2, 1) := dk_28 (dk_at dksX3_setSkill_1 6 rfl rfl)
theorem dX3_setSkill_31 : decode cX3_setSkill 31 = .ok (.ireturn, 1) := dk_172 (dk_at dksX3_setSkill_1 7 rfl rfl)
abbrev cX3_call : ByteArray := prog_8_method_40_code
def yX3_call : MethodName := ⟨RX3, "call", "(I)I"⟩
def dkwX3_call_1 : List UInt8 := [153, 0, 9, 42, 5, 182, 0, 59, 172, 42, 27, 182, 0, 139, 42, 180, 0, 28, 4, 46, 172]
abbrev dktX3_call_1 : List UInt8 := dkwX3_call_1 ++ []
def dkwX3_call_0 : List UInt8 := [42, 3, 181, 0, 31, 42, 27, 182, 0, 67, 154, 0, 9, 42, 4, 182, 0, 59, 172, 42, 27, 182, 0, 136]
abbrev dktX3_call_0 : List UInt8 := dkwX3_call_0 ++ dktX3_call_1
theorem dksX3_call_0 : cX3_call.data.toList.drop 0 = dktX3_call_0 := by decide +kernel
theorem dksX3_call_1 : cX3_call.data.toList.drop 24 = dktX3_call_1 := dk_seg dksX3_call_0 24 rfl rfl
theorem dX3_call_0 : decode cX3_call 0 = .ok (.aload_n 0, 1) := dk_42 (dk_at dksX3_call_0 0 rfl rfl)
theorem dX3_call_1 : decode cX3_call 1 = .ok (.iconst 0, 1) := dk_3 (dk_at dksX3_call_0 1 rfl rfl)
theorem dX3_call_2 : decode cX3_call 2 = .ok (.putfield 31, 3) := dk_181 0 31 (dk_at dksX3_call_0 2 rfl rfl)
theorem dX3_call_5 : decode cX3_call 5 = .ok (.aload_n 0, 1) := dk_42 (dk_at dksX3_call_0 5 rfl rfl)
theorem dX3_call_6 : decode cX3_call 6 = .ok (.iload_n 1, 1) := dk_27 (dk_at dksX3_call_0 6 rfl rfl)
theorem dX3_call_7 : decode cX3_call 7 = .ok (.invokevirtual 67, 3) := dk_182 0 67 (dk_at dksX3_call_0 7 rfl rfl)
theorem dX3_call_10 : decode cX3_call 10 = .ok (.ifCond .ne 9, 3) := dk_154 0 9 (dk_at dksX3_call_0 10 rfl rfl)
theorem dX3_call_13 : decode cX3_call 13 = .ok (.aload_n 0, 1) := dk_42 (dk_at dksX3_call_0 13 rfl rfl)
theorem dX3_call_14 : decode cX3_call 14 = .ok (.iconst 1, 1) := dk_4 (dk_at dksX3_call_0 14 rfl rfl)
theorem dX3_call_15 : decode cX3_call 15 = .ok (.invokevirtual 59, 3) := dk_182 0 59 (dk_at dksX3_call_0 15 rfl rfl)
theorem dX3_call_18 : decode cX3_call 18 = .ok (.ireturn, 1) := dk_172 (dk_at dksX3_call_0 18 rfl rfl)
theorem dX3_call_19 : decode cX3_call 19 = .ok (.aload_n 0, 1) := dk_42 (dk_at dksX3_call_0 19 rfl rfl)
theorem dX3_call_20 : decode cX3_call 20 = .ok (.iload_n 1, 1) := dk_27 (dk_at dksX3_call_0 20 rfl rfl)
theorem dX3_call_21 : decode cX3_call 21 = .ok (.invokevirtual 136, 3) := dk_182 0 136 (dk_at dksX3_call_0 21 rfl rfl)
theorem dX3_call_24 : decode cX3_call 24 = .ok (.ifCond .eq 9, 3) := dk_153 0 9 (dk_at dksX3_call_1 0 rfl rfl)
theorem dX3_call_27 : decode cX3_call 27 = .ok (.aload_n 0, 1) := dk_42 (dk_at dksX3_call_1 3 rfl rfl)
theorem dX3_call_28 : decode cX3_call 28 = .ok (.iconst 2, 1) := dk_5 (dk_at dksX3_call_1 4 rfl rfl)
theorem dX3_call_29 : decode cX3_call 29 = .ok (.invokevirtual 59, 3) := dk_182 0 59 (dk_at dksX3_call_1 5 rfl rfl)
theorem dX3_call_32 : decode cX3_call 32 = .ok (.ireturn, 1) := dk_172 (dk_at dksX3_call_1 8 rfl rfl)
theorem dX3_call_33 : decode cX3_call 33 = .ok (.aload_n 0, 1) := dk_42 (dk_at dksX3_call_1 9 rfl rfl)
theorem dX3_call_34 : decode cX3_call 34 = .ok (.iload_n 1, 1) := dk_27 (dk_at dksX3_call_1 10 rfl rfl)
theorem dX3_call_35 : decode cX3_call 35 = .ok (.invokevirtual 139, 3) := dk_182 0 139 (dk_at dksX3_call_1 11 rfl rfl)
theorem dX3_call_38 : decode cX3_call 38 = .ok (.aload_n 0, 1) := dk_42 (dk_at dksX3_call_1 14 rfl rfl)
theorem dX3_call_39 : decode cX3_call 39 = .ok (.getfield 28, 3) := dk_180 0 28 (dk_at dksX3_call_1 15 rfl rfl)
theorem dX3_call_42 : decode cX3_call 42 = .ok (.iconst 1, 1) := dk_4 (dk_at dksX3_call_1 18 rfl rfl)
theorem dX3_call_43 : decode cX3_call 43 = .ok (.iaload, 1) := dk_46 (dk_at dksX3_call_1 19 rfl rfl)
theorem dX3_call_44 : decode cX3_call 44 = .ok (.ireturn, 1) := dk_172 (dk_at dksX3_call_1 20 rfl rfl)
abbrev cX3_isInRow : ByteArray := prog_8_method_38_code
def yX3_isInRow : MethodName := ⟨RX3, "isInRow", "(I)Z"⟩
def dkwX3_isInRow_1 : List UInt8 := [132, 2, 1, 167, 255, 231, 3, 172]
abbrev dktX3_isInRow_1 : List UInt8 := dkwX3_isInRow_1 ++ []
def dkwX3_isInRow_0 : List UInt8 := [3, 61, 28, 42, 180, 0, 28, 4, 46, 162, 0, 21, 42, 180, 0, 25, 28, 46, 27, 160, 0, 5, 4, 172]
abbrev dktX3_isInRow_0 : List UInt8 := dkwX3_isInRow_0 ++ dktX3_isInRow_1
theorem dksX3_isInRow_0 : cX3_isInRow.data.toList.drop 0 = dktX3_isInRow_0 := by decide +kernel
theorem dksX3_isInRow_1 : cX3_isInRow.data.toList.drop 24 = dktX3_isInRow_1 := dk_seg dksX3_isInRow_0 24 rfl rfl
theorem dX3_isInRow_0 : decode cX3_isInRow 0 = .ok (.iconst 0, 1) := dk_3 (dk_at dksX3_isInRow_0 0 rfl rfl)
theorem dX3_isInRow_1 : decode cX3_isInRow 1 = .ok (.istore_n 2, 1) := dk_61 (dk_at dksX3_isInRow_0 1 rfl rfl)
theorem dX3_isInRow_2 : decode cX3_isInRow 2 = .ok (.iload_n 2, 1) := dk_28 (dk_at dksX3_isInRow_0 2 rfl rfl)
theorem dX3_isInRow_3 : decode cX3_isInRow 3 = .ok (.aload_n 0, 1) := dk_42 (dk_at dksX3_isInRow_0 3 rfl rfl)
theorem dX3_isInRow_4 : decode cX3_isInRow 4 = .ok (.getfield 28, 3) := dk_180 0 28 (dk_at dksX3_isInRow_0 4 rfl rfl)
theorem dX3_isInRow_7 : decode cX3_isInRow 7 = .ok (.iconst 1, 1) := dk_4 (dk_at dksX3_isInRow_0 7 rfl rfl)
theorem dX3_isInRow_8 : decode cX3_isInRow 8 = .ok (.iaload, 1) := dk_46 (dk_at dksX3_isInRow_0 8 rfl rfl)
theorem dX3_isInRow_9 : decode cX3_isInRow 9 = .ok (.if_icmp .ge 21, 3) := dk_162 0 21 (dk_at dksX3_isInRow_0 9 rfl rfl)
theorem dX3_isInRow_12 : decode cX3_isInRow 12 = .ok (.aload_n 0, 1) := dk_42 (dk_at dksX3_isInRow_0 12 rfl rfl)
theorem dX3_isInRow_13 : decode cX3_isInRow 13 = .ok (.getfield 25, 3) := dk_180 0 25 (dk_at dksX3_isInRow_0 13 rfl rfl)
theorem dX3_isInRow_16 : decode cX3_isInRow 16 = .ok (.iload_n 2, 1) := dk_28 (dk_at dksX3_isInRow_0 16 rfl rfl)
theorem dX3_isInRow_17 : decode cX3_isInRow 17 = .ok (.iaload, 1) := dk_46 (dk_at dksX3_isInRow_0 17 rfl rfl)
theorem dX3_isInRow_18 : decode cX3_isInRow 18 = .ok (.iload_n 1, 1) := dk_27 (dk_at dksX3_isInRow_0 18 rfl rfl)
theorem dX3_isInRow_19 : decode cX3_isInRow 19 = .ok (.if_icmp .ne 5, 3) := dk_160 0 5 (dk_at dksX3_isInRow_0 19 rfl rfl)
theorem dX3_isInRow_22 : decode cX3_isInRow 22 = .ok (.iconst 1, 1) := dk_4 (dk_at dksX3_isInRow_0 22 rfl rfl)
theorem dX3_isInRow_23 : decode cX3_isInRow 23 = .ok (.ireturn, 1) := dk_172 (dk_at dksX3_isInRow_0 23 rfl rfl)
theorem dX3_isInRow_24 : decode cX3_isInRow 24 = .ok (.iinc 2 1, 3) := dk_132 2 1 (dk_at dksX3_isInRow_1 0 rfl rfl)
theorem dX3_isInRow_27 : decode cX3_isInRow 27 = .ok (.goto (-25), 3) := dk_167 255 231 (dk_at dksX3_isInRow_1 3 rfl rfl)
theorem dX3_isInRow_30 : decode cX3_isInRow 30 = .ok (.iconst 0, 1) := dk_3 (dk_at dksX3_isInRow_1 6 rfl rfl)
theorem dX3_isInRow_31 : decode cX3_isInRow 31 = .ok (.ireturn, 1) := dk_172 (dk_at dksX3_isInRow_1 7 rfl rfl)
abbrev cX3_putInRow : ByteArray := prog_8_method_39_code
def yX3_putInRow : MethodName := ⟨RX3, "putInRow", "(I)V"⟩
def dkwX3_putInRow_0 : List UInt8 := [42, 180, 0, 25, 42, 180, 0, 28, 4, 46, 27, 79, 42, 180, 0, 28, 4, 92, 46, 4, 96, 79, 177]
abbrev dktX3_putInRow_0 : List UInt8 := dkwX3_putInRow_0 ++ []
theorem dksX3_putInRow_0 : cX3_putInRow.data.toList.drop 0 = dktX3_putInRow_0 := by decide +kernel
theorem dX3_putInRow_0 : decode cX3_putInRow 0 = .ok (.aload_n 0, 1) := dk_42 (dk_at dksX3_putInRow_0 0 rfl rfl)
theorem dX3_putInRow_1 : decode cX3_putInRow 1 = .ok (.getfield 25, 3) := dk_180 0 25 (dk_at dksX3_putInRow_0 1 rfl rfl)
theorem dX3_putInRow_4 : decode cX3_putInRow 4 = .ok (.aload_n 0, 1) := dk_42 (dk_at dksX3_putInRow_0 4 rfl rfl)
theorem dX3_putInRow_5 : decode cX3_putInRow 5 = .ok (.getfield 28, 3) := dk_180 0 28 (dk_at dksX3_putInRow_0 5 rfl rfl)
theorem dX3_putInRow_8 : decode cX3_putInRow 8 = .ok (.iconst 1, 1) := dk_4 (dk_at dksX3_putInRow_0 8 rfl rfl)
theorem dX3_putInRow_9 : decode cX3_putInRow 9 = .ok (.iaload, 1) := dk_46 (dk_at dksX3_putInRow_0 9 rfl rfl)
theorem dX3_putInRow_10 : decode cX3_putInRow 10 = .ok (.iload_n 1, 1) := dk_27 (dk_at dksX3_putInRow_0 10 rfl rfl)
theorem dX3_putInRow_11 : decode cX3_putInRow 11 = .ok (.iastore, 1) := dk_79 (dk_at dksX3_putInRow_0 11 rfl rfl)
theorem dX3_putInRow_12 : decode cX3_putInRow 12 = .ok (.aload_n 0, 1) := dk_42 (dk_at dksX3_putInRow_0 12 rfl rfl)
theorem dX3_putInRow_13 : decode cX3_putInRow 13 = .ok (.getfield 28, 3) := dk_180 0 28 (dk_at dksX3_putInRow_0 13 rfl rfl)
theorem dX3_putInRow_16 : decode cX3_putInRow 16 = .ok (.iconst 1, 1) := dk_4 (dk_at dksX3_putInRow_0 16 rfl rfl)
theorem dX3_putInRow_17 : decode cX3_putInRow 17 = .ok (.dup2, 1) := dk_92 (dk_at dksX3_putInRow_0 17 rfl rfl)
theorem dX3_putInRow_18 : decode cX3_putInRow 18 = .ok (.iaload, 1) := dk_46 (dk_at dksX3_putInRow_0 18 rfl rfl)
theorem dX3_putInRow_19 : decode cX3_putInRow 19 = .ok (.iconst 1, 1) := dk_4 (dk_at dksX3_putInRow_0 19 rfl rfl)
theorem dX3_putInRow_20 : decode cX3_putInRow 20 = .ok (.iadd, 1) := dk_96 (dk_at dksX3_putInRow_0 20 rfl rfl)
theorem dX3_putInRow_21 : decode cX3_putInRow 21 = .ok (.iastore, 1) := dk_79 (dk_at dksX3_putInRow_0 21 rfl rfl)
theorem dX3_putInRow_22 : decode cX3_putInRow 22 = .ok (.return_, 1) := dk_177 (dk_at dksX3_putInRow_0 22 rfl rfl)
abbrev cX3_repair : ByteArray := prog_8_method_41_code
def yX3_repair : MethodName := ⟨RX3, "repair", "(I)I"⟩
def dkwX3_repair_1 : List UInt8 := [180, 0, 25, 27, 46, 167, 0, 8, 42, 4, 182, 0, 59, 172]
abbrev dktX3_repair_1 : List UInt8 := dkwX3_repair_1 ++ []
def dkwX3_repair_0 : List UInt8 := [42, 3, 181, 0, 31, 27, 3, 42, 180, 0, 28, 4, 46, 4, 100, 184, 0, 38, 153, 0, 12, 42]
abbrev dktX3_repair_0 : List UInt8 := dkwX3_repair_0 ++ dktX3_repair_1
theorem dksX3_repair_0 : cX3_repair.data.toList.drop 0 = dktX3_repair_0 := by decide +kernel
theorem dksX3_repair_1 : cX3_repair.data.toList.drop 22 = dktX3_repair_1 := dk_seg dksX3_repair_0 22 rfl rfl
theorem dX3_repair_0 : decode cX3_repair 0 = .ok (.aload_n 0, 1) := dk_42 (dk_at dksX3_repair_0 0 rfl rfl)
theorem dX3_repair_1 : decode cX3_repair 1 = .ok (.iconst 0, 1) := dk_3 (dk_at dksX3_repair_0 1 rfl rfl)
theorem dX3_repair_2 : decode cX3_repair 2 = .ok (.putfield 31, 3) := dk_181 0 31 (dk_at dksX3_repair_0 2 rfl rfl)
theorem dX3_repair_5 : decode cX3_repair 5 = .ok (.iload_n 1, 1) := dk_27 (dk_at dksX3_repair_0 5 rfl rfl)
theorem dX3_repair_6 : decode cX3_repair 6 = .ok (.iconst 0, 1) := dk_3 (dk_at dksX3_repair_0 6 rfl rfl)
theorem dX3_repair_7 : decode cX3_repair 7 = .ok (.aload_n 0, 1) := dk_42 (dk_at dksX3_repair_0 7 rfl rfl)
theorem dX3_repair_8 : decode cX3_repair 8 = .ok (.getfield 28, 3) := dk_180 0 28 (dk_at dksX3_repair_0 8 rfl rfl)
theorem dX3_repair_11 : decode cX3_repair 11 = .ok (.iconst 1, 1) := dk_4 (dk_at dksX3_repair_0 11 rfl rfl)
theorem dX3_repair_12 : decode cX3_repair 12 = .ok (.iaload, 1) := dk_46 (dk_at dksX3_repair_0 12 rfl rfl)
theorem dX3_repair_13 : decode cX3_repair 13 = .ok (.iconst 1, 1) := dk_4 (dk_at dksX3_repair_0 13 rfl rfl)
theorem dX3_repair_14 : decode cX3_repair 14 = .ok (.isub, 1) := dk_100 (dk_at dksX3_repair_0 14 rfl rfl)
theorem dX3_repair_15 : decode cX3_repair 15 = .ok (.invokestatic 38, 3) := dk_184 0 38 (dk_at dksX3_repair_0 15 rfl rfl)
theorem dX3_repair_18 : decode cX3_repair 18 = .ok (.ifCond .eq 12, 3) := dk_153 0 12 (dk_at dksX3_repair_0 18 rfl rfl)
theorem dX3_repair_21 : decode cX3_repair 21 = .ok (.aload_n 0, 1) := dk_42 (dk_at dksX3_repair_0 21 rfl rfl)
theorem dX3_repair_22 : decode cX3_repair 22 = .ok (.getfield 25, 3) := dk_180 0 25 (dk_at dksX3_repair_1 0 rfl rfl)
theorem dX3_repair_25 : decode cX3_repair 25 = .ok (.iload_n 1, 1) := dk_27 (dk_at dksX3_repair_1 3 rfl rfl)
theorem dX3_repair_26 : decode cX3_repair 26 = .ok (.iaload, 1) := dk_46 (dk_at dksX3_repair_1 4 rfl rfl)
theorem dX3_repair_27 : decode cX3_repair 27 = .ok (.goto 8, 3) := dk_167 0 8 (dk_at dksX3_repair_1 5 rfl rfl)
theorem dX3_repair_30 : decode cX3_repair 30 = .ok (.aload_n 0, 1) := dk_42 (dk_at dksX3_repair_1 8 rfl rfl)
theorem dX3_repair_31 : decode cX3_repair 31 = .ok (.iconst 1, 1) := dk_4 (dk_at dksX3_repair_1 9 rfl rfl)
theorem dX3_repair_32 : decode cX3_repair 32 = .ok (.invokevirtual 59, 3) := dk_182 0 59 (dk_at dksX3_repair_1 10 rfl rfl)
theorem dX3_repair_35 : decode cX3_repair 35 = .ok (.ireturn, 1) := dk_172 (dk_at dksX3_repair_1 13 rfl rfl)
abbrev cX3_pass : ByteArray := prog_8_method_46_code
def yX3_pass : MethodName := ⟨RX3, "pass", "(I)I"⟩
def dkwX3_pass_1 : List UInt8 := [3, 62, 29, 27, 162, 0, 16, 28, 42, 182, 0, 153, 96, 61, 132, 3, 1, 167, 255, 241, 28, 172]
abbrev dktX3_pass_1 : List UInt8 := dkwX3_pass_1 ++ []
def dkwX3_pass_0 : List UInt8 := [42, 3, 181, 0, 31, 27, 4, 17, 0, 200, 184, 0, 38, 154, 0, 9, 42, 4, 182, 0, 59, 172, 3, 61]
abbrev dktX3_pass_0 : List UInt8 := dkwX3_pass_0 ++ dktX3_pass_1
theorem dksX3_pass_0 : cX3_pass.data.toList.drop 0 = dktX3_pass_0 := by decide +kernel
theorem dksX3_pass_1 : cX3_pass.data.toList.drop 24 = dktX3_pass_1 := dk_seg dksX3_pass_0 24 rfl rfl
theorem dX3_pass_0 : decode cX3_pass 0 = .ok (.aload_n 0, 1) := dk_42 (dk_at dksX3_pass_0 0 rfl rfl)
theorem dX3_pass_1 : decode cX3_pass 1 = .ok (.iconst 0, 1) := dk_3 (dk_at dksX3_pass_0 1 rfl rfl)
theorem dX3_pass_2 : decode cX3_pass 2 = .ok (.putfield 31, 3) := dk_181 0 31 (dk_at dksX3_pass_0 2 rfl rfl)
theorem dX3_pass_5 : decode cX3_pass 5 = .ok (.iload_n 1, 1) := dk_27 (dk_at dksX3_pass_0 5 rfl rfl)
theorem dX3_pass_6 : decode cX3_pass 6 = .ok (.iconst 1, 1) := dk_4 (dk_at dksX3_pass_0 6 rfl rfl)
theorem dX3_pass_7 : decode cX3_pass 7 = .ok (.sipush 200, 3) := dk_17 0 200 (dk_at dksX3_pass_0 7 rfl rfl)
theorem dX3_pass_10 : decode cX3_pass 10 = .ok (.invokestatic 38, 3) := dk_184 0 38 (dk_at dksX3_pass_0 10 rfl rfl)
theorem dX3_pass_13 : decode cX3_pass 13 = .ok (.ifCond .ne 9, 3) := dk_154 0 9 (dk_at dksX3_pass_0 13 rfl rfl)
theorem dX3_pass_16 : decode cX3_pass 16 = .ok (.aload_n 0, 1) := dk_42 (dk_at dksX3_pass_0 16 rfl rfl)
theorem dX3_pass_17 : decode cX3_pass 17 = .ok (.iconst 1, 1) := dk_4 (dk_at dksX3_pass_0 17 rfl rfl)
theorem dX3_pass_18 : decode cX3_pass 18 = .ok (.invokevirtual 59, 3) := dk_182 0 59 (dk_at dksX3_pass_0 18 rfl rfl)
theorem dX3_pass_21 : decode cX3_pass 21 = .ok (.ireturn, 1) := dk_172 (dk_at dksX3_pass_0 21 rfl rfl)
theorem dX3_pass_22 : decode cX3_pass 22 = .ok (.iconst 0, 1) := dk_3 (dk_at dksX3_pass_0 22 rfl rfl)
theorem dX3_pass_23 : decode cX3_pass 23 = .ok (.istore_n 2, 1) := dk_61 (dk_at dksX3_pass_0 23 rfl rfl)
theorem dX3_pass_24 : decode cX3_pass 24 = .ok (.iconst 0, 1) := dk_3 (dk_at dksX3_pass_1 0 rfl rfl)
theorem dX3_pass_25 : decode cX3_pass 25 = .ok (.istore_n 3, 1) := dk_62 (dk_at dksX3_pass_1 1 rfl rfl)
theorem dX3_pass_26 : decode cX3_pass 26 = .ok (.iload_n 3, 1) := dk_29 (dk_at dksX3_pass_1 2 rfl rfl)
theorem dX3_pass_27 : decode cX3_pass 27 = .ok (.iload_n 1, 1) := dk_27 (dk_at dksX3_pass_1 3 rfl rfl)
theorem dX3_pass_28 : decode cX3_pass 28 = .ok (.if_icmp .ge 16, 3) := dk_162 0 16 (dk_at dksX3_pass_1 4 rfl rfl)
theorem dX3_pass_31 : decode cX3_pass 31 = .ok (.iload_n 2, 1) := dk_28 (dk_at dksX3_pass_1 7 rfl rfl)
theorem dX3_pass_32 : decode cX3_pass 32 = .ok (.aload_n 0, 1) := dk_42 (dk_at dksX3_pass_1 8 rfl rfl)
theorem dX3_pass_33 : decode cX3_pass 33 = .ok (.invokevirtual 153, 3) := dk_182 0 153 (dk_at dksX3_pass_1 9 rfl rfl)
theorem dX3_pass_36 : decode cX3_pass 36 = .ok (.iadd, 1) := dk_96 (dk_at dksX3_pass_1 12 rfl rfl)
theorem dX3_pass_37 : decode cX3_pass 37 = .ok (.istore_n 2, 1) := dk_61 (dk_at dksX3_pass_1 13 rfl rfl)
theorem dX3_pass_38 : decode cX3_pass 38 = .ok (.iinc 3 1, 3) := dk_132 3 1 (dk_at dksX3_pass_1 14 rfl rfl)
theorem dX3_pass_41 : decode cX3_pass 41 = .ok (.goto (-15), 3) := dk_167 255 241 (dk_at dksX3_pass_1 17 rfl rfl)
theorem dX3_pass_44 : decode cX3_pass 44 = .ok (.iload_n 2, 1) := dk_28 (dk_at dksX3_pass_1 20 rfl rfl)
theorem dX3_pass_45 : decode cX3_pass 45 = .ok (.ireturn, 1) := dk_172 (dk_at dksX3_pass_1 21 rfl rfl)
abbrev cX3_roundOn : ByteArray := prog_8_method_45_code
def yX3_roundOn : MethodName := ⟨RX3, "roundOn", "()I"⟩
def dkwX3_roundOn_1 : List UInt8 := [167, 255, 237, 42, 182, 0, 150, 42, 180, 0, 28, 3, 92, 46, 4, 96, 79, 27, 172]
abbrev dktX3_roundOn_1 : List UInt8 := dkwX3_roundOn_1 ++ []
def dkwX3_roundOn_0 : List UInt8 := [3, 60, 3, 61, 28, 42, 180, 0, 42, 162, 0, 17, 27, 42, 28, 182, 0, 147, 96, 60, 132, 2, 1]
abbrev dktX3_roundOn_0 : List UInt8 := dkwX3_roundOn_0 ++ dktX3_roundOn_1
theorem dksX3_roundOn_0 : cX3_roundOn.data.toList.drop 0 = dktX3_roundOn_0 := by decide +kernel
theorem dksX3_roundOn_1 : cX3_roundOn.data.toList.drop 23 = dktX3_roundOn_1 := dk_seg dksX3_roundOn_0 23 rfl rfl
theorem dX3_roundOn_0 : decode cX3_roundOn 0 = .ok (.iconst 0, 1) := dk_3 (dk_at dksX3_roundOn_0 0 rfl rfl)
theorem dX3_roundOn_1 : decode cX3_roundOn 1 = .ok (.istore_n 1, 1) := dk_60 (dk_at dksX3_roundOn_0 1 rfl rfl)
theorem dX3_roundOn_2 : decode cX3_roundOn 2 = .ok (.iconst 0, 1) := dk_3 (dk_at dksX3_roundOn_0 2 rfl rfl)
theorem dX3_roundOn_3 : decode cX3_roundOn 3 = .ok (.istore_n 2, 1) := dk_61 (dk_at dksX3_roundOn_0 3 rfl rfl)
theorem dX3_roundOn_4 : decode cX3_roundOn 4 = .ok (.iload_n 2, 1) := dk_28 (dk_at dksX3_roundOn_0 4 rfl rfl)
theorem dX3_roundOn_5 : decode cX3_roundOn 5 = .ok (.aload_n 0, 1) := dk_42 (dk_at dksX3_roundOn_0 5 rfl rfl)
theorem dX3_roundOn_6 : decode cX3_roundOn 6 = .ok (.getfield 42, 3) := dk_180 0 42 (dk_at dksX3_roundOn_0 6 rfl rfl)
theorem dX3_roundOn_9 : decode cX3_roundOn 9 = .ok (.if_icmp .ge 17, 3) := dk_162 0 17 (dk_at dksX3_roundOn_0 9 rfl rfl)
theorem dX3_roundOn_12 : decode cX3_roundOn 12 = .ok (.iload_n 1, 1) := dk_27 (dk_at dksX3_roundOn_0 12 rfl rfl)
theorem dX3_roundOn_13 : decode cX3_roundOn 13 = .ok (.aload_n 0, 1) := dk_42 (dk_at dksX3_roundOn_0 13 rfl rfl)
theorem dX3_roundOn_14 : decode cX3_roundOn 14 = .ok (.iload_n 2, 1) := dk_28 (dk_at dksX3_roundOn_0 14 rfl rfl)
theorem dX3_roundOn_15 : decode cX3_roundOn 15 = .ok (.invokevirtual 147, 3) := dk_182 0 147 (dk_at dksX3_roundOn_0 15 rfl rfl)
theorem dX3_roundOn_18 : decode cX3_roundOn 18 = .ok (.iadd, 1) := dk_96 (dk_at dksX3_roundOn_0 18 rfl rfl)
theorem dX3_roundOn_19 : decode cX3_roundOn 19 = .ok (.istore_n 1, 1) := dk_60 (dk_at dksX3_roundOn_0 19 rfl rfl)
theorem dX3_roundOn_20 : decode cX3_roundOn 20 = .ok (.iinc 2 1, 3) := dk_132 2 1 (dk_at dksX3_roundOn_0 20 rfl rfl)
theorem dX3_roundOn_23 : decode cX3_roundOn 23 = .ok (.goto (-19), 3) := dk_167 255 237 (dk_at dksX3_roundOn_1 0 rfl rfl)
theorem dX3_roundOn_26 : decode cX3_roundOn 26 = .ok (.aload_n 0, 1) := dk_42 (dk_at dksX3_roundOn_1 3 rfl rfl)
theorem dX3_roundOn_27 : decode cX3_roundOn 27 = .ok (.invokevirtual 150, 3) := dk_182 0 150 (dk_at dksX3_roundOn_1 4 rfl rfl)
theorem dX3_roundOn_30 : decode cX3_roundOn 30 = .ok (.aload_n 0, 1) := dk_42 (dk_at dksX3_roundOn_1 7 rfl rfl)
theorem dX3_roundOn_31 : decode cX3_roundOn 31 = .ok (.getfield 28, 3) := dk_180 0 28 (dk_at dksX3_roundOn_1 8 rfl rfl)
theorem dX3_roundOn_34 : decode cX3_roundOn 34 = .ok (.iconst 0, 1) := dk_3 (dk_at dksX3_roundOn_1 11 rfl rfl)
theorem dX3_roundOn_35 : decode cX3_roundOn 35 = .ok (.dup2, 1) := dk_92 (dk_at dksX3_roundOn_1 12 rfl rfl)
theorem dX3_roundOn_36 : decode cX3_roundOn 36 = .ok (.iaload, 1) := dk_46 (dk_at dksX3_roundOn_1 13 rfl rfl)
theorem dX3_roundOn_37 : decode cX3_roundOn 37 = .ok (.iconst 1, 1) := dk_4 (dk_at dksX3_roundOn_1 14 rfl rfl)
theorem dX3_roundOn_38 : decode cX3_roundOn 38 = .ok (.iadd, 1) := dk_96 (dk_at dksX3_roundOn_1 15 rfl rfl)
theorem dX3_roundOn_39 : decode cX3_roundOn 39 = .ok (.iastore, 1) := dk_79 (dk_at dksX3_roundOn_1 16 rfl rfl)
theorem dX3_roundOn_40 : decode cX3_roundOn 40 = .ok (.iload_n 1, 1) := dk_27 (dk_at dksX3_roundOn_1 17 rfl rfl)
theorem dX3_roundOn_41 : decode cX3_roundOn 41 = .ok (.ireturn, 1) := dk_172 (dk_at dksX3_roundOn_1 18 rfl rfl)
abbrev cX3_turn : ByteArray := prog_8_method_44_code
def yX3_turn : MethodName := ⟨RX3, "turn", "(I)I"⟩
def dkwX3_turn_6 : List UInt8 := [42, 27, 4, 182, 0, 78, 161, 0, 9, 42, 27, 2, 182, 0, 116, 21, 4, 172]
abbrev dktX3_turn_6 : List UInt8 := dkwX3_turn_6 ++ []
def dkwX3_turn_5 : List UInt8 := [154, 0, 14, 42, 27, 6, 182, 0, 78, 4, 96, 167, 0, 4, 3, 182, 0, 109, 42, 27, 6, 182, 0, 78]
abbrev dktX3_turn_5 : List UInt8 := dkwX3_turn_5 ++ dktX3_turn_6
def dkwX3_turn_4 : List UInt8 := [153, 0, 12, 42, 28, 29, 182, 0, 101, 167, 0, 4, 3, 182, 0, 129, 54, 4, 42, 27, 6, 21, 4]
abbrev dktX3_turn_4 : List UInt8 := dkwX3_turn_4 ++ dktX3_turn_5
def dkwX3_turn_3 : List UInt8 := [46, 42, 28, 4, 182, 0, 45, 112, 167, 0, 4, 3, 62, 42, 27, 28, 29, 42, 28, 182, 0, 49]
abbrev dktX3_turn_3 : List UInt8 := dkwX3_turn_3 ++ dktX3_turn_4
def dkwX3_turn_2 : List UInt8 := [154, 0, 11, 42, 27, 2, 182, 0, 116, 3, 172, 42, 28, 182, 0, 49, 153, 0, 19, 42, 180, 0, 28, 3]
abbrev dktX3_turn_2 : List UInt8 := dkwX3_turn_2 ++ dktX3_turn_3
def dkwX3_turn_1 : List UInt8 := [182, 0, 143, 182, 0, 116, 3, 172, 42, 28, 182, 0, 126, 153, 0, 12, 42, 27, 3, 182, 0, 78]
abbrev dktX3_turn_1 : List UInt8 := dkwX3_turn_1 ++ dktX3_turn_2
def dkwX3_turn_0 : List UInt8 := [42, 27, 5, 182, 0, 78, 61, 28, 2, 160, 0, 23, 42, 27, 3, 182, 0, 78, 158, 0, 12, 42, 27, 42]
abbrev dktX3_turn_0 : List UInt8 := dkwX3_turn_0 ++ dktX3_turn_1
theorem dksX3_turn_0 : cX3_turn.data.toList.drop 0 = dktX3_turn_0 := by decide +kernel
theorem dksX3_turn_1 : cX3_turn.data.toList.drop 24 = dktX3_turn_1 := dk_seg dksX3_turn_0 24 rfl rfl
theorem dksX3_turn_2 : cX3_turn.data.toList.drop 46 = dktX3_turn_2 := dk_seg dksX3_turn_1 22 rfl rfl
theorem dksX3_turn_3 : cX3_turn.data.toList.drop 70 = dktX3_turn_3 := dk_seg dksX3_turn_2 24 rfl rfl
theorem dksX3_turn_4 : cX3_turn.data.toList.drop 92 = dktX3_turn_4 := dk_seg dksX3_turn_3 22 rfl rfl
theorem dksX3_turn_5 : cX3_turn.data.toList.drop 115 = dktX3_turn_5 := dk_seg dksX3_turn_4 23 rfl rfl
theorem dksX3_turn_6 : cX3_turn.data.toList.drop 139 = dktX3_turn_6 := dk_seg dksX3_turn_5 24 rfl rfl
theorem dX3_turn_0 : decode cX3_turn 0 = .ok (.aload_n 0, 1) := dk_42 (dk_at dksX3_turn_0 0 rfl rfl)
theorem dX3_turn_1 : decode cX3_turn 1 = .ok (.iload_n 1, 1) := dk_27 (dk_at dksX3_turn_0 1 rfl rfl)
theorem dX3_turn_2 : decode cX3_turn 2 = .ok (.iconst 2, 1) := dk_5 (dk_at dksX3_turn_0 2 rfl rfl)
theorem dX3_turn_3 : decode cX3_turn 3 = .ok (.invokevirtual 78, 3) := dk_182 0 78 (dk_at dksX3_turn_0 3 rfl rfl)
theorem dX3_turn_6 : decode cX3_turn 6 = .ok (.istore_n 2, 1) := dk_61 (dk_at dksX3_turn_0 6 rfl rfl)
theorem dX3_turn_7 : decode cX3_turn 7 = .ok (.iload_n 2, 1) := dk_28 (dk_at dksX3_turn_0 7 rfl rfl)
theorem dX3_turn_8 : decode cX3_turn 8 = .ok (.iconst (-1), 1) := dk_2 (dk_at dksX3_turn_0 8 rfl rfl)
theorem dX3_turn_9 : decode cX3_turn 9 = .ok (.if_icmp .ne 23, 3) := dk_160 0 23 (dk_at dksX3_turn_0 9 rfl rfl)
theorem dX3_turn_12 : decode cX3_turn 12 = .ok (.aload_n 0, 1) := dk_42 (dk_at dksX3_turn_0 12 rfl rfl)
theorem dX3_turn_13 : decode cX3_turn 13 = .ok (.iload_n 1, 1) := dk_27 (dk_at dksX3_turn_0 13 rfl rfl)
theorem dX3_turn_14 : decode cX3_turn 14 = .ok (.iconst 0, 1) := dk_3 (dk_at dksX3_turn_0 14 rfl rfl)
theorem dX3_turn_15 : decode cX3_turn 15 = .ok (.invokevirtual 78, 3) := dk_182 0 78 (dk_at dksX3_turn_0 15 rfl rfl)
theorem dX3_turn_18 : decode cX3_turn 18 = .ok (.ifCond .le 12, 3) := dk_158 0 12 (dk_at dksX3_turn_0 18 rfl rfl)
theorem dX3_turn_21 : decode cX3_turn 21 = .ok (.aload_n 0, 1) := dk_42 (dk_at dksX3_turn_0 21 rfl rfl)
theorem dX3_turn_22 : decode cX3_turn 22 = .ok (.iload_n 1, 1) := dk_27 (dk_at dksX3_turn_0 22 rfl rfl)
theorem dX3_turn_23 : decode cX3_turn 23 = .ok (.aload_n 0, 1) := dk_42 (dk_at dksX3_turn_0 23 rfl rfl)
theorem dX3_turn_24 : decode cX3_turn 24 = .ok (.invokevirtual 143, 3) := dk_182 0 143 (dk_at dksX3_turn_1 0 rfl rfl)
theorem dX3_turn_27 : decode cX3_turn 27 = .ok (.invokevirtual 116, 3) := dk_182 0 116 (dk_at dksX3_turn_1 3 rfl rfl)
theorem dX3_turn_30 : decode cX3_turn 30 = .ok (.iconst 0, 1) := dk_3 (dk_at dksX3_turn_1 6 rfl rfl)
theorem dX3_turn_31 : decode cX3_turn 31 = .ok (.ireturn, 1) := dk_172 (dk_at dksX3_turn_1 7 rfl rfl)
theorem dX3_turn_32 : decode cX3_turn 32 = .ok (.aload_n 0, 1) := dk_42 (dk_at dksX3_turn_1 8 rfl rfl)
theorem dX3_turn_33 : decode cX3_turn 33 = .ok (.iload_n 2, 1) := dk_28 (dk_at dksX3_turn_1 9 rfl rfl)
theorem dX3_turn_34 : decode cX3_turn 34 = .ok (.invokevirtual 126, 3) := dk_182 0 126 (dk_at dksX3_turn_1 10 rfl rfl)
theorem dX3_turn_37 : decode cX3_turn 37 = .ok (.ifCond .eq 12, 3) := dk_153 0 12 (dk_at dksX3_turn_1 13 rfl rfl)
theorem dX3_turn_40 : decode cX3_turn 40 = .ok (.aload_n 0, 1) := dk_42 (dk_at dksX3_turn_1 16 rfl rfl)
theorem dX3_turn_41 : decode cX3_turn 41 = .ok (.iload_n 1, 1) := dk_27 (dk_at dksX3_turn_1 17 rfl rfl)
theorem dX3_turn_42 : decode cX3_turn 42 = .ok (.iconst 0, 1) := dk_3 (dk_at dksX3_turn_1 18 rfl rfl)
theorem dX3_turn_43 : decode cX3_turn 43 = .ok (.invokevirtual 78, 3) := dk_182 0 78 (dk_at dksX3_turn_1 19 rfl rfl)
theorem dX3_turn_46 : decode cX3_turn 46 = .ok (.ifCond .ne 11, 3) := dk_154 0 11 (dk_at dksX3_turn_2 0 rfl rfl)
theorem dX3_turn_49 : decode cX3_turn 49 = .ok (.aload_n 0, 1) := dk_42 (dk_at dksX3_turn_2 3 rfl rfl)
theorem dX3_turn_50 : decode cX3_turn 50 = .ok (.iload_n 1, 1) := dk_27 (dk_at dksX3_turn_2 4 rfl rfl)
theorem dX3_turn_51 : decode cX3_turn 51 = .ok (.iconst (-1), 1) := dk_2 (dk_at dksX3_turn_2 5 rfl rfl)
theorem dX3_turn_52 : decode cX3_turn 52 = .ok (.invokevirtual 116, 3) := dk_182 0 116 (dk_at dksX3_turn_2 6 rfl rfl)
theorem dX3_turn_55 : decode cX3_turn 55 = .ok (.iconst 0, 1) := dk_3 (dk_at dksX3_turn_2 9 rfl rfl)
theorem dX3_turn_56 : decode cX3_turn 56 = .ok (.ireturn, 1) := dk_172 (dk_at dksX3_turn_2 10 rfl rfl)
theorem dX3_turn_57 : decode cX3_turn 57 = .ok (.aload_n 0, 1) := dk_42 (dk_at dksX3_turn_2 11 rfl rfl)
theorem dX3_turn_58 : decode cX3_turn 58 = .ok (.iload_n 2, 1) := dk_28 (dk_at dksX3_turn_2 12 rfl rfl)
theorem dX3_turn_59 : decode cX3_turn 59 = .ok (.invokevirtual 49, 3) := dk_182 0 49 (dk_at dksX3_turn_2 13 rfl rfl)
theorem dX3_turn_62 : decode cX3_turn 62 = .ok (.ifCond .eq 19, 3) := dk_153 0 19 (dk_at dksX3_turn_2 16 rfl rfl)
theorem dX3_turn_65 : decode cX3_turn 65 = .ok (.aload_n 0, 1) := dk_42 (dk_at dksX3_turn_2 19 rfl rfl)
theorem dX3_turn_66 : decode cX3_turn 66 = .ok (.getfield 28, 3) := dk_180 0 28 (dk_at dksX3_turn_2 20 rfl rfl)
theorem dX3_turn_69 : decode cX3_turn 69 = .ok (.iconst 0, 1) := dk_3 (dk_at dksX3_turn_2 23 rfl rfl)
theorem dX3_turn_70 : decode cX3_turn 70 = .ok (.iaload, 1) := dk_46 (dk_at dksX3_turn_3 0 rfl rfl)
theorem dX3_turn_71 : decode cX3_turn 71 = .ok (.aload_n 0, 1) := dk_42 (dk_at dksX3_turn_3 1 rfl rfl)
theorem dX3_turn_72 : decode cX3_turn 72 = .ok (.iload_n 2, 1) := dk_28 (dk_at dksX3_turn_3 2 rfl rfl)
theorem dX3_turn_73 : decode cX3_turn 73 = .ok (.iconst 1, 1) := dk_4 (dk_at dksX3_turn_3 3 rfl rfl)
theorem dX3_turn_74 : decode cX3_turn 74 = .ok (.invokevirtual 45, 3) := dk_182 0 45 (dk_at dksX3_turn_3 4 rfl rfl)
theorem dX3_turn_77 : decode cX3_turn 77 = .ok (.irem, 1) := dk_112 (dk_at dksX3_turn_3 7 rfl rfl)
theorem dX3_turn_78 : decode cX3_turn 78 = .ok (.goto 4, 3) := dk_167 0 4 (dk_at dksX3_turn_3 8 rfl rfl)
theorem dX3_turn_81 : decode cX3_turn 81 = .ok (.iconst 0, 1) := dk_3 (dk_at dksX3_turn_3 11 rfl rfl)
theorem dX3_turn_82 : decode cX3_turn 82 = .ok (.istore_n 3, 1) := dk_62 (dk_at dksX3_turn_3 12 rfl rfl)
theorem dX3_turn_83 : decode cX3_turn 83 = .ok (.aload_n 0, 1) := dk_42 (dk_at dksX3_turn_3 13 rfl rfl)
theorem dX3_turn_84 : decode cX3_turn 84 = .ok (.iload_n 1, 1) := dk_27 (dk_at dksX3_turn_3 14 rfl rfl)
theorem dX3_turn_85 : decode cX3_turn 85 = .ok (.iload_n 2, 1) := dk_28 (dk_at dksX3_turn_3 15 rfl rfl)
theorem dX3_turn_86 : decode cX3_turn 86 = .ok (.iload_n 3, 1) := dk_29 (dk_at dksX3_turn_3 16 rfl rfl)
theorem dX3_turn_87 : decode cX3_turn 87 = .ok (.aload_n 0, 1) := dk_42 (dk_at dksX3_turn_3 17 rfl rfl)
theorem dX3_turn_88 : decode cX3_turn 88 = .ok (.iload_n 2, 1) := dk_28 (dk_at dksX3_turn_3 18 rfl rfl)
theorem dX3_turn_89 : decode cX3_turn 89 = .ok (.invokevirtual 49, 3) := dk_182 0 49 (dk_at dksX3_turn_3 19 rfl rfl)
theorem dX3_turn_92 : decode cX3_turn 92 = .ok (.ifCond .eq 12, 3) := dk_153 0 12 (dk_at dksX3_turn_4 0 rfl rfl)
theorem dX3_turn_95 : decode cX3_turn 95 = .ok (.aload_n 0, 1) := dk_42 (dk_at dksX3_turn_4 3 rfl rfl)
theorem dX3_turn_96 : decode cX3_turn 96 = .ok (.iload_n 2, 1) := dk_28 (dk_at dksX3_turn_4 4 rfl rfl)
theorem dX3_turn_97 : decode cX3_turn 97 = .ok (.iload_n 3, 1) := dk_29 (dk_at dksX3_turn_4 5 rfl rfl)
theorem dX3_turn_98 : decode cX3_turn 98 = .ok (.invokevirtual 101, 3) := dk_182 0 101 (dk_at dksX3_turn_4 6 rfl rfl)
theorem dX3_turn_101 : decode cX3_turn 101 = .ok (.goto 4, 3) := dk_167 0 4 (dk_at dksX3_turn_4 9 rfl rfl)
theorem dX3_turn_104 : decode cX3_turn 104 = .ok (.iconst 0, 1) := dk_3 (dk_at dksX3_turn_4 12 rfl rfl)
theorem dX3_turn_105 : decode cX3_turn 105 = .ok (.invokevirtual 129, 3) := dk_182 0 129 (dk_at dksX3_turn_4 13 rfl rfl)
theorem dX3_turn_108 : decode cX3_turn 108 = .ok (.istore 4, 2) := dk_54 4 (dk_at dksX3_turn_4 16 rfl rfl)
theorem dX3_turn_110 : decode cX3_turn 110 = .ok (.aload_n 0, 1) := dk_42 (dk_at dksX3_turn_4 18 rfl rfl)
theorem dX3_turn_111 : decode cX3_turn 111 = .ok (.iload_n 1, 1) := dk_27 (dk_at dksX3_turn_4 19 rfl rfl)
theorem dX3_turn_112 : decode cX3_turn 112 = .ok (.iconst 3, 1) := dk_6 (dk_at dksX3_turn_4 20 rfl rfl)
theorem dX3_turn_113 : decode cX3_turn 113 = .ok (.iload 4, 2) := dk_21 4 (dk_at dksX3_turn_4 21 rfl rfl)
theorem dX3_turn_115 : decode cX3_turn 115 = .ok (.ifCond .ne 14, 3) := dk_154 0 14 (dk_at dksX3_turn_5 0 rfl rfl)
theorem dX3_turn_118 : decode cX3_turn 118 = .ok (.aload_n 0, 1) := dk_42 (dk_at dksX3_turn_5 3 rfl rfl)
theorem dX3_turn_119 : decode cX3_turn 119 = .ok (.iload_n 1, 1) := dk_27 (dk_at dksX3_turn_5 4 rfl rfl)
theorem dX3_turn_120 : decode cX3_turn 120 = .ok (.iconst 3, 1) := dk_6 (dk_at dksX3_turn_5 5 rfl rfl)
theorem dX3_turn_121 : decode cX3_turn 121 = .ok (.invokevirtual 78, 3) := dk_182 0 78 (dk_at dksX3_turn_5 6 rfl rfl)
theorem dX3_turn_124 : decode cX3_turn 124 = .ok (.iconst 1, 1) := dk_4 (dk_at dksX3_turn_5 9 rfl rfl)
theorem dX3_turn_125 : decode cX3_turn 125 = .ok (.iadd, 1) := dk_96 (dk_at dksX3_turn_5 10 rfl rfl)
theorem dX3_turn_126 : decode cX3_turn 126 = .ok (.goto 4, 3) := dk_167 0 4 (dk_at dksX3_turn_5 11 rfl rfl)
theorem dX3_turn_129 : decode cX3_turn 129 = .ok (.iconst 0, 1) := dk_3 (dk_at dksX3_turn_5 14 rfl rfl)
theorem dX3_turn_130 : decode cX3_turn 130 = .ok (.invokevirtual 109, 3) := dk_182 0 109 (dk_at dksX3_turn_5 15 rfl rfl)
theorem dX3_turn_133 : decode cX3_turn 133 = .ok (.aload_n 0, 1) := dk_42 (dk_at dksX3_turn_5 18 rfl rfl)
theorem dX3_turn_134 : decode cX3_turn 134 = .ok (.iload_n 1, 1) := dk_27 (dk_at dksX3_turn_5 19 rfl rfl)
theorem dX3_turn_135 : decode cX3_turn 135 = .ok (.iconst 3, 1) := dk_6 (dk_at dksX3_turn_5 20 rfl rfl)
theorem dX3_turn_136 : decode cX3_turn 136 = .ok (.invokevirtual 78, 3) := dk_182 0 78 (dk_at dksX3_turn_5 21 rfl rfl)
theorem dX3_turn_139 : decode cX3_turn 139 = .ok (.aload_n 0, 1) := dk_42 (dk_at dksX3_turn_6 0 rfl rfl)
theorem dX3_turn_140 : decode cX3_turn 140 = .ok (.iload_n 1, 1) := dk_27 (dk_at dksX3_turn_6 1 rfl rfl)
theorem dX3_turn_141 : decode cX3_turn 141 = .ok (.iconst 1, 1) := dk_4 (dk_at dksX3_turn_6 2 rfl rfl)
theorem dX3_turn_142 : decode cX3_turn 142 = .ok (.invokevirtual 78, 3) := dk_182 0 78 (dk_at dksX3_turn_6 3 rfl rfl)
theorem dX3_turn_145 : decode cX3_turn 145 = .ok (.if_icmp .lt 9, 3) := dk_161 0 9 (dk_at dksX3_turn_6 6 rfl rfl)
theorem dX3_turn_148 : decode cX3_turn 148 = .ok (.aload_n 0, 1) := dk_42 (dk_at dksX3_turn_6 9 rfl rfl)
theorem dX3_turn_149 : decode cX3_turn 149 = .ok (.iload_n 1, 1) := dk_27 (dk_at dksX3_turn_6 10 rfl rfl)
theorem dX3_turn_150 : decode cX3_turn 150 = .ok (.iconst (-1), 1) := dk_2 (dk_at dksX3_turn_6 11 rfl rfl)
theorem dX3_turn_151 : decode cX3_turn 151 = .ok (.invokevirtual 116, 3) := dk_182 0 116 (dk_at dksX3_turn_6 12 rfl rfl)
theorem dX3_turn_154 : decode cX3_turn 154 = .ok (.iload 4, 2) := dk_21 4 (dk_at dksX3_turn_6 15 rfl rfl)
theorem dX3_turn_156 : decode cX3_turn 156 = .ok (.ireturn, 1) := dk_172 (dk_at dksX3_turn_6 17 rfl rfl)
abbrev cX3_lure : ByteArray := prog_8_method_43_code
def yX3_lure : MethodName := ⟨RX3, "lure", "()I"⟩
def dkwX3_lure_2 : List UInt8 := [182, 0, 81, 96, 164, 0, 5, 28, 60, 132, 2, 1, 167, 255, 203, 27, 172]
abbrev dktX3_lure_2 : List UInt8 := dkwX3_lure_2 ++ []
def dkwX3_lure_1 : List UInt8 := [159, 0, 30, 42, 28, 7, 182, 0, 45, 42, 28, 182, 0, 81, 96, 42, 27, 7, 182, 0, 45, 42, 27]
abbrev dktX3_lure_1 : List UInt8 := dkwX3_lure_1 ++ dktX3_lure_2
def dkwX3_lure_0 : List UInt8 := [2, 60, 3, 61, 28, 42, 180, 0, 35, 162, 0, 51, 42, 28, 182, 0, 126, 153, 0, 37, 27, 2]
abbrev dktX3_lure_0 : List UInt8 := dkwX3_lure_0 ++ dktX3_lure_1
theorem dksX3_lure_0 : cX3_lure.data.toList.drop 0 = dktX3_lure_0 := by decide +kernel
theorem dksX3_lure_1 : cX3_lure.data.toList.drop 22 = dktX3_lure_1 := dk_seg dksX3_lure_0 22 rfl rfl
theorem dksX3_lure_2 : cX3_lure.data.toList.drop 45 = dktX3_lure_2 := dk_seg dksX3_lure_1 23 rfl rfl
theorem dX3_lure_0 : decode cX3_lure 0 = .ok (.iconst (-1), 1) := dk_2 (dk_at dksX3_lure_0 0 rfl rfl)
theorem dX3_lure_1 : decode cX3_lure 1 = .ok (.istore_n 1, 1) := dk_60 (dk_at dksX3_lure_0 1 rfl rfl)
theorem dX3_lure_2 : decode cX3_lure 2 = .ok (.iconst 0, 1) := dk_3 (dk_at dksX3_lure_0 2 rfl rfl)
theorem dX3_lure_3 : decode cX3_lure 3 = .ok (.istore_n 2, 1) := dk_61 (dk_at dksX3_lure_0 3 rfl rfl)
theorem dX3_lure_4 : decode cX3_lure 4 = .ok (.iload_n 2, 1) := dk_28 (dk_at dksX3_lure_0 4 rfl rfl)
theorem dX3_lure_5 : decode cX3_lure 5 = .ok (.aload_n 0, 1) := dk_42 (dk_at dksX3_lure_0 5 rfl rfl)
theorem dX3_lure_6 : decode cX3_lure 6 = .ok (.getfield 35, 3) := dk_180 0 35 (dk_at dksX3_lure_0 6 rfl rfl)
theorem dX3_lure_9 : decode cX3_lure 9 = .ok (.if_icmp .ge 51, 3) := dk_162 0 51 (dk_at dksX3_lure_0 9 rfl rfl)
theorem dX3_lure_12 : decode cX3_lure 12 = .ok (.aload_n 0, 1) := dk_42 (dk_at dksX3_lure_0 12 rfl rfl)
theorem dX3_lure_13 : decode cX3_lure 13 = .ok (.iload_n 2, 1) := dk_28 (dk_at dksX3_lure_0 13 rfl rfl)
theorem dX3_lure_14 : decode cX3_lure 14 = .ok (.invokevirtual 126, 3) := dk_182 0 126 (dk_at dksX3_lure_0 14 rfl rfl)
theorem dX3_lure_17 : decode cX3_lure 17 = .ok (.ifCond .eq 37, 3) := dk_153 0 37 (dk_at dksX3_lure_0 17 rfl rfl)
theorem dX3_lure_20 : decode cX3_lure 20 = .ok (.iload_n 1, 1) := dk_27 (dk_at dksX3_lure_0 20 rfl rfl)
theorem dX3_lure_21 : decode cX3_lure 21 = .ok (.iconst (-1), 1) := dk_2 (dk_at dksX3_lure_0 21 rfl rfl)
theorem dX3_lure_22 : decode cX3_lure 22 = .ok (.if_icmp .eq 30, 3) := dk_159 0 30 (dk_at dksX3_lure_1 0 rfl rfl)
theorem dX3_lure_25 : decode cX3_lure 25 = .ok (.aload_n 0, 1) := dk_42 (dk_at dksX3_lure_1 3 rfl rfl)
theorem dX3_lure_26 : decode cX3_lure 26 = .ok (.iload_n 2, 1) := dk_28 (dk_at dksX3_lure_1 4 rfl rfl)
theorem dX3_lure_27 : decode cX3_lure 27 = .ok (.iconst 4, 1) := dk_7 (dk_at dksX3_lure_1 5 rfl rfl)
theorem dX3_lure_28 : decode cX3_lure 28 = .ok (.invokevirtual 45, 3) := dk_182 0 45 (dk_at dksX3_lure_1 6 rfl rfl)
theorem dX3_lure_31 : decode cX3_lure 31 = .ok (.aload_n 0, 1) := dk_42 (dk_at dksX3_lure_1 9 rfl rfl)
theorem dX3_lure_32 : decode cX3_lure 32 = .ok (.iload_n 2, 1) := dk_28 (dk_at dksX3_lure_1 10 rfl rfl)
theorem dX3_lure_33 : decode cX3_lure 33 = .ok (.invokevirtual 81, 3) := dk_182 0 81 (dk_at dksX3_lure_1 11 rfl rfl)
theorem dX3_lure_36 : decode cX3_lure 36 = .ok (.iadd, 1) := dk_96 (dk_at dksX3_lure_1 14 rfl rfl)
theorem dX3_lure_37 : decode cX3_lure 37 = .ok (.aload_n 0, 1) := dk_42 (dk_at dksX3_lure_1 15 rfl rfl)
theorem dX3_lure_38 : decode cX3_lure 38 = .ok (.iload_n 1, 1) := dk_27 (dk_at dksX3_lure_1 16 rfl rfl)
theorem dX3_lure_39 : decode cX3_lure 39 = .ok (.iconst 4, 1) := dk_7 (dk_at dksX3_lure_1 17 rfl rfl)
theorem dX3_lure_40 : decode cX3_lure 40 = .ok (.invokevirtual 45, 3) := dk_182 0 45 (dk_at dksX3_lure_1 18 rfl rfl)
theorem dX3_lure_43 : decode cX3_lure 43 = .ok (.aload_n 0, 1) := dk_42 (dk_at dksX3_lure_1 21 rfl rfl)
theorem dX3_lure_44 : decode cX3_lure 44 = .ok (.iload_n 1, 1) := dk_27 (dk_at dksX3_lure_1 22 rfl rfl)
theorem dX3_lure_45 : decode cX3_lure 45 = .ok (.invokevirtual 81, 3) := dk_182 0 81 (dk_at dksX3_lure_2 0 rfl rfl)
theorem dX3_lure_48 : decode cX3_lure 48 = .ok (.iadd, 1) := dk_96 (dk_at dksX3_lure_2 3 rfl rfl)
theorem dX3_lure_49 : decode cX3_lure 49 = .ok (.if_icmp .le 5, 3) := dk_164 0 5 (dk_at dksX3_lure_2 4 rfl rfl)
theorem dX3_lure_52 : decode cX3_lure 52 = .ok (.iload_n 2, 1) := dk_28 (dk_at dksX3_lure_2 7 rfl rfl)
theorem dX3_lure_53 : decode cX3_lure 53 = .ok (.istore_n 1, 1) := dk_60 (dk_at dksX3_lure_2 8 rfl rfl)
theorem dX3_lure_54 : decode cX3_lure 54 = .ok (.iinc 2 1, 3) := dk_132 2 1 (dk_at dksX3_lure_2 9 rfl rfl)
theorem dX3_lure_57 : decode cX3_lure 57 = .ok (.goto (-53), 3) := dk_167 255 203 (dk_at dksX3_lure_2 12 rfl rfl)
theorem dX3_lure_60 : decode cX3_lure 60 = .ok (.iload_n 1, 1) := dk_27 (dk_at dksX3_lure_2 15 rfl rfl)
theorem dX3_lure_61 : decode cX3_lure 61 = .ok (.ireturn, 1) := dk_172 (dk_at dksX3_lure_2 16 rfl rfl)
abbrev cX3_repairOn : ByteArray := prog_8_method_42_code
def yX3_repairOn : MethodName := ⟨RX3, "repairOn", "()V"⟩
def dkwX3_repairOn_5 : List UInt8 := [4, 96, 46, 79, 132, 2, 1, 167, 255, 229, 177]
abbrev dktX3_repairOn_5 : List UInt8 := dkwX3_repairOn_5 ++ []
def dkwX3_repairOn_4 : List UInt8 := [100, 79, 3, 61, 28, 42, 180, 0, 28, 4, 46, 162, 0, 23, 42, 180, 0, 25, 28, 42, 180, 0, 25, 28]
abbrev dktX3_repairOn_4 : List UInt8 := dkwX3_repairOn_4 ++ dktX3_repairOn_5
def dkwX3_repairOn_3 : List UInt8 := [177, 42, 27, 8, 3, 182, 0, 120, 42, 27, 16, 6, 3, 182, 0, 120, 42, 180, 0, 28, 4, 92, 46, 4]
abbrev dktX3_repairOn_3 : List UInt8 := dkwX3_repairOn_3 ++ dktX3_repairOn_4
def dkwX3_repairOn_2 : List UInt8 := [100, 184, 0, 92, 79, 42, 180, 0, 28, 5, 92, 46, 4, 100, 79, 42, 180, 0, 28, 5, 46, 158, 0, 4]
abbrev dktX3_repairOn_2 : List UInt8 := dkwX3_repairOn_2 ++ dktX3_repairOn_3
def dkwX3_repairOn_1 : List UInt8 := [154, 0, 29, 42, 180, 0, 28, 5, 4, 42, 27, 8, 182, 0, 45, 16, 10, 108, 4, 96, 42, 180, 0, 133]
abbrev dktX3_repairOn_1 : List UInt8 := dkwX3_repairOn_1 ++ dktX3_repairOn_2
def dkwX3_repairOn_0 : List UInt8 := [42, 180, 0, 28, 4, 46, 154, 0, 4, 177, 42, 180, 0, 25, 3, 46, 60, 42, 180, 0, 28, 5, 46]
abbrev dktX3_repairOn_0 : List UInt8 := dkwX3_repairOn_0 ++ dktX3_repairOn_1
theorem dksX3_repairOn_0 : cX3_repairOn.data.toList.drop 0 = dktX3_repairOn_0 := by decide +kernel
theorem dksX3_repairOn_1 : cX3_repairOn.data.toList.drop 23 = dktX3_repairOn_1 := dk_seg dksX3_repairOn_0 23 rfl rfl
theorem dksX3_repairOn_2 : cX3_repairOn.data.toList.drop 47 = dktX3_repairOn_2 := dk_seg dksX3_repairOn_1 24 rfl rfl
theorem dksX3_repairOn_3 : cX3_repairOn.data.toList.drop 71 = dktX3_repairOn_3 := dk_seg dksX3_repairOn_2 24 rfl rfl
theorem dksX3_repairOn_4 : cX3_repairOn.data.toList.drop 95 = dktX3_repairOn_4 := dk_seg dksX3_repairOn_3 24 rfl rfl
theorem dksX3_repairOn_5 : cX3_repairOn.data.toList.drop 119 = dktX3_repairOn_5 := dk_seg dksX3_repairOn_4 24 rfl rfl
theorem dX3_repairOn_0 : decode cX3_repairOn 0 = .ok (.aload_n 0, 1) := dk_42 (dk_at dksX3_repairOn_0 0 rfl rfl)
theorem dX3_repairOn_1 : decode cX3_repairOn 1 = .ok (.getfield 28, 3) := dk_180 0 28 (dk_at dksX3_repairOn_0 1 rfl rfl)
theorem dX3_repairOn_4 : decode cX3_repairOn 4 = .ok (.iconst 1, 1) := dk_4 (dk_at dksX3_repairOn_0 4 rfl rfl)
theorem dX3_repairOn_5 : decode cX3_repairOn 5 = .ok (.iaload, 1) := dk_46 (dk_at dksX3_repairOn_0 5 rfl rfl)
theorem dX3_repairOn_6 : decode cX3_repairOn 6 = .ok (.ifCond .ne 4, 3) := dk_154 0 4 (dk_at dksX3_repairOn_0 6 rfl rfl)
theorem dX3_repairOn_9 : decode cX3_repairOn 9 = .ok (.return_, 1) := dk_177 (dk_at dksX3_repairOn_0 9 rfl rfl)
theorem dX3_repairOn_10 : decode cX3_repairOn 10 = .ok (.aload_n 0, 1) := dk_42 (dk_at dksX3_repairOn_0 10 rfl rfl)
theorem dX3_repairOn_11 : decode cX3_repairOn 11 = .ok (.getfield 25, 3) := dk_180 0 25 (dk_at dksX3_repairOn_0 11 rfl rfl)
theorem dX3_repairOn_14 : decode cX3_repairOn 14 = .ok (.iconst 0, 1) := dk_3 (dk_at dksX3_repairOn_0 14 rfl rfl)
theorem dX3_repairOn_15 : decode cX3_repairOn 15 = .ok (.iaload, 1) := dk_46 (dk_at dksX3_repairOn_0 15 rfl rfl)
theorem dX3_repairOn_16 : decode cX3_repairOn 16 = .ok (.istore_n 1, 1) := dk_60 (dk_at dksX3_repairOn_0 16 rfl rfl)
theorem dX3_repairOn_17 : decode cX3_repairOn 17 = .ok (.aload_n 0, 1) := dk_42 (dk_at dksX3_repairOn_0 17 rfl rfl)
theorem dX3_repairOn_18 : decode cX3_repairOn 18 = .ok (.getfield 28, 3) := dk_180 0 28 (dk_at dksX3_repairOn_0 18 rfl rfl)
theorem dX3_repairOn_21 : decode cX3_repairOn 21 = .ok (.iconst 2, 1) := dk_5 (dk_at dksX3_repairOn_0 21 rfl rfl)
theorem dX3_repairOn_22 : decode cX3_repairOn 22 = .ok (.iaload, 1) := dk_46 (dk_at dksX3_repairOn_0 22 rfl rfl)
theorem dX3_repairOn_23 : decode cX3_repairOn 23 = .ok (.ifCond .ne 29, 3) := dk_154 0 29 (dk_at dksX3_repairOn_1 0 rfl rfl)
theorem dX3_repairOn_26 : decode cX3_repairOn 26 = .ok (.aload_n 0, 1) := dk_42 (dk_at dksX3_repairOn_1 3 rfl rfl)
theorem dX3_repairOn_27 : decode cX3_repairOn 27 = .ok (.getfield 28, 3) := dk_180 0 28 (dk_at dksX3_repairOn_1 4 rfl rfl)
theorem dX3_repairOn_30 : decode cX3_repairOn 30 = .ok (.iconst 2, 1) := dk_5 (dk_at dksX3_repairOn_1 7 rfl rfl)
theorem dX3_repairOn_31 : decode cX3_repairOn 31 = .ok (.iconst 1, 1) := dk_4 (dk_at dksX3_repairOn_1 8 rfl rfl)
theorem dX3_repairOn_32 : decode cX3_repairOn 32 = .ok (.aload_n 0, 1) := dk_42 (dk_at dksX3_repairOn_1 9 rfl rfl)
theorem dX3_repairOn_33 : decode cX3_repairOn 33 = .ok (.iload_n 1, 1) := dk_27 (dk_at dksX3_repairOn_1 10 rfl rfl)
theorem dX3_repairOn_34 : decode cX3_repairOn 34 = .ok (.iconst 5, 1) := dk_8 (dk_at dksX3_repairOn_1 11 rfl rfl)
theorem dX3_repairOn_35 : decode cX3_repairOn 35 = .ok (.invokevirtual 45, 3) := dk_182 0 45 (dk_at dksX3_repairOn_1 12 rfl rfl)
theorem dX3_repairOn_38 : decode cX3_repairOn 38 = .ok (.bipush 10, 2) := dk_16 10 (dk_at dksX3_repairOn_1 15 rfl rfl)
theorem dX3_repairOn_40 : decode cX3_repairOn 40 = .ok (.idiv, 1) := dk_108 (dk_at dksX3_repairOn_1 17 rfl rfl)
theorem dX3_repairOn_41 : decode cX3_repairOn 41 = .ok (.iconst 1, 1) := dk_4 (dk_at dksX3_repairOn_1 18 rfl rfl)
theorem dX3_repairOn_42 : decode cX3_repairOn 42 = .ok (.iadd, 1) := dk_96 (dk_at dksX3_repairOn_1 19 rfl rfl)
theorem dX3_repairOn_43 : decode cX3_repairOn 43 = .ok (.aload_n 0, 1) := dk_42 (dk_at dksX3_repairOn_1 20 rfl rfl)
theorem dX3_repairOn_44 : decode cX3_repairOn 44 = .ok (.getfield 133, 3) := dk_180 0 133 (dk_at dksX3_repairOn_1 21 rfl rfl)
theorem dX3_repairOn_47 : decode cX3_repairOn 47 = .ok (.isub, 1) := dk_100 (dk_at dksX3_repairOn_2 0 rfl rfl)
theorem dX3_repairOn_48 : decode cX3_repairOn 48 = .ok (.invokestatic 92, 3) := dk_184 0 92 (dk_at dksX3_repairOn_2 1 rfl rfl)
theorem dX3_repairOn_51 : decode cX3_repairOn 51 = .ok (.iastore, 1) := dk_79 (dk_at dksX3_repairOn_2 4 rfl rfl)
theorem dX3_repairOn_52 : decode cX3_repairOn 52 = .ok (.aload_n 0, 1) := dk_42 (dk_at dksX3_repairOn_2 5 rfl rfl)
theorem dX3_repairOn_53 : decode cX3_repairOn 53 = .ok (.getfield 28, 3) := dk_180 0 28 (dk_at dksX3_repairOn_2 6 rfl rfl)
theorem dX3_repairOn_56 : decode cX3_repairOn 56 = .ok (.iconst 2, 1) := dk_5 (dk_at dksX3_repairOn_2 9 rfl rfl)
theorem dX3_repairOn_57 : decode cX3_repairOn 57 = .ok (.dup2, 1) := dk_92 (dk_at dksX3_repairOn_2 10 rfl rfl)
theorem dX3_repairOn_58 : decode cX3_repairOn 58 = .ok (.iaload, 1) := dk_46 (dk_at dksX3_repairOn_2 11 rfl rfl)
theorem dX3_repairOn_59 : decode cX3_repairOn 59 = .ok (.iconst 1, 1) := dk_4 (dk_at dksX3_repairOn_2 12 rfl rfl)
theorem dX3_repairOn_60 : decode cX3_repairOn 60 = .ok (.isub, 1) := dk_100 (dk_at dksX3_repairOn_2 13 rfl rfl)
theorem dX3_repairOn_61 : decode cX3_repairOn 61 = .ok (.iastore, 1) := dk_79 (dk_at dksX3_repairOn_2 14 rfl rfl)
theorem dX3_repairOn_62 : decode cX3_repairOn 62 = .ok (.aload_n 0, 1) := dk_42 (dk_at dksX3_repairOn_2 15 rfl rfl)
theorem dX3_repairOn_63 : decode cX3_repairOn 63 = .ok (.getfield 28, 3) := dk_180 0 28 (dk_at dksX3_repairOn_2 16 rfl rfl)
theorem dX3_repairOn_66 : decode cX3_repairOn 66 = .ok (.iconst 2, 1) := dk_5 (dk_at dksX3_repairOn_2 19 rfl rfl)
theorem dX3_repairOn_67 : decode cX3_repairOn 67 = .ok (.iaload, 1) := dk_46 (dk_at dksX3_repairOn_2 20 rfl rfl)
theorem dX3_repairOn_68 : decode cX3_repairOn 68 = .ok (.ifCond .le 4, 3) := dk_158 0 4 (dk_at dksX3_repairOn_2 21 rfl rfl)
theorem dX3_repairOn_71 : decode cX3_repairOn 71 = .ok (.return_, 1) := dk_177 (dk_at dksX3_repairOn_3 0 rfl rfl)
theorem dX3_repairOn_72 : decode cX3_repairOn 72 = .ok (.aload_n 0, 1) := dk_42 (dk_at dksX3_repairOn_3 1 rfl rfl)
theorem dX3_repairOn_73 : decode cX3_repairOn 73 = .ok (.iload_n 1, 1) := dk_27 (dk_at dksX3_repairOn_3 2 rfl rfl)
theorem dX3_repairOn_74 : decode cX3_repairOn 74 = .ok (.iconst 5, 1) := dk_8 (dk_at dksX3_repairOn_3 3 rfl rfl)
theorem dX3_repairOn_75 : decode cX3_repairOn 75 = .ok (.iconst 0, 1) := dk_3 (dk_at dksX3_repairOn_3 4 rfl rfl)
theorem dX3_repairOn_76 : decode cX3_repairOn 76 = .ok (.invokevirtual 120, 3) := dk_182 0 120 (dk_at dksX3_repairOn_3 5 rfl rfl)
theorem dX3_repairOn_79 : decode cX3_repairOn 79 = .ok (.aload_n 0, 1) := dk_42 (dk_at dksX3_repairOn_3 8 rfl rfl)
theorem dX3_repairOn_80 : decode cX3_repairOn 80 = .ok (.iload_n 1, 1) := dk_27 (dk_at dksX3_repairOn_3 9 rfl rfl)
theorem dX3_repairOn_81 : decode cX3_repairOn 81 = .ok (.bipush 6, 2) := dk_16 6 (dk_at dksX3_repairOn_3 10 rfl rfl)
theorem dX3_repairOn_83 : decode cX3_repairOn 83 = .ok (.iconst 0, 1) := dk_3 (dk_at dksX3_repairOn_3 12 rfl rfl)
theorem dX3_repairOn_84 : decode cX3_repairOn 84 = .ok (.invokevirtual 120, 3) := dk_182 0 120 (dk_at dksX3_repairOn_3 13 rfl rfl)
theorem dX3_repairOn_87 : decode cX3_repairOn 87 = .ok (.aload_n 0, 1) := dk_42 (dk_at dksX3_repairOn_3 16 rfl rfl)
theorem dX3_repairOn_88 : decode cX3_repairOn 88 = .ok (.getfield 28, 3) := dk_180 0 28 (dk_at dksX3_repairOn_3 17 rfl rfl)
theorem dX3_repairOn_91 : decode cX3_repairOn 91 = .ok (.iconst 1, 1) := dk_4 (dk_at dksX3_repairOn_3 20 rfl rfl)
theorem dX3_repairOn_92 : decode cX3_repairOn 92 = .ok (.dup2, 1) := dk_92 (dk_at dksX3_repairOn_3 21 rfl rfl)
theorem dX3_repairOn_93 : decode cX3_repairOn 93 = .ok (.iaload, 1) := dk_46 (dk_at dksX3_repairOn_3 22 rfl rfl)
theorem dX3_repairOn_94 : decode cX3_repairOn 94 = .ok (.iconst 1, 1) := dk_4 (dk_at dksX3_repairOn_3 23 rfl rfl)
theorem dX3_repairOn_95 : decode cX3_repairOn 95 = .ok (.isub, 1) := dk_100 (dk_at dksX3_repairOn_4 0 rfl rfl)
theorem dX3_repairOn_96 : decode cX3_repairOn 96 = .ok (.iastore, 1) := dk_79 (dk_at dksX3_repairOn_4 1 rfl rfl)
theorem dX3_repairOn_97 : decode cX3_repairOn 97 = .ok (.iconst 0, 1) := dk_3 (dk_at dksX3_repairOn_4 2 rfl rfl)
theorem dX3_repairOn_98 : decode cX3_repairOn 98 = .ok (.istore_n 2, 1) := dk_61 (dk_at dksX3_repairOn_4 3 rfl rfl)
theorem dX3_repairOn_99 : decode cX3_repairOn 99 = .ok (.iload_n 2, 1) := dk_28 (dk_at dksX3_repairOn_4 4 rfl rfl)
theorem dX3_repairOn_100 : decode cX3_repairOn 100 = .ok (.aload_n 0, 1) := dk_42 (dk_at dksX3_repairOn_4 5 rfl rfl)
theorem dX3_repairOn_101 : decode cX3_repairOn 101 = .ok (.getfield 28, 3) := dk_180 0 28 (dk_at dksX3_repairOn_4 6 rfl rfl)
theorem dX3_repairOn_104 : decode cX3_repairOn 104 = .ok (.iconst 1, 1) := dk_4 (dk_at dksX3_repairOn_4 9 rfl rfl)
theorem dX3_repairOn_105 : decode cX3_repairOn 105 = .ok (.iaload, 1) := dk_46 (dk_at dksX3_repairOn_4 10 rfl rfl)
theorem dX3_repairOn_106 : decode cX3_repairOn 106 = .ok (.if_icmp .ge 23, 3) := dk_162 0 23 (dk_at dksX3_repairOn_4 11 rfl rfl)
theorem dX3_repairOn_109 : decode cX3_repairOn 109 = .ok (.aload_n 0, 1) := dk_42 (dk_at dksX3_repairOn_4 14 rfl rfl)
theorem dX3_repairOn_110 : decode cX3_repairOn 110 = .ok (.getfield 25, 3) := dk_180 0 25 (dk_at dksX3_repairOn_4 15 rfl rfl)
theorem dX3_repairOn_113 : decode cX3_repairOn 113 = .ok (.iload_n 2, 1) := dk_28 (dk_at dksX3_repairOn_4 18 rfl rfl)
theorem dX3_repairOn_114 : decode cX3_repairOn 114 = .ok (.aload_n 0, 1) := dk_42 (dk_at dksX3_repairOn_4 19 rfl rfl)
theorem dX3_repairOn_115 : decode cX3_repairOn 115 = .ok (.getfield 25, 3) := dk_180 0 25 (dk_at dksX3_repairOn_4 20 rfl rfl)
theorem dX3_repairOn_118 : decode cX3_repairOn 118 = .ok (.iload_n 2, 1) := dk_28 (dk_at dksX3_repairOn_4 23 rfl rfl)
theorem dX3_repairOn_119 : decode cX3_repairOn 119 = .ok (.iconst 1, 1) := dk_4 (dk_at dksX3_repairOn_5 0 rfl rfl)
theorem dX3_repairOn_120 : decode cX3_repairOn 120 = .ok (.iadd, 1) := dk_96 (dk_at dksX3_repairOn_5 1 rfl rfl)
theorem dX3_repairOn_121 : decode cX3_repairOn 121 = .ok (.iaload, 1) := dk_46 (dk_at dksX3_repairOn_5 2 rfl rfl)
theorem dX3_repairOn_122 : decode cX3_repairOn 122 = .ok (.iastore, 1) := dk_79 (dk_at dksX3_repairOn_5 3 rfl rfl)
theorem dX3_repairOn_123 : decode cX3_repairOn 123 = .ok (.iinc 2 1, 3) := dk_132 2 1 (dk_at dksX3_repairOn_5 4 rfl rfl)
theorem dX3_repairOn_126 : decode cX3_repairOn 126 = .ok (.goto (-27), 3) := dk_167 255 229 (dk_at dksX3_repairOn_5 7 rfl rfl)
theorem dX3_repairOn_129 : decode cX3_repairOn 129 = .ok (.return_, 1) := dk_177 (dk_at dksX3_repairOn_5 10 rfl rfl)
abbrev cX3_count : ByteArray := prog_8_method_50_code
def yX3_count : MethodName := ⟨RX3, "count", "(I)I"⟩
def dkwX3_count_1 : List UInt8 := [4, 182, 0, 59, 172]
abbrev dktX3_count_1 : List UInt8 := dkwX3_count_1 ++ []
def dkwX3_count_0 : List UInt8 := [42, 3, 181, 0, 31, 27, 3, 16, 9, 184, 0, 38, 153, 0, 11, 42, 27, 182, 0, 162, 167, 0, 8, 42]
abbrev dktX3_count_0 : List UInt8 := dkwX3_count_0 ++ dktX3_count_1
theorem dksX3_count_0 : cX3_count.data.toList.drop 0 = dktX3_count_0 := by decide +kernel
theorem dksX3_count_1 : cX3_count.data.toList.drop 24 = dktX3_count_1 := dk_seg dksX3_count_0 24 rfl rfl
theorem dX3_count_0 : decode cX3_count 0 = .ok (.aload_n 0, 1) := dk_42 (dk_at dksX3_count_0 0 rfl rfl)
theorem dX3_count_1 : decode cX3_count 1 = .ok (.iconst 0, 1) := dk_3 (dk_at dksX3_count_0 1 rfl rfl)
theorem dX3_count_2 : decode cX3_count 2 = .ok (.putfield 31, 3) := dk_181 0 31 (dk_at dksX3_count_0 2 rfl rfl)
theorem dX3_count_5 : decode cX3_count 5 = .ok (.iload_n 1, 1) := dk_27 (dk_at dksX3_count_0 5 rfl rfl)
theorem dX3_count_6 : decode cX3_count 6 = .ok (.iconst 0, 1) := dk_3 (dk_at dksX3_count_0 6 rfl rfl)
theorem dX3_count_7 : decode cX3_count 7 = .ok (.bipush 9, 2) := dk_16 9 (dk_at dksX3_count_0 7 rfl rfl)
theorem dX3_count_9 : decode cX3_count 9 = .ok (.invokestatic 38, 3) := dk_184 0 38 (dk_at dksX3_count_0 9 rfl rfl)
theorem dX3_count_12 : decode cX3_count 12 = .ok (.ifCond .eq 11, 3) := dk_153 0 11 (dk_at dksX3_count_0 12 rfl rfl)
theorem dX3_count_15 : decode cX3_count 15 = .ok (.aload_n 0, 1) := dk_42 (dk_at dksX3_count_0 15 rfl rfl)
theorem dX3_count_16 : decode cX3_count 16 = .ok (.iload_n 1, 1) := dk_27 (dk_at dksX3_count_0 16 rfl rfl)
theorem dX3_count_17 : decode cX3_count 17 = .ok (.invokevirtual 162, 3) := dk_182 0 162 (dk_at dksX3_count_0 17 rfl rfl)
theorem dX3_count_20 : decode cX3_count 20 = .ok (.goto 8, 3) := dk_167 0 8 (dk_at dksX3_count_0 20 rfl rfl)
theorem dX3_count_23 : decode cX3_count 23 = .ok (.aload_n 0, 1) := dk_42 (dk_at dksX3_count_0 23 rfl rfl)
theorem dX3_count_24 : decode cX3_count 24 = .ok (.iconst 1, 1) := dk_4 (dk_at dksX3_count_1 0 rfl rfl)
theorem dX3_count_25 : decode cX3_count 25 = .ok (.invokevirtual 59, 3) := dk_182 0 59 (dk_at dksX3_count_1 1 rfl rfl)
theorem dX3_count_28 : decode cX3_count 28 = .ok (.ireturn, 1) := dk_172 (dk_at dksX3_count_1 4 rfl rfl)
abbrev cX3_counted : ByteArray := prog_8_method_49_code
def yX3_counted : MethodName := ⟨RX3, "counted", "(I)I"⟩
def dkwX3_counted_6 : List UInt8 := [132, 3, 1, 167, 255, 237, 28, 172, 42, 180, 0, 28, 4, 46, 172, 42, 180, 0, 28, 5, 46, 172]
abbrev dktX3_counted_6 : List UInt8 := dkwX3_counted_6 ++ []
def dkwX3_counted_5 : List UInt8 := [42, 182, 0, 159, 172, 3, 62, 29, 42, 180, 0, 35, 162, 0, 17, 28, 42, 29, 182, 0, 81, 96, 61]
abbrev dktX3_counted_5 : List UInt8 := dkwX3_counted_5 ++ dktX3_counted_6
def dkwX3_counted_4 : List UInt8 := [29, 5, 182, 0, 78, 2, 160, 0, 7, 3, 167, 0, 4, 4, 96, 61, 132, 3, 1, 167, 255, 213, 28, 172]
abbrev dktX3_counted_4 : List UInt8 := dkwX3_counted_4 ++ dktX3_counted_5
def dkwX3_counted_3 : List UInt8 := [29, 42, 180, 0, 42, 162, 0, 41, 28, 27, 8, 160, 0, 12, 42, 29, 3, 182, 0, 78, 167, 0, 18, 42]
abbrev dktX3_counted_3 : List UInt8 := dkwX3_counted_3 ++ dktX3_counted_4
def dkwX3_counted_2 : List UInt8 := [42, 180, 0, 28, 3, 46, 172, 42, 180, 0, 35, 172, 42, 182, 0, 156, 172, 42, 180, 0, 42, 172, 3, 62]
abbrev dktX3_counted_2 : List UInt8 := dkwX3_counted_2 ++ dktX3_counted_3
def dkwX3_counted_1 : List UInt8 := [170, 0, 0, 0, 159, 0, 0, 0, 0, 0, 0, 0, 8, 0, 0, 0, 49, 0, 0, 0, 56, 0, 0, 0, 61, 0, 0, 0, 66, 0, 0, 0, 71, 0, 0, 0, 71, 0, 0, 0, 121, 0, 0, 0, 126, 0, 0, 0, 152]
abbrev dktX3_counted_1 : List UInt8 := dkwX3_counted_1 ++ dktX3_counted_2
def dkwX3_counted_0 : List UInt8 := [3, 61, 27]
abbrev dktX3_counted_0 : List UInt8 := dkwX3_counted_0 ++ dktX3_counted_1
theorem dksX3_counted_0 : cX3_counted.data.toList.drop 0 = dktX3_counted_0 := by decide +kernel
theorem dksX3_counted_1 : cX3_counted.data.toList.drop 3 = dktX3_counted_1 := dk_seg dksX3_counted_0 3 rfl rfl
theorem dksX3_counted_2 : cX3_counted.data.toList.drop 52 = dktX3_counted_2 := dk_seg dksX3_counted_1 49 rfl rfl
theorem dksX3_counted_3 : cX3_counted.data.toList.drop 76 = dktX3_counted_3 := dk_seg dksX3_counted_2 24 rfl rfl
theorem dksX3_counted_4 : cX3_counted.data.toList.drop 100 = dktX3_counted_4 := dk_seg dksX3_counted_3 24 rfl rfl
theorem dksX3_counted_5 : cX3_counted.data.toList.drop 124 = dktX3_counted_5 := dk_seg dksX3_counted_4 24 rfl rfl
theorem dksX3_counted_6 : cX3_counted.data.toList.drop 147 = dktX3_counted_6 := dk_seg dksX3_counted_5 23 rfl rfl
theorem dX3_counted_0 : decode cX3_counted 0 = .ok (.iconst 0, 1) := dk_3 (dk_at dksX3_counted_0 0 rfl rfl)
theorem dX3_counted_1 : decode cX3_counted 1 = .ok (.istore_n 2, 1) := dk_61 (dk_at dksX3_counted_0 1 rfl rfl)
theorem dX3_counted_2 : decode cX3_counted 2 = .ok (.iload_n 1, 1) := dk_27 (dk_at dksX3_counted_0 2 rfl rfl)
theorem dX3_counted_3 : decode cX3_counted 3 = .ok (.tableswitch 159 0 8 #[49, 56, 61, 66, 71, 71, 121, 126, 152], 49) := by decide +kernel
theorem dX3_counted_52 : decode cX3_counted 52 = .ok (.aload_n 0, 1) := dk_42 (dk_at dksX3_counted_2 0 rfl rfl)
theorem dX3_counted_53 : decode cX3_counted 53 = .ok (.getfield 28, 3) := dk_180 0 28 (dk_at dksX3_counted_2 1 rfl rfl)
theorem dX3_counted_56 : decode cX3_counted 56 = .ok (.iconst 0, 1) := dk_3 (dk_at dksX3_counted_2 4 rfl rfl)
theorem dX3_counted_57 : decode cX3_counted 57 = .ok (.iaload, 1) := dk_46 (dk_at dksX3_counted_2 5 rfl rfl)
theorem dX3_counted_58 : decode cX3_counted 58 = .ok (.ireturn, 1) := dk_172 (dk_at dksX3_counted_2 6 rfl rfl)
theorem dX3_counted_59 : decode cX3_counted 59 = .ok (.aload_n 0, 1) := dk_42 (dk_at dksX3_counted_2 7 rfl rfl)
theorem dX3_counted_60 : decode cX3_counted 60 = .ok (.getfield 35, 3) := dk_180 0 35 (dk_at dksX3_counted_2 8 rfl rfl)
theorem dX3_counted_63 : decode cX3_counted 63 = .ok (.ireturn, 1) := dk_172 (dk_at dksX3_counted_2 11 rfl rfl)
theorem dX3_counted_64 : decode cX3_counted 64 = .ok (.aload_n 0, 1) := dk_42 (dk_at dksX3_counted_2 12 rfl rfl)
theorem dX3_counted_65 : decode cX3_counted 65 = .ok (.invokevirtual 156, 3) := dk_182 0 156 (dk_at dksX3_counted_2 13 rfl rfl)
theorem dX3_counted_68 : decode cX3_counted 68 = .ok (.ireturn, 1) := dk_172 (dk_at dksX3_counted_2 16 rfl rfl)
theorem dX3_counted_69 : decode cX3_counted 69 = .ok (.aload_n 0, 1) := dk_42 (dk_at dksX3_counted_2 17 rfl rfl)
theorem dX3_counted_70 : decode cX3_counted 70 = .ok (.getfield 42, 3) := dk_180 0 42 (dk_at dksX3_counted_2 18 rfl rfl)
theorem dX3_counted_73 : decode cX3_counted 73 = .ok (.ireturn, 1) := dk_172 (dk_at dksX3_counted_2 21 rfl rfl)
theorem dX3_counted_74 : decode cX3_counted 74 = .ok (.iconst 0, 1) := dk_3 (dk_at dksX3_counted_2 22 rfl rfl)
theorem dX3_counted_75 : decode cX3_counted 75 = .ok (.istore_n 3, 1) := dk_62 (dk_at dksX3_counted_2 23 rfl rfl)
theorem dX3_counted_76 : decode cX3_counted 76 = .ok (.iload_n 3, 1) := dk_29 (dk_at dksX3_counted_3 0 rfl rfl)
theorem dX3_counted_77 : decode cX3_counted 77 = .ok (.aload_n 0, 1) := dk_42 (dk_at dksX3_counted_3 1 rfl rfl)
theorem dX3_counted_78 : decode cX3_counted 78 = .ok (.getfield 42, 3) := dk_180 0 42 (dk_at dksX3_counted_3 2 rfl rfl)
theorem dX3_counted_81 : decode cX3_counted 81 = .ok (.if_icmp .ge 41, 3) := dk_162 0 41 (dk_at dksX3_counted_3 5 rfl rfl)
theorem dX3_counted_84 : decode cX3_counted 84 = .ok (.iload_n 2, 1) := dk_28 (dk_at dksX3_counted_3 8 rfl rfl)
theorem dX3_counted_85 : decode cX3_counted 85 = .ok (.iload_n 1, 1) := dk_27 (dk_at dksX3_counted_3 9 rfl rfl)
theorem dX3_counted_86 : decode cX3_counted 86 = .ok (.iconst 5, 1) := dk_8 (dk_at dksX3_counted_3 10 rfl rfl)
theorem dX3_counted_87 : decode cX3_counted 87 = .ok (.if_icmp .ne 12, 3) := dk_160 0 12 (dk_at dksX3_counted_3 11 rfl rfl)
theorem dX3_counted_90 : decode cX3_counted 90 = .ok (.aload_n 0, 1) := dk_42 (dk_at dksX3_counted_3 14 rfl rfl)
theorem dX3_counted_91 : decode cX3_counted 91 = .ok (.iload_n 3, 1) := dk_29 (dk_at dksX3_counted_3 15 rfl rfl)
theorem dX3_counted_92 : decode cX3_counted 92 = .ok (.iconst 0, 1) := dk_3 (dk_at dksX3_counted_3 16 rfl rfl)
theorem dX3_counted_93 : decode cX3_counted 93 = .ok (.invokevirtual 78, 3) := dk_182 0 78 (dk_at dksX3_counted_3 17 rfl rfl)
theorem dX3_counted_96 : decode cX3_counted 96 = .ok (.goto 18, 3) := dk_167 0 18 (dk_at dksX3_counted_3 20 rfl rfl)
theorem dX3_counted_99 : decode cX3_counted 99 = .ok (.aload_n 0, 1) := dk_42 (dk_at dksX3_counted_3 23 rfl rfl)
theorem dX3_counted_100 : decode cX3_counted 100 = .ok (.iload_n 3, 1) := dk_29 (dk_at dksX3_counted_4 0 rfl rfl)
theorem dX3_counted_101 : decode cX3_counted 101 = .ok (.iconst 2, 1) := dk_5 (dk_at dksX3_counted_4 1 rfl rfl)
theorem dX3_counted_102 : decode cX3_counted 102 = .ok (.invokevirtual 78, 3) := dk_182 0 78 (dk_at dksX3_counted_4 2 rfl rfl)
theorem dX3_counted_105 : decode cX3_counted 105 = .ok (.iconst (-1), 1) := dk_2 (dk_at dksX3_counted_4 5 rfl rfl)
theorem dX3_counted_106 : decode cX3_counted 106 = .ok (.if_icmp .ne 7, 3) := dk_160 0 7 (dk_at dksX3_counted_4 6 rfl rfl)
theorem dX3_counted_109 : decode cX3_counted 109 = .ok (.iconst 0, 1) := dk_3 (dk_at dksX3_counted_4 9 rfl rfl)
theorem dX3_counted_110 : decode cX3_counted 110 = .ok (.goto 4, 3) := dk_167 0 4 (dk_at dksX3_counted_4 10 rfl rfl)
theorem dX3_counted_113 : decode cX3_counted 113 = .ok (.iconst 1, 1) := dk_4 (dk_at dksX3_counted_4 13 rfl rfl)
theorem dX3_counted_114 : decode cX3_counted 114 = .ok (.iadd, 1) := dk_96 (dk_at dksX3_counted_4 14 rfl rfl)
theorem dX3_counted_115 : decode cX3_counted 115 = .ok (.istore_n 2, 1) := dk_61 (dk_at dksX3_counted_4 15 rfl rfl)
theorem dX3_counted_116 : decode cX3_counted 116 = .ok (.iinc 3 1, 3) := dk_132 3 1 (dk_at dksX3_counted_4 16 rfl rfl)
theorem dX3_counted_119 : decode cX3_counted 119 = .ok (.goto (-43), 3) := dk_167 255 213 (dk_at dksX3_counted_4 19 rfl rfl)
theorem dX3_counted_122 : decode cX3_counted 122 = .ok (.iload_n 2, 1) := dk_28 (dk_at dksX3_counted_4 22 rfl rfl)
theorem dX3_counted_123 : decode cX3_counted 123 = .ok (.ireturn, 1) := dk_172 (dk_at dksX3_counted_4 23 rfl rfl)
theorem dX3_counted_124 : decode cX3_counted 124 = .ok (.aload_n 0, 1) := dk_42 (dk_at dksX3_counted_5 0 rfl rfl)
theorem dX3_counted_125 : decode cX3_counted 125 = .ok (.invokevirtual 159, 3) := dk_182 0 159 (dk_at dksX3_counted_5 1 rfl rfl)
theorem dX3_counted_128 : decode cX3_counted 128 = .ok (.ireturn, 1) := dk_172 (dk_at dksX3_counted_5 4 rfl rfl)
theorem dX3_counted_129 : decode cX3_counted 129 = .ok (.iconst 0, 1) := dk_3 (dk_at dksX3_counted_5 5 rfl rfl)
theorem dX3_counted_130 : decode cX3_counted 130 = .ok (.istore_n 3, 1) := dk_62 (dk_at dksX3_counted_5 6 rfl rfl)
theorem dX3_counted_131 : decode cX3_counted 131 = .ok (.iload_n 3, 1) := dk_29 (dk_at dksX3_counted_5 7 rfl rfl)
theorem dX3_counted_132 : decode cX3_counted 132 = .ok (.aload_n 0, 1) := dk_42 (dk_at dksX3_counted_5 8 rfl rfl)
theorem dX3_counted_133 : decode cX3_counted 133 = .ok (.getfield 35, 3) := dk_180 0 35 (dk_at dksX3_counted_5 9 rfl rfl)
theorem dX3_counted_136 : decode cX3_counted 136 = .ok (.if_icmp .ge 17, 3) := dk_162 0 17 (dk_at dksX3_counted_5 12 rfl rfl)
theorem dX3_counted_139 : decode cX3_counted 139 = .ok (.iload_n 2, 1) := dk_28 (dk_at dksX3_counted_5 15 rfl rfl)
theorem dX3_counted_140 : decode cX3_counted 140 = .ok (.aload_n 0, 1) := dk_42 (dk_at dksX3_counted_5 16 rfl rfl)
theorem dX3_counted_141 : decode cX3_counted 141 = .ok (.iload_n 3, 1) := dk_29 (dk_at dksX3_counted_5 17 rfl rfl)
theorem dX3_counted_142 : decode cX3_counted 142 = .ok (.invokevirtual 81, 3) := dk_182 0 81 (dk_at dksX3_counted_5 18 rfl rfl)
theorem dX3_counted_145 : decode cX3_counted 145 = .ok (.iadd, 1) := dk_96 (dk_at dksX3_counted_5 21 rfl rfl)
theorem dX3_counted_146 : decode cX3_counted 146 = .ok (.istore_n 2, 1) := dk_61 (dk_at dksX3_counted_5 22 rfl rfl)
theorem dX3_counted_147 : decode cX3_counted 147 = .ok (.iinc 3 1, 3) := dk_132 3 1 (dk_at dksX3_counted_6 0 rfl rfl)
theorem dX3_counted_150 : decode cX3_counted 150 = .ok (.goto (-19), 3) := dk_167 255 237 (dk_at dksX3_counted_6 3 rfl rfl)
theorem dX3_counted_153 : decode cX3_counted 153 = .ok (.iload_n 2, 1) := dk_28 (dk_at dksX3_counted_6 6 rfl rfl)
theorem dX3_counted_154 : decode cX3_counted 154 = .ok (.ireturn, 1) := dk_172 (dk_at dksX3_counted_6 7 rfl rfl)
theorem dX3_counted_155 : decode cX3_counted 155 = .ok (.aload_n 0, 1) := dk_42 (dk_at dksX3_counted_6 8 rfl rfl)
theorem dX3_counted_156 : decode cX3_counted 156 = .ok (.getfield 28, 3) := dk_180 0 28 (dk_at dksX3_counted_6 9 rfl rfl)
theorem dX3_counted_159 : decode cX3_counted 159 = .ok (.iconst 1, 1) := dk_4 (dk_at dksX3_counted_6 12 rfl rfl)
theorem dX3_counted_160 : decode cX3_counted 160 = .ok (.iaload, 1) := dk_46 (dk_at dksX3_counted_6 13 rfl rfl)
theorem dX3_counted_161 : decode cX3_counted 161 = .ok (.ireturn, 1) := dk_172 (dk_at dksX3_counted_6 14 rfl rfl)
theorem dX3_counted_162 : decode cX3_counted 162 = .ok (.aload_n 0, 1) := dk_42 (dk_at dksX3_counted_6 15 rfl rfl)
theorem dX3_counted_163 : decode cX3_counted 163 = .ok (.getfield 28, 3) := dk_180 0 28 (dk_at dksX3_counted_6 16 rfl rfl)
theorem dX3_counted_166 : decode cX3_counted 166 = .ok (.iconst 2, 1) := dk_5 (dk_at dksX3_counted_6 19 rfl rfl)
theorem dX3_counted_167 : decode cX3_counted 167 = .ok (.iaload, 1) := dk_46 (dk_at dksX3_counted_6 20 rfl rfl)
theorem dX3_counted_168 : decode cX3_counted 168 = .ok (.ireturn, 1) := dk_172 (dk_at dksX3_counted_6 21 rfl rfl)
abbrev cX3_jammed : ByteArray := prog_8_method_47_code
def yX3_jammed : MethodName := ⟨RX3, "jammed", "()I"⟩
def dkwX3_jammed_1 : List UInt8 := [132, 2, 1, 167, 255, 235, 27, 172]
abbrev dktX3_jammed_1 : List UInt8 := dkwX3_jammed_1 ++ []
def dkwX3_jammed_0 : List UInt8 := [3, 60, 3, 61, 28, 42, 180, 0, 35, 162, 0, 19, 27, 42, 28, 16, 6, 182, 0, 45, 96, 60]
abbrev dktX3_jammed_0 : List UInt8 := dkwX3_jammed_0 ++ dktX3_jammed_1
theorem dksX3_jammed_0 : cX3_jammed.data.toList.drop 0 = dktX3_jammed_0 := by decide +kernel
theorem dksX3_jammed_1 : cX3_jammed.data.toList.drop 22 = dktX3_jammed_1 := dk_seg dksX3_jammed_0 22 rfl rfl
theorem dX3_jammed_0 : decode cX3_jammed 0 = .ok (.iconst 0, 1) := dk_3 (dk_at dksX3_jammed_0 0 rfl rfl)
theorem dX3_jammed_1 : decode cX3_jammed 1 = .ok (.istore_n 1, 1) := dk_60 (dk_at dksX3_jammed_0 1 rfl rfl)
theorem dX3_jammed_2 : decode cX3_jammed 2 = .ok (.iconst 0, 1) := dk_3 (dk_at dksX3_jammed_0 2 rfl rfl)
theorem dX3_jammed_3 : decode cX3_jammed 3 = .ok (.istore_n 2, 1) := dk_61 (dk_at dksX3_jammed_0 3 rfl rfl)
theorem dX3_jammed_4 : decode cX3_jammed 4 = .ok (.iload_n 2, 1) := dk_28 (dk_at dksX3_jammed_0 4 rfl rfl)
theorem dX3_jammed_5 : decode cX3_jammed 5 = .ok (.aload_n 0, 1) := dk_42 (dk_at dksX3_jammed_0 5 rfl rfl)
theorem dX3_jammed_6 : decode cX3_jammed 6 = .ok (.getfield 35, 3) := dk_180 0 35 (dk_at dksX3_jammed_0 6 rfl rfl)
theorem dX3_jammed_9 : decode cX3_jammed 9 = .ok (.if_icmp .ge 19, 3) := dk_162 0 19 (dk_at dksX3_jammed_0 9 rfl rfl)
theorem dX3_jammed_12 : decode cX3_jammed 12 = .ok (.iload_n 1, 1) := dk_27 (dk_at dksX3_jammed_0 12 rfl rfl)
theorem dX3_jammed_13 : decode cX3_jammed 13 = .ok (.aload_n 0, 1) := dk_42 (dk_at dksX3_jammed_0 13 rfl rfl)
theorem dX3_jammed_14 : decode cX3_jammed 14 = .ok (.iload_n 2, 1) := dk_28 (dk_at dksX3_jammed_0 14 rfl rfl)
theorem dX3_jammed_15 : decode cX3_jammed 15 = .ok (.bipush 6, 2) := dk_16 6 (dk_at dksX3_jammed_0 15 rfl rfl)
theorem dX3_jammed_17 : decode cX3_jammed 17 = .ok (.invokevirtual 45, 3) := dk_182 0 45 (dk_at dksX3_jammed_0 17 rfl rfl)
theorem dX3_jammed_20 : decode cX3_jammed 20 = .ok (.iadd, 1) := dk_96 (dk_at dksX3_jammed_0 20 rfl rfl)
theorem dX3_jammed_21 : decode cX3_jammed 21 = .ok (.istore_n 1, 1) := dk_60 (dk_at dksX3_jammed_0 21 rfl rfl)
theorem dX3_jammed_22 : decode cX3_jammed 22 = .ok (.iinc 2 1, 3) := dk_132 2 1 (dk_at dksX3_jammed_1 0 rfl rfl)
theorem dX3_jammed_25 : decode cX3_jammed 25 = .ok (.goto (-21), 3) := dk_167 255 235 (dk_at dksX3_jammed_1 3 rfl rfl)
theorem dX3_jammed_28 : decode cX3_jammed 28 = .ok (.iload_n 1, 1) := dk_27 (dk_at dksX3_jammed_1 6 rfl rfl)
theorem dX3_jammed_29 : decode cX3_jammed 29 = .ok (.ireturn, 1) := dk_172 (dk_at dksX3_jammed_1 7 rfl rfl)
abbrev cX3_boxes : ByteArray := prog_8_method_48_code
def yX3_boxes : MethodName := ⟨RX3, "boxes", "()I"⟩
def dkwX3_boxes_1 : List UInt8 := [167, 255, 236, 27, 172]
abbrev dktX3_boxes_1 : List UInt8 := dkwX3_boxes_1 ++ []
def dkwX3_boxes_0 : List UInt8 := [3, 60, 3, 61, 28, 42, 180, 0, 35, 162, 0, 18, 27, 42, 28, 7, 182, 0, 45, 96, 60, 132, 2, 1]
abbrev dktX3_boxes_0 : List UInt8 := dkwX3_boxes_0 ++ dktX3_boxes_1
theorem dksX3_boxes_0 : cX3_boxes.data.toList.drop 0 = dktX3_boxes_0 := by decide +kernel
theorem dksX3_boxes_1 : cX3_boxes.data.toList.drop 24 = dktX3_boxes_1 := dk_seg dksX3_boxes_0 24 rfl rfl
theorem dX3_boxes_0 : decode cX3_boxes 0 = .ok (.iconst 0, 1) := dk_3 (dk_at dksX3_boxes_0 0 rfl rfl)
theorem dX3_boxes_1 : decode cX3_boxes 1 = .ok (.istore_n 1, 1) := dk_60 (dk_at dksX3_boxes_0 1 rfl rfl)
theorem dX3_boxes_2 : decode cX3_boxes 2 = .ok (.iconst 0, 1) := dk_3 (dk_at dksX3_boxes_0 2 rfl rfl)
theorem dX3_boxes_3 : decode cX3_boxes 3 = .ok (.istore_n 2, 1) := dk_61 (dk_at dksX3_boxes_0 3 rfl rfl)
theorem dX3_boxes_4 : decode cX3_boxes 4 = .ok (.iload_n 2, 1) := dk_28 (dk_at dksX3_boxes_0 4 rfl rfl)
theorem dX3_boxes_5 : decode cX3_boxes 5 = .ok (.aload_n 0, 1) := dk_42 (dk_at dksX3_boxes_0 5 rfl rfl)
theorem dX3_boxes_6 : decode cX3_boxes 6 = .ok (.getfield 35, 3) := dk_180 0 35 (dk_at dksX3_boxes_0 6 rfl rfl)
theorem dX3_boxes_9 : decode cX3_boxes 9 = .ok (.if_icmp .ge 18, 3) := dk_162 0 18 (dk_at dksX3_boxes_0 9 rfl rfl)
theorem dX3_boxes_12 : decode cX3_boxes 12 = .ok (.iload_n 1, 1) := dk_27 (dk_at dksX3_boxes_0 12 rfl rfl)
theorem dX3_boxes_13 : decode cX3_boxes 13 = .ok (.aload_n 0, 1) := dk_42 (dk_at dksX3_boxes_0 13 rfl rfl)
theorem dX3_boxes_14 : decode cX3_boxes 14 = .ok (.iload_n 2, 1) := dk_28 (dk_at dksX3_boxes_0 14 rfl rfl)
theorem dX3_boxes_15 : decode cX3_boxes 15 = .ok (.iconst 4, 1) := dk_7 (dk_at dksX3_boxes_0 15 rfl rfl)
theorem dX3_boxes_16 : decode cX3_boxes 16 = .ok (.invokevirtual 45, 3) := dk_182 0 45 (dk_at dksX3_boxes_0 16 rfl rfl)
theorem dX3_boxes_19 : decode cX3_boxes 19 = .ok (.iadd, 1) := dk_96 (dk_at dksX3_boxes_0 19 rfl rfl)
theorem dX3_boxes_20 : decode cX3_boxes 20 = .ok (.istore_n 1, 1) := dk_60 (dk_at dksX3_boxes_0 20 rfl rfl)
theorem dX3_boxes_21 : decode cX3_boxes 21 = .ok (.iinc 2 1, 3) := dk_132 2 1 (dk_at dksX3_boxes_0 21 rfl rfl)
theorem dX3_boxes_24 : decode cX3_boxes 24 = .ok (.goto (-20), 3) := dk_167 255 236 (dk_at dksX3_boxes_1 0 rfl rfl)
theorem dX3_boxes_27 : decode cX3_boxes 27 = .ok (.iload_n 1, 1) := dk_27 (dk_at dksX3_boxes_1 3 rfl rfl)
theorem dX3_boxes_28 : decode cX3_boxes 28 = .ok (.ireturn, 1) := dk_172 (dk_at dksX3_boxes_1 4 rfl rfl)
abbrev cX3_foresee : ByteArray := prog_8_method_53_code
def yX3_foresee : MethodName := ⟨RX3, "foresee", "(II)I"⟩
def dkwX3_foresee_4 : List UInt8 := [54, 5, 42, 45, 182, 0, 174, 21, 5, 172]
abbrev dktX3_foresee_4 : List UInt8 := dkwX3_foresee_4 ++ []
def dkwX3_foresee_3 : List UInt8 := [154, 0, 8, 21, 4, 167, 0, 19, 28, 4, 160, 0, 10, 42, 182, 0, 159, 167, 0, 7, 42, 182, 0, 156]
abbrev dktX3_foresee_3 : List UInt8 := dkwX3_foresee_3 ++ dktX3_foresee_4
def dkwX3_foresee_2 : List UInt8 := [21, 5, 27, 162, 0, 18, 21, 4, 42, 182, 0, 153, 96, 54, 4, 132, 5, 1, 167, 255, 238, 28]
abbrev dktX3_foresee_2 : List UInt8 := dkwX3_foresee_2 ++ dktX3_foresee_3
def dkwX3_foresee_1 : List UInt8 := [5, 184, 0, 38, 154, 0, 9, 42, 5, 182, 0, 59, 172, 42, 182, 0, 170, 78, 3, 54, 4, 3, 54, 5]
abbrev dktX3_foresee_1 : List UInt8 := dkwX3_foresee_1 ++ dktX3_foresee_2
def dkwX3_foresee_0 : List UInt8 := [42, 3, 181, 0, 31, 27, 4, 17, 0, 200, 184, 0, 38, 154, 0, 9, 42, 4, 182, 0, 59, 172, 28, 3]
abbrev dktX3_foresee_0 : List UInt8 := dkwX3_foresee_0 ++ dktX3_foresee_1
theorem dksX3_foresee_0 : cX3_foresee.data.toList.drop 0 = dktX3_foresee_0 := by decide +kernel
theorem dksX3_foresee_1 : cX3_foresee.data.toList.drop 24 = dktX3_foresee_1 := dk_seg dksX3_foresee_0 24 rfl rfl
theorem dksX3_foresee_2 : cX3_foresee.data.toList.drop 48 = dktX3_foresee_2 := dk_seg dksX3_foresee_1 24 rfl rfl
theorem dksX3_foresee_3 : cX3_foresee.data.toList.drop 70 = dktX3_foresee_3 := dk_seg dksX3_foresee_2 22 rfl rfl
theorem dksX3_foresee_4 : cX3_foresee.data.toList.drop 94 = dktX3_foresee_4 := dk_seg dksX3_foresee_3 24 rfl rfl
theorem dX3_foresee_0 : decode cX3_foresee 0 = .ok (.aload_n 0, 1) := dk_42 (dk_at dksX3_foresee_0 0 rfl rfl)
theorem dX3_foresee_1 : decode cX3_foresee 1 = .ok (.iconst 0, 1) := dk_3 (dk_at dksX3_foresee_0 1 rfl rfl)
theorem dX3_foresee_2 : decode cX3_foresee 2 = .ok (.putfield 31, 3) := dk_181 0 31 (dk_at dksX3_foresee_0 2 rfl rfl)
theorem dX3_foresee_5 : decode cX3_foresee 5 = .ok (.iload_n 1, 1) := dk_27 (dk_at dksX3_foresee_0 5 rfl rfl)
theorem dX3_foresee_6 : decode cX3_foresee 6 = .ok (.iconst 1, 1) := dk_4 (dk_at dksX3_foresee_0 6 rfl rfl)
theorem dX3_foresee_7 : decode cX3_foresee 7 = .ok (.sipush 200, 3) := dk_17 0 200 (dk_at dksX3_foresee_0 7 rfl rfl)
theorem dX3_foresee_10 : decode cX3_foresee 10 = .ok (.invokestatic 38, 3) := dk_184 0 38 (dk_at dksX3_foresee_0 10 rfl rfl)
theorem dX3_foresee_13 : decode cX3_foresee 13 = .ok (.ifCond .ne 9, 3) := dk_154 0 9 (dk_at dksX3_foresee_0 13 rfl rfl)
theorem dX3_foresee_16 : decode cX3_foresee 16 = .ok (.aload_n 0, 1) := dk_42 (dk_at dksX3_foresee_0 16 rfl rfl)
theorem dX3_foresee_17 : decode cX3_foresee 17 = .ok (.iconst 1, 1) := dk_4 (dk_at dksX3_foresee_0 17 rfl rfl)
theorem dX3_foresee_18 : decode cX3_foresee 18 = .ok (.invokevirtual 59, 3) := dk_182 0 59 (dk_at dksX3_foresee_0 18 rfl rfl)
theorem dX3_foresee_21 : decode cX3_foresee 21 = .ok (.ireturn, 1) := dk_172 (dk_at dksX3_foresee_0 21 rfl rfl)
theorem dX3_foresee_22 : decode cX3_foresee 22 = .ok (.iload_n 2, 1) := dk_28 (dk_at dksX3_foresee_0 22 rfl rfl)
theorem dX3_foresee_23 : decode cX3_foresee 23 = .ok (.iconst 0, 1) := dk_3 (dk_at dksX3_foresee_0 23 rfl rfl)
theorem dX3_foresee_24 : decode cX3_foresee 24 = .ok (.iconst 2, 1) := dk_5 (dk_at dksX3_foresee_1 0 rfl rfl)
theorem dX3_foresee_25 : decode cX3_foresee 25 = .ok (.invokestatic 38, 3) := dk_184 0 38 (dk_at dksX3_foresee_1 1 rfl rfl)
theorem dX3_foresee_28 : decode cX3_foresee 28 = .ok (.ifCond .ne 9, 3) := dk_154 0 9 (dk_at dksX3_foresee_1 4 rfl rfl)
theorem dX3_foresee_31 : decode cX3_foresee 31 = .ok (.aload_n 0, 1) := dk_42 (dk_at dksX3_foresee_1 7 rfl rfl)
theorem dX3_foresee_32 : decode cX3_foresee 32 = .ok (.iconst 2, 1) := dk_5 (dk_at dksX3_foresee_1 8 rfl rfl)
theorem dX3_foresee_33 : decode cX3_foresee 33 = .ok (.invokevirtual 59, 3) := dk_182 0 59 (dk_at dksX3_foresee_1 9 rfl rfl)
theorem dX3_foresee_36 : decode cX3_foresee 36 = .ok (.ireturn, 1) := dk_172 (dk_at dksX3_foresee_1 12 rfl rfl)
theorem dX3_foresee_37 : decode cX3_foresee 37 = .ok (.aload_n 0, 1) := dk_42 (dk_at dksX3_foresee_1 13 rfl rfl)
theorem dX3_foresee_38 : decode cX3_foresee 38 = .ok (.invokevirtual 170, 3) := dk_182 0 170 (dk_at dksX3_foresee_1 14 rfl rfl)
theorem dX3_foresee_41 : decode cX3_foresee 41 = .ok (.astore_n 3, 1) := dk_78 (dk_at dksX3_foresee_1 17 rfl rfl)
theorem dX3_foresee_42 : decode cX3_foresee 42 = .ok (.iconst 0, 1) := dk_3 (dk_at dksX3_foresee_1 18 rfl rfl)
theorem dX3_foresee_43 : decode cX3_foresee 43 = .ok (.istore 4, 2) := dk_54 4 (dk_at dksX3_foresee_1 19 rfl rfl)
theorem dX3_foresee_45 : decode cX3_foresee 45 = .ok (.iconst 0, 1) := dk_3 (dk_at dksX3_foresee_1 21 rfl rfl)
theorem dX3_foresee_46 : decode cX3_foresee 46 = .ok (.istore 5, 2) := dk_54 5 (dk_at dksX3_foresee_1 22 rfl rfl)
theorem dX3_foresee_48 : decode cX3_foresee 48 = .ok (.iload 5, 2) := dk_21 5 (dk_at dksX3_foresee_2 0 rfl rfl)
theorem dX3_foresee_50 : decode cX3_foresee 50 = .ok (.iload_n 1, 1) := dk_27 (dk_at dksX3_foresee_2 2 rfl rfl)
theorem dX3_foresee_51 : decode cX3_foresee 51 = .ok (.if_icmp .ge 18, 3) := dk_162 0 18 (dk_at dksX3_foresee_2 3 rfl rfl)
theorem dX3_foresee_54 : decode cX3_foresee 54 = .ok (.iload 4, 2) := dk_21 4 (dk_at dksX3_foresee_2 6 rfl rfl)
theorem dX3_foresee_56 : decode cX3_foresee 56 = .ok (.aload_n 0, 1) := dk_42 (dk_at dksX3_foresee_2 8 rfl rfl)
theorem dX3_foresee_57 : decode cX3_foresee 57 = .ok (.invokevirtual 153, 3) := dk_182 0 153 (dk_at dksX3_foresee_2 9 rfl rfl)
theorem dX3_foresee_60 : decode cX3_foresee 60 = .ok (.iadd, 1) := dk_96 (dk_at dksX3_foresee_2 12 rfl rfl)
theorem dX3_foresee_61 : decode cX3_foresee 61 = .ok (.istore 4, 2) := dk_54 4 (dk_at dksX3_foresee_2 13 rfl rfl)
theorem dX3_foresee_63 : decode cX3_foresee 63 = .ok (.iinc 5 1, 3) := dk_132 5 1 (dk_at dksX3_foresee_2 15 rfl rfl)
theorem dX3_foresee_66 : decode cX3_foresee 66 = .ok (.goto (-18), 3) := dk_167 255 238 (dk_at dksX3_foresee_2 18 rfl rfl)
theorem dX3_foresee_69 : decode cX3_foresee 69 = .ok (.iload_n 2, 1) := dk_28 (dk_at dksX3_foresee_2 21 rfl rfl)
theorem dX3_foresee_70 : decode cX3_foresee 70 = .ok (.ifCond .ne 8, 3) := dk_154 0 8 (dk_at dksX3_foresee_3 0 rfl rfl)
theorem dX3_foresee_73 : decode cX3_foresee 73 = .ok (.iload 4, 2) := dk_21 4 (dk_at dksX3_foresee_3 3 rfl rfl)
theorem dX3_foresee_75 : decode cX3_foresee 75 = .ok (.goto 19, 3) := dk_167 0 19 (dk_at dksX3_foresee_3 5 rfl rfl)
theorem dX3_foresee_78 : decode cX3_foresee 78 = .ok (.iload_n 2, 1) := dk_28 (dk_at dksX3_foresee_3 8 rfl rfl)
theorem dX3_foresee_79 : decode cX3_foresee 79 = .ok (.iconst 1, 1) := dk_4 (dk_at dksX3_foresee_3 9 rfl rfl)
theorem dX3_foresee_80 : decode cX3_foresee 80 = .ok (.if_icmp .ne 10, 3) := dk_160 0 10 (dk_at dksX3_foresee_3 10 rfl rfl)
theorem dX3_foresee_83 : decode cX3_foresee 83 = .ok (.aload_n 0, 1) := dk_42 (dk_at dksX3_foresee_3 13 rfl rfl)
theorem dX3_foresee_84 : decode cX3_foresee 84 = .ok (.invokevirtual 159, 3) := dk_182 0 159 (dk_at dksX3_foresee_3 14 rfl rfl)
theorem dX3_foresee_87 : decode cX3_foresee 87 = .ok (.goto 7, 3) := dk_167 0 7 (dk_at dksX3_foresee_3 17 rfl rfl)
theorem dX3_foresee_90 : decode cX3_foresee 90 = .ok (.aload_n 0, 1) := dk_42 (dk_at dksX3_foresee_3 20 rfl rfl)
theorem dX3_foresee_91 : decode cX3_foresee 91 = .ok (.invokevirtual 156, 3) := dk_182 0 156 (dk_at dksX3_foresee_3 21 rfl rfl)
theorem dX3_foresee_94 : decode cX3_foresee 94 = .ok (.istore 5, 2) := dk_54 5 (dk_at dksX3_foresee_4 0 rfl rfl)
theorem dX3_foresee_96 : decode cX3_foresee 96 = .ok (.aload_n 0, 1) := dk_42 (dk_at dksX3_foresee_4 2 rfl rfl)
theorem dX3_foresee_97 : decode cX3_foresee 97 = .ok (.aload_n 3, 1) := dk_45 (dk_at dksX3_foresee_4 3 rfl rfl)
theorem dX3_foresee_98 : decode cX3_foresee 98 = .ok (.invokevirtual 174, 3) := dk_182 0 174 (dk_at dksX3_foresee_4 4 rfl rfl)
theorem dX3_foresee_101 : decode cX3_foresee 101 = .ok (.iload 5, 2) := dk_21 5 (dk_at dksX3_foresee_4 7 rfl rfl)
theorem dX3_foresee_103 : decode cX3_foresee 103 = .ok (.ireturn, 1) := dk_172 (dk_at dksX3_foresee_4 9 rfl rfl)
abbrev cX3_kept : ByteArray := prog_8_method_51_code
def yX3_kept : MethodName := ⟨RX3, "kept", "()[[I"⟩
def dkwX3_kept_2 : List UInt8 := [180, 0, 25, 182, 0, 166, 192, 0, 165, 83, 89, 7, 42, 180, 0, 28, 182, 0, 166, 192, 0, 165, 83, 176]
abbrev dktX3_kept_2 : List UInt8 := dkwX3_kept_2 ++ []
def dkwX3_kept_1 : List UInt8 := [182, 0, 166, 192, 0, 165, 83, 89, 5, 42, 180, 0, 22, 182, 0, 166, 192, 0, 165, 83, 89, 6, 42]
abbrev dktX3_kept_1 : List UInt8 := dkwX3_kept_1 ++ dktX3_kept_2
def dkwX3_kept_0 : List UInt8 := [8, 189, 0, 165, 89, 3, 42, 180, 0, 16, 182, 0, 166, 192, 0, 165, 83, 89, 4, 42, 180, 0, 19]
abbrev dktX3_kept_0 : List UInt8 := dkwX3_kept_0 ++ dktX3_kept_1
theorem dksX3_kept_0 : cX3_kept.data.toList.drop 0 = dktX3_kept_0 := by decide +kernel
theorem dksX3_kept_1 : cX3_kept.data.toList.drop 23 = dktX3_kept_1 := dk_seg dksX3_kept_0 23 rfl rfl
theorem dksX3_kept_2 : cX3_kept.data.toList.drop 46 = dktX3_kept_2 := dk_seg dksX3_kept_1 23 rfl rfl
theorem dX3_kept_0 : decode cX3_kept 0 = .ok (.iconst 5, 1) := dk_8 (dk_at dksX3_kept_0 0 rfl rfl)
theorem dX3_kept_1 : decode cX3_kept 1 = .ok (.anewarray 165, 3) := dk_189 0 165 (dk_at dksX3_kept_0 1 rfl rfl)
theorem dX3_kept_4 : decode cX3_kept 4 = .ok (.dup, 1) := dk_89 (dk_at dksX3_kept_0 4 rfl rfl)
theorem dX3_kept_5 : decode cX3_kept 5 = .ok (.iconst 0, 1) := dk_3 (dk_at dksX3_kept_0 5 rfl rfl)
theorem dX3_kept_6 : decode cX3_kept 6 = .ok (.aload_n 0, 1) := dk_42 (dk_at dksX3_kept_0 6 rfl rfl)
theorem dX3_kept_7 : decode cX3_kept 7 = .ok (.getfield 16, 3) := dk_180 0 16 (dk_at dksX3_kept_0 7 rfl rfl)
theorem dX3_kept_10 : decode cX3_kept 10 = .ok (.invokevirtual 166, 3) := dk_182 0 166 (dk_at dksX3_kept_0 10 rfl rfl)
theorem dX3_kept_13 : decode cX3_kept 13 = .ok (.checkcast 165, 3) := dk_192 0 165 (dk_at dksX3_kept_0 13 rfl rfl)
theorem dX3_kept_16 : decode cX3_kept 16 = .ok (.aastore, 1) := dk_83 (dk_at dksX3_kept_0 16 rfl rfl)
theorem dX3_kept_17 : decode cX3_kept 17 = .ok (.dup, 1) := dk_89 (dk_at dksX3_kept_0 17 rfl rfl)
theorem dX3_kept_18 : decode cX3_kept 18 = .ok (.iconst 1, 1) := dk_4 (dk_at dksX3_kept_0 18 rfl rfl)
theorem dX3_kept_19 : decode cX3_kept 19 = .ok (.aload_n 0, 1) := dk_42 (dk_at dksX3_kept_0 19 rfl rfl)
theorem dX3_kept_20 : decode cX3_kept 20 = .ok (.getfield 19, 3) := dk_180 0 19 (dk_at dksX3_kept_0 20 rfl rfl)
theorem dX3_kept_23 : decode cX3_kept 23 = .ok (.invokevirtual 166, 3) := dk_182 0 166 (dk_at dksX3_kept_1 0 rfl rfl)
theorem dX3_kept_26 : decode cX3_kept 26 = .ok (.checkcast 165, 3) := dk_192 0 165 (dk_at dksX3_kept_1 3 rfl rfl)
theorem dX3_kept_29 : decode cX3_kept 29 = .ok (.aastore, 1) := dk_83 (dk_at dksX3_kept_1 6 rfl rfl)
theorem dX3_kept_30 : decode cX3_kept 30 = .ok (.dup, 1) := dk_89 (dk_at dksX3_kept_1 7 rfl rfl)
theorem dX3_kept_31 : decode cX3_kept 31 = .ok (.iconst 2, 1) := dk_5 (dk_at dksX3_kept_1 8 rfl rfl)
theorem dX3_kept_32 : decode cX3_kept 32 = .ok (.aload_n 0, 1) := dk_42 (dk_at dksX3_kept_1 9 rfl rfl)
theorem dX3_kept_33 : decode cX3_kept 33 = .ok (.getfield 22, 3) := dk_180 0 22 (dk_at dksX3_kept_1 10 rfl rfl)
theorem dX3_kept_36 : decode cX3_kept 36 = .ok (.invokevirtual 166, 3) := dk_182 0 166 (dk_at dksX3_kept_1 13 rfl rfl)
theorem dX3_kept_39 : decode cX3_kept 39 = .ok (.checkcast 165, 3) := dk_192 0 165 (dk_at dksX3_kept_1 16 rfl rfl)
theorem dX3_kept_42 : decode cX3_kept 42 = .ok (.aastore, 1) := dk_83 (dk_at dksX3_kept_1 19 rfl rfl)
theorem dX3_kept_43 : decode cX3_kept 43 = .ok (.dup, 1) := dk_89 (dk_at dksX3_kept_1 20 rfl rfl)
theorem dX3_kept_44 : decode cX3_kept 44 = .ok (.iconst 3, 1) := dk_6 (dk_at dksX3_kept_1 21 rfl rfl)
theorem dX3_kept_45 : decode cX3_kept 45 = .ok (.aload_n 0, 1) := dk_42 (dk_at dksX3_kept_1 22 rfl rfl)
theorem dX3_kept_46 : decode cX3_kept 46 = .ok (.getfield 25, 3) := dk_180 0 25 (dk_at dksX3_kept_2 0 rfl rfl)
theorem dX3_kept_49 : decode cX3_kept 49 = .ok (.invokevirtual 166, 3) := dk_182 0 166 (dk_at dksX3_kept_2 3 rfl rfl)
theorem dX3_kept_52 : decode cX3_kept 52 = .ok (.checkcast 165, 3) := dk_192 0 165 (dk_at dksX3_kept_2 6 rfl rfl)
theorem dX3_kept_55 : decode cX3_kept 55 = .ok (.aastore, 1) := dk_83 (dk_at dksX3_kept_2 9 rfl rfl)
theorem dX3_kept_56 : decode cX3_kept 56 = .ok (.dup, 1) := dk_89 (dk_at dksX3_kept_2 10 rfl rfl)
theorem dX3_kept_57 : decode cX3_kept 57 = .ok (.iconst 4, 1) := dk_7 (dk_at dksX3_kept_2 11 rfl rfl)
theorem dX3_kept_58 : decode cX3_kept 58 = .ok (.aload_n 0, 1) := dk_42 (dk_at dksX3_kept_2 12 rfl rfl)
theorem dX3_kept_59 : decode cX3_kept 59 = .ok (.getfield 28, 3) := dk_180 0 28 (dk_at dksX3_kept_2 13 rfl rfl)
theorem dX3_kept_62 : decode cX3_kept 62 = .ok (.invokevirtual 166, 3) := dk_182 0 166 (dk_at dksX3_kept_2 16 rfl rfl)
theorem dX3_kept_65 : decode cX3_kept 65 = .ok (.checkcast 165, 3) := dk_192 0 165 (dk_at dksX3_kept_2 19 rfl rfl)
theorem dX3_kept_68 : decode cX3_kept 68 = .ok (.aastore, 1) := dk_83 (dk_at dksX3_kept_2 22 rfl rfl)
theorem dX3_kept_69 : decode cX3_kept 69 = .ok (.areturn, 1) := dk_176 (dk_at dksX3_kept_2 23 rfl rfl)
abbrev cX3_bringBack : ByteArray := prog_8_method_52_code
def yX3_bringBack : MethodName := ⟨RX3, "bringBack", "([[I)V"⟩
def dkwX3_bringBack_2 : List UInt8 := [29, 50, 3, 44, 29, 50, 3, 44, 29, 50, 190, 184, 0, 53, 132, 3, 1, 167, 255, 233, 177]
abbrev dktX3_bringBack_2 : List UInt8 := dkwX3_bringBack_2 ++ []
def dkwX3_bringBack_1 : List UInt8 := [83, 89, 6, 42, 180, 0, 25, 83, 89, 7, 42, 180, 0, 28, 83, 77, 3, 62, 29, 8, 162, 0, 24, 43]
abbrev dktX3_bringBack_1 : List UInt8 := dkwX3_bringBack_1 ++ dktX3_bringBack_2
def dkwX3_bringBack_0 : List UInt8 := [8, 189, 0, 165, 89, 3, 42, 180, 0, 16, 83, 89, 4, 42, 180, 0, 19, 83, 89, 5, 42, 180, 0, 22]
abbrev dktX3_bringBack_0 : List UInt8 := dkwX3_bringBack_0 ++ dktX3_bringBack_1
theorem dksX3_bringBack_0 : cX3_bringBack.data.toList.drop 0 = dktX3_bringBack_0 := by decide +kernel
theorem dksX3_bringBack_1 : cX3_bringBack.data.toList.drop 24 = dktX3_bringBack_1 := dk_seg dksX3_bringBack_0 24 rfl rfl
theorem dksX3_bringBack_2 : cX3_bringBack.data.toList.drop 48 = dktX3_bringBack_2 := dk_seg dksX3_bringBack_1 24 rfl rfl
theorem dX3_bringBack_0 : decode cX3_bringBack 0 = .ok (.iconst 5, 1) := dk_8 (dk_at dksX3_bringBack_0 0 rfl rfl)
theorem dX3_bringBack_1 : decode cX3_bringBack 1 = .ok (.anewarray 165, 3) := dk_189 0 165 (dk_at dksX3_bringBack_0 1 rfl rfl)
theorem dX3_bringBack_4 : decode cX3_bringBack 4 = .ok (.dup, 1) := dk_89 (dk_at dksX3_bringBack_0 4 rfl rfl)
theorem dX3_bringBack_5 : decode cX3_bringBack 5 = .ok (.iconst 0, 1) := dk_3 (dk_at dksX3_bringBack_0 5 rfl rfl)
theorem dX3_bringBack_6 : decode cX3_bringBack 6 = .ok (.aload_n 0, 1) := dk_42 (dk_at dksX3_bringBack_0 6 rfl rfl)
theorem dX3_bringBack_7 : decode cX3_bringBack 7 = .ok (.getfield 16, 3) := dk_180 0 16 (dk_at dksX3_bringBack_0 7 rfl rfl)
theorem dX3_bringBack_10 : decode cX3_bringBack 10 = .ok (.aastore, 1) := dk_83 (dk_at dksX3_bringBack_0 10 rfl rfl)
theorem dX3_bringBack_11 : decode cX3_bringBack 11 = .ok (.dup, 1) := dk_89 (dk_at dksX3_bringBack_0 11 rfl rfl)
theorem dX3_bringBack_12 : decode cX3_bringBack 12 = .ok (.iconst 1, 1) := dk_4 (dk_at dksX3_bringBack_0 12 rfl rfl)
theorem dX3_bringBack_13 : decode cX3_bringBack 13 = .ok (.aload_n 0, 1) := dk_42 (dk_at dksX3_bringBack_0 13 rfl rfl)
theorem dX3_bringBack_14 : decode cX3_bringBack 14 = .ok (.getfield 19, 3) := dk_180 0 19 (dk_at dksX3_bringBack_0 14 rfl rfl)
theorem dX3_bringBack_17 : decode cX3_bringBack 17 = .ok (.aastore, 1) := dk_83 (dk_at dksX3_bringBack_0 17 rfl rfl)
theorem dX3_bringBack_18 : decode cX3_bringBack 18 = .ok (.dup, 1) := dk_89 (dk_at dksX3_bringBack_0 18 rfl rfl)
theorem dX3_bringBack_19 : decode cX3_bringBack 19 = .ok (.iconst 2, 1) := dk_5 (dk_at dksX3_bringBack_0 19 rfl rfl)
theorem dX3_bringBack_20 : decode cX3_bringBack 20 = .ok (.aload_n 0, 1) := dk_42 (dk_at dksX3_bringBack_0 20 rfl rfl)
theorem dX3_bringBack_21 : decode cX3_bringBack 21 = .ok (.getfield 22, 3) := dk_180 0 22 (dk_at dksX3_bringBack_0 21 rfl rfl)
theorem dX3_bringBack_24 : decode cX3_bringBack 24 = .ok (.aastore, 1) := dk_83 (dk_at dksX3_bringBack_1 0 rfl rfl)
theorem dX3_bringBack_25 : decode cX3_bringBack 25 = .ok (.dup, 1) := dk_89 (dk_at dksX3_bringBack_1 1 rfl rfl)
theorem dX3_bringBack_26 : decode cX3_bringBack 26 = .ok (.iconst 3, 1) := dk_6 (dk_at dksX3_bringBack_1 2 rfl rfl)
theorem dX3_bringBack_27 : decode cX3_bringBack 27 = .ok (.aload_n 0, 1) := dk_42 (dk_at dksX3_bringBack_1 3 rfl rfl)
theorem dX3_bringBack_28 : decode cX3_bringBack 28 = .ok (.getfield 25, 3) := dk_180 0 25 (dk_at dksX3_bringBack_1 4 rfl rfl)
theorem dX3_bringBack_31 : decode cX3_bringBack 31 = .ok (.aastore, 1) := dk_83 (dk_at dksX3_bringBack_1 7 rfl rfl)
theorem dX3_bringBack_32 : decode cX3_bringBack 32 = .ok (.dup, 1) := dk_89 (dk_at dksX3_bringBack_1 8 rfl rfl)
theorem dX3_bringBack_33 : decode cX3_bringBack 33 = .ok (.iconst 4, 1) := dk_7 (dk_at dksX3_bringBack_1 9 rfl rfl)
theorem dX3_bringBack_34 : decode cX3_bringBack 34 = .ok (.aload_n 0, 1) := dk_42 (dk_at dksX3_bringBack_1 10 rfl rfl)
theorem dX3_bringBack_35 : decode cX3_bringBack 35 = .ok (.getfield 28, 3) := dk_180 0 28 (dk_at dksX3_bringBack_1 11 rfl rfl)
theorem dX3_bringBack_38 : decode cX3_bringBack 38 = .ok (.aastore, 1) := dk_83 (dk_at dksX3_bringBack_1 14 rfl rfl)
theorem dX3_bringBack_39 : decode cX3_bringBack 39 = .ok (.astore_n 2, 1) := dk_77 (dk_at dksX3_bringBack_1 15 rfl rfl)
theorem dX3_bringBack_40 : decode cX3_bringBack 40 = .ok (.iconst 0, 1) := dk_3 (dk_at dksX3_bringBack_1 16 rfl rfl)
theorem dX3_bringBack_41 : decode cX3_bringBack 41 = .ok (.istore_n 3, 1) := dk_62 (dk_at dksX3_bringBack_1 17 rfl rfl)
theorem dX3_bringBack_42 : decode cX3_bringBack 42 = .ok (.iload_n 3, 1) := dk_29 (dk_at dksX3_bringBack_1 18 rfl rfl)
theorem dX3_bringBack_43 : decode cX3_bringBack 43 = .ok (.iconst 5, 1) := dk_8 (dk_at dksX3_bringBack_1 19 rfl rfl)
theorem dX3_bringBack_44 : decode cX3_bringBack 44 = .ok (.if_icmp .ge 24, 3) := dk_162 0 24 (dk_at dksX3_bringBack_1 20 rfl rfl)
theorem dX3_bringBack_47 : decode cX3_bringBack 47 = .ok (.aload_n 1, 1) := dk_43 (dk_at dksX3_bringBack_1 23 rfl rfl)
theorem dX3_bringBack_48 : decode cX3_bringBack 48 = .ok (.iload_n 3, 1) := dk_29 (dk_at dksX3_bringBack_2 0 rfl rfl)
theorem dX3_bringBack_49 : decode cX3_bringBack 49 = .ok (.aaload, 1) := dk_50 (dk_at dksX3_bringBack_2 1 rfl rfl)
theorem dX3_bringBack_50 : decode cX3_bringBack 50 = .ok (.iconst 0, 1) := dk_3 (dk_at dksX3_bringBack_2 2 rfl rfl)
theorem dX3_bringBack_51 : decode cX3_bringBack 51 = .ok (.aload_n 2, 1) := dk_44 (dk_at dksX3_bringBack_2 3 rfl rfl)
theorem dX3_bringBack_52 : decode cX3_bringBack 52 = .ok (.iload_n 3, 1) := dk_29 (dk_at dksX3_bringBack_2 4 rfl rfl)
theorem dX3_bringBack_53 : decode cX3_bringBack 53 = .ok (.aaload, 1) := dk_50 (dk_at dksX3_bringBack_2 5 rfl rfl)
theorem dX3_bringBack_54 : decode cX3_bringBack 54 = .ok (.iconst 0, 1) := dk_3 (dk_at dksX3_bringBack_2 6 rfl rfl)
theorem dX3_bringBack_55 : decode cX3_bringBack 55 = .ok (.aload_n 2, 1) := dk_44 (dk_at dksX3_bringBack_2 7 rfl rfl)
theorem dX3_bringBack_56 : decode cX3_bringBack 56 = .ok (.iload_n 3, 1) := dk_29 (dk_at dksX3_bringBack_2 8 rfl rfl)
theorem dX3_bringBack_57 : decode cX3_bringBack 57 = .ok (.aaload, 1) := dk_50 (dk_at dksX3_bringBack_2 9 rfl rfl)
theorem dX3_bringBack_58 : decode cX3_bringBack 58 = .ok (.arraylength, 1) := dk_190 (dk_at dksX3_bringBack_2 10 rfl rfl)
theorem dX3_bringBack_59 : decode cX3_bringBack 59 = .ok (.invokestatic 53, 3) := dk_184 0 53 (dk_at dksX3_bringBack_2 11 rfl rfl)
theorem dX3_bringBack_62 : decode cX3_bringBack 62 = .ok (.iinc 3 1, 3) := dk_132 3 1 (dk_at dksX3_bringBack_2 14 rfl rfl)
theorem dX3_bringBack_65 : decode cX3_bringBack 65 = .ok (.goto (-23), 3) := dk_167 255 233 (dk_at dksX3_bringBack_2 17 rfl rfl)
theorem dX3_bringBack_68 : decode cX3_bringBack 68 = .ok (.return_, 1) := dk_177 (dk_at dksX3_bringBack_2 20 rfl rfl)
abbrev cX3_advise : ByteArray := prog_8_method_54_code
def yX3_advise : MethodName := ⟨RX3, "advise", "(I)I"⟩
def dkwX3_advise_5 : List UInt8 := [167, 255, 172, 29, 172]
abbrev dktX3_advise_5 : List UInt8 := dkwX3_advise_5 ++ []
def dkwX3_advise_4 : List UInt8 := [44, 182, 0, 174, 21, 6, 21, 4, 163, 0, 6, 167, 0, 10, 21, 5, 62, 21, 6, 54, 4, 132, 5, 1]
abbrev dktX3_advise_4 : List UInt8 := dkwX3_advise_4 ++ dktX3_advise_5
def dkwX3_advise_3 : List UInt8 := [21, 6, 27, 162, 0, 14, 42, 182, 0, 153, 87, 132, 6, 1, 167, 255, 242, 42, 182, 0, 159, 54, 6, 42]
abbrev dktX3_advise_3 : List UInt8 := dkwX3_advise_3 ++ dktX3_advise_4
def dkwX3_advise_2 : List UInt8 := [159, 0, 21, 42, 21, 5, 182, 0, 136, 153, 0, 6, 167, 0, 57, 42, 21, 5, 182, 0, 139, 3, 54, 6]
abbrev dktX3_advise_2 : List UInt8 := dkwX3_advise_2 ++ dktX3_advise_3
def dkwX3_advise_1 : List UInt8 := [182, 0, 170, 77, 2, 62, 2, 54, 4, 2, 54, 5, 21, 5, 42, 180, 0, 35, 162, 0, 81, 21, 5, 2]
abbrev dktX3_advise_1 : List UInt8 := dkwX3_advise_1 ++ dktX3_advise_2
def dkwX3_advise_0 : List UInt8 := [42, 3, 181, 0, 31, 27, 4, 16, 60, 184, 0, 38, 154, 0, 9, 42, 4, 182, 0, 59, 172, 42]
abbrev dktX3_advise_0 : List UInt8 := dkwX3_advise_0 ++ dktX3_advise_1
theorem dksX3_advise_0 : cX3_advise.data.toList.drop 0 = dktX3_advise_0 := by decide +kernel
theorem dksX3_advise_1 : cX3_advise.data.toList.drop 22 = dktX3_advise_1 := dk_seg dksX3_advise_0 22 rfl rfl
theorem dksX3_advise_2 : cX3_advise.data.toList.drop 46 = dktX3_advise_2 := dk_seg dksX3_advise_1 24 rfl rfl
theorem dksX3_advise_3 : cX3_advise.data.toList.drop 70 = dktX3_advise_3 := dk_seg dksX3_advise_2 24 rfl rfl
theorem dksX3_advise_4 : cX3_advise.data.toList.drop 94 = dktX3_advise_4 := dk_seg dksX3_advise_3 24 rfl rfl
theorem dksX3_advise_5 : cX3_advise.data.toList.drop 118 = dktX3_advise_5 := dk_seg dksX3_advise_4 24 rfl rfl
theorem dX3_advise_0 : decode cX3_advise 0 = .ok (.aload_n 0, 1) := dk_42 (dk_at dksX3_advise_0 0 rfl rfl)
theorem dX3_advise_1 : decode cX3_advise 1 = .ok (.iconst 0, 1) := dk_3 (dk_at dksX3_advise_0 1 rfl rfl)
theorem dX3_advise_2 : decode cX3_advise 2 = .ok (.putfield 31, 3) := dk_181 0 31 (dk_at dksX3_advise_0 2 rfl rfl)
theorem dX3_advise_5 : decode cX3_advise 5 = .ok (.iload_n 1, 1) := dk_27 (dk_at dksX3_advise_0 5 rfl rfl)
theorem dX3_advise_6 : decode cX3_advise 6 = .ok (.iconst 1, 1) := dk_4 (dk_at dksX3_advise_0 6 rfl rfl)
theorem dX3_advise_7 : decode cX3_advise 7 = .ok (.bipush 60, 2) := dk_16 60 (dk_at dksX3_advise_0 7 rfl rfl)
theorem dX3_advise_9 : decode cX3_advise 9 = .ok (.invokestatic 38, 3) := dk_184 0 38 (dk_at dksX3_advise_0 9 rfl rfl)
theorem dX3_advise_12 : decode cX3_advise 12 = .ok (.ifCond .ne 9, 3) := dk_154 0 9 (dk_at dksX3_advise_0 12 rfl rfl)
theorem dX3_advise_15 : decode cX3_advise 15 = .ok (.aload_n 0, 1) := dk_42 (dk_at dksX3_advise_0 15 rfl rfl)
theorem dX3_advise_16 : decode cX3_advise 16 = .ok (.iconst 1, 1) := dk_4 (dk_at dksX3_advise_0 16 rfl rfl)
theorem dX3_advise_17 : decode cX3_advise 17 = .ok (.invokevirtual 59, 3) := dk_182 0 59 (dk_at dksX3_advise_0 17 rfl rfl)
theorem dX3_advise_20 : decode cX3_advise 20 = .ok (.ireturn, 1) := dk_172 (dk_at dksX3_advise_0 20 rfl rfl)
theorem dX3_advise_21 : decode cX3_advise 21 = .ok (.aload_n 0, 1) := dk_42 (dk_at dksX3_advise_0 21 rfl rfl)
theorem dX3_advise_22 : decode cX3_advise 22 = .ok (.invokevirtual 170, 3) := dk_182 0 170 (dk_at dksX3_advise_1 0 rfl rfl)
theorem dX3_advise_25 : decode cX3_advise 25 = .ok (.astore_n 2, 1) := dk_77 (dk_at dksX3_advise_1 3 rfl rfl)
theorem dX3_advise_26 : decode cX3_advise 26 = .ok (.iconst (-1), 1) := dk_2 (dk_at dksX3_advise_1 4 rfl rfl)
theorem dX3_advise_27 : decode cX3_advise 27 = .ok (.istore_n 3, 1) := dk_62 (dk_at dksX3_advise_1 5 rfl rfl)
theorem dX3_advise_28 : decode cX3_advise 28 = .ok (.iconst (-1), 1) := dk_2 (dk_at dksX3_advise_1 6 rfl rfl)
theorem dX3_advise_29 : decode cX3_advise 29 = .ok (.istore 4, 2) := dk_54 4 (dk_at dksX3_advise_1 7 rfl rfl)
theorem dX3_advise_31 : decode cX3_advise 31 = .ok (.iconst (-1), 1) := dk_2 (dk_at dksX3_advise_1 9 rfl rfl)
theorem dX3_advise_32 : decode cX3_advise 32 = .ok (.istore 5, 2) := dk_54 5 (dk_at dksX3_advise_1 10 rfl rfl)
theorem dX3_advise_34 : decode cX3_advise 34 = .ok (.iload 5, 2) := dk_21 5 (dk_at dksX3_advise_1 12 rfl rfl)
theorem dX3_advise_36 : decode cX3_advise 36 = .ok (.aload_n 0, 1) := dk_42 (dk_at dksX3_advise_1 14 rfl rfl)
theorem dX3_advise_37 : decode cX3_advise 37 = .ok (.getfield 35, 3) := dk_180 0 35 (dk_at dksX3_advise_1 15 rfl rfl)
theorem dX3_advise_40 : decode cX3_advise 40 = .ok (.if_icmp .ge 81, 3) := dk_162 0 81 (dk_at dksX3_advise_1 18 rfl rfl)
theorem dX3_advise_43 : decode cX3_advise 43 = .ok (.iload 5, 2) := dk_21 5 (dk_at dksX3_advise_1 21 rfl rfl)
theorem dX3_advise_45 : decode cX3_advise 45 = .ok (.iconst (-1), 1) := dk_2 (dk_at dksX3_advise_1 23 rfl rfl)
theorem dX3_advise_46 : decode cX3_advise 46 = .ok (.if_icmp .eq 21, 3) := dk_159 0 21 (dk_at dksX3_advise_2 0 rfl rfl)
theorem dX3_advise_49 : decode cX3_advise 49 = .ok (.aload_n 0, 1) := dk_42 (dk_at dksX3_advise_2 3 rfl rfl)
theorem dX3_advise_50 : decode cX3_advise 50 = .ok (.iload 5, 2) := dk_21 5 (dk_at dksX3_advise_2 4 rfl rfl)
theorem dX3_advise_52 : decode cX3_advise 52 = .ok (.invokevirtual 136, 3) := dk_182 0 136 (dk_at dksX3_advise_2 6 rfl rfl)
theorem dX3_advise_55 : decode cX3_advise 55 = .ok (.ifCond .eq 6, 3) := dk_153 0 6 (dk_at dksX3_advise_2 9 rfl rfl)
theorem dX3_advise_58 : decode cX3_advise 58 = .ok (.goto 57, 3) := dk_167 0 57 (dk_at dksX3_advise_2 12 rfl rfl)
theorem dX3_advise_61 : decode cX3_advise 61 = .ok (.aload_n 0, 1) := dk_42 (dk_at dksX3_advise_2 15 rfl rfl)
theorem dX3_advise_62 : decode cX3_advise 62 = .ok (.iload 5, 2) := dk_21 5 (dk_at dksX3_advise_2 16 rfl rfl)
theorem dX3_advise_64 : decode cX3_advise 64 = .ok (.invokevirtual 139, 3) := dk_182 0 139 (dk_at dksX3_advise_2 18 rfl rfl)
theorem dX3_advise_67 : decode cX3_advise 67 = .ok (.iconst 0, 1) := dk_3 (dk_at dksX3_advise_2 21 rfl rfl)
theorem dX3_advise_68 : decode cX3_advise 68 = .ok (.istore 6, 2) := dk_54 6 (dk_at dksX3_advise_2 22 rfl rfl)
theorem dX3_advise_70 : decode cX3_advise 70 = .ok (.iload 6, 2) := dk_21 6 (dk_at dksX3_advise_3 0 rfl rfl)
theorem dX3_advise_72 : decode cX3_advise 72 = .ok (.iload_n 1, 1) := dk_27 (dk_at dksX3_advise_3 2 rfl rfl)
theorem dX3_advise_73 : decode cX3_advise 73 = .ok (.if_icmp .ge 14, 3) := dk_162 0 14 (dk_at dksX3_advise_3 3 rfl rfl)
theorem dX3_advise_76 : decode cX3_advise 76 = .ok (.aload_n 0, 1) := dk_42 (dk_at dksX3_advise_3 6 rfl rfl)
theorem dX3_advise_77 : decode cX3_advise 77 = .ok (.invokevirtual 153, 3) := dk_182 0 153 (dk_at dksX3_advise_3 7 rfl rfl)
theorem dX3_advise_80 : decode cX3_advise 80 = .ok (.pop, 1) := dk_87 (dk_at dksX3_advise_3 10 rfl rfl)
theorem dX3_advise_81 : decode cX3_advise 81 = .ok (.iinc 6 1, 3) := dk_132 6 1 (dk_at dksX3_advise_3 11 rfl rfl)
theorem dX3_advise_84 : decode cX3_advise 84 = .ok (.goto (-14), 3) := dk_167 255 242 (dk_at dksX3_advise_3 14 rfl rfl)
theorem dX3_advise_87 : decode cX3_advise 87 = .ok (.aload_n 0, 1) := dk_42 (dk_at dksX3_advise_3 17 rfl rfl)
theorem dX3_advise_88 : decode cX3_advise 88 = .ok (.invokevirtual 159, 3) := dk_182 0 159 (dk_at dksX3_advise_3 18 rfl rfl)
theorem dX3_advise_91 : decode cX3_advise 91 = .ok (.istore 6, 2) := dk_54 6 (dk_at dksX3_advise_3 21 rfl rfl)
theorem dX3_advise_93 : decode cX3_advise 93 = .ok (.aload_n 0, 1) := dk_42 (dk_at dksX3_advise_3 23 rfl rfl)
theorem dX3_advise_94 : decode cX3_advise 94 = .ok (.aload_n 2, 1) := dk_44 (dk_at dksX3_advise_4 0 rfl rfl)
theorem dX3_advise_95 : decode cX3_advise 95 = .ok (.invokevirtual 174, 3) := dk_182 0 174 (dk_at dksX3_advise_4 1 rfl rfl)
theorem dX3_advise_98 : decode cX3_advise 98 = .ok (.iload 6, 2) := dk_21 6 (dk_at dksX3_advise_4 4 rfl rfl)
theorem dX3_advise_100 : decode cX3_advise 100 = .ok (.iload 4, 2) := dk_21 4 (dk_at dksX3_advise_4 6 rfl rfl)
theorem dX3_advise_102 : decode cX3_advise 102 = .ok (.if_icmp .gt 6, 3) := dk_163 0 6 (dk_at dksX3_advise_4 8 rfl rfl)
theorem dX3_advise_105 : decode cX3_advise 105 = .ok (.goto 10, 3) := dk_167 0 10 (dk_at dksX3_advise_4 11 rfl rfl)
theorem dX3_advise_108 : decode cX3_advise 108 = .ok (.iload 5, 2) := dk_21 5 (dk_at dksX3_advise_4 14 rfl rfl)
theorem dX3_advise_110 : decode cX3_advise 110 = .ok (.istore_n 3, 1) := dk_62 (dk_at dksX3_advise_4 16 rfl rfl)
theorem dX3_advise_111 : decode cX3_advise 111 = .ok (.iload 6, 2) := dk_21 6 (dk_at dksX3_advise_4 17 rfl rfl)
theorem dX3_advise_113 : decode cX3_advise 113 = .ok (.istore 4, 2) := dk_54 4 (dk_at dksX3_advise_4 19 rfl rfl)
theorem dX3_advise_115 : decode cX3_advise 115 = .ok (.iinc 5 1, 3) := dk_132 5 1 (dk_at dksX3_advise_4 21 rfl rfl)
theorem dX3_advise_118 : decode cX3_advise 118 = .ok (.goto (-84), 3) := dk_167 255 172 (dk_at dksX3_advise_5 0 rfl rfl)
theorem dX3_advise_121 : decode cX3_advise 121 = .ok (.iload_n 3, 1) := dk_29 (dk_at dksX3_advise_5 3 rfl rfl)
theorem dX3_advise_122 : decode cX3_advise 122 = .ok (.ireturn, 1) := dk_172 (dk_at dksX3_advise_5 4 rfl rfl)
abbrev cX3_back : ByteArray := prog_8_method_55_code
def yX3_back : MethodName := ⟨RX3, "back", "()D"⟩
def dkwX3_back_2 : List UInt8 := [154, 0, 7, 14, 167, 0, 8, 28, 135, 27, 135, 111, 175]
abbrev dktX3_back_2 : List UInt8 := dkwX3_back_2 ++ []
def dkwX3_back_1 : List UInt8 := [182, 0, 45, 96, 60, 28, 42, 29, 16, 8, 182, 0, 45, 96, 61, 132, 3, 1, 167, 255, 225, 27]
abbrev dktX3_back_1 : List UInt8 := dkwX3_back_1 ++ dktX3_back_2
def dkwX3_back_0 : List UInt8 := [42, 3, 181, 0, 31, 3, 60, 3, 61, 3, 62, 29, 42, 180, 0, 35, 162, 0, 29, 27, 42, 29, 16, 7]
abbrev dktX3_back_0 : List UInt8 := dkwX3_back_0 ++ dktX3_back_1
theorem dksX3_back_0 : cX3_back.data.toList.drop 0 = dktX3_back_0 := by decide +kernel
theorem dksX3_back_1 : cX3_back.data.toList.drop 24 = dktX3_back_1 := dk_seg dksX3_back_0 24 rfl rfl
theorem dksX3_back_2 : cX3_back.data.toList.drop 46 = dktX3_back_2 := dk_seg dksX3_back_1 22 rfl rfl
theorem dX3_back_0 : decode cX3_back 0 = .ok (.aload_n 0, 1) := dk_42 (dk_at dksX3_back_0 0 rfl rfl)
theorem dX3_back_1 : decode cX3_back 1 = .ok (.iconst 0, 1) := dk_3 (dk_at dksX3_back_0 1 rfl rfl)
theorem dX3_back_2 : decode cX3_back 2 = .ok (.putfield 31, 3) := dk_181 0 31 (dk_at dksX3_back_0 2 rfl rfl)
theorem dX3_back_5 : decode cX3_back 5 = .ok (.iconst 0, 1) := dk_3 (dk_at dksX3_back_0 5 rfl rfl)
theorem dX3_back_6 : decode cX3_back 6 = .ok (.istore_n 1, 1) := dk_60 (dk_at dksX3_back_0 6 rfl rfl)
theorem dX3_back_7 : decode cX3_back 7 = .ok (.iconst 0, 1) := dk_3 (dk_at dksX3_back_0 7 rfl rfl)
theorem dX3_back_8 : decode cX3_back 8 = .ok (.istore_n 2, 1) := dk_61 (dk_at dksX3_back_0 8 rfl rfl)
theorem dX3_back_9 : decode cX3_back 9 = .ok (.iconst 0, 1) := dk_3 (dk_at dksX3_back_0 9 rfl rfl)
theorem dX3_back_10 : decode cX3_back 10 = .ok (.istore_n 3, 1) := dk_62 (dk_at dksX3_back_0 10 rfl rfl)
theorem dX3_back_11 : decode cX3_back 11 = .ok (.iload_n 3, 1) := dk_29 (dk_at dksX3_back_0 11 rfl rfl)
theorem dX3_back_12 : decode cX3_back 12 = .ok (.aload_n 0, 1) := dk_42 (dk_at dksX3_back_0 12 rfl rfl)
theorem dX3_back_13 : decode cX3_back 13 = .ok (.getfield 35, 3) := dk_180 0 35 (dk_at dksX3_back_0 13 rfl rfl)
theorem dX3_back_16 : decode cX3_back 16 = .ok (.if_icmp .ge 29, 3) := dk_162 0 29 (dk_at dksX3_back_0 16 rfl rfl)
theorem dX3_back_19 : decode cX3_back 19 = .ok (.iload_n 1, 1) := dk_27 (dk_at dksX3_back_0 19 rfl rfl)
theorem dX3_back_20 : decode cX3_back 20 = .ok (.aload_n 0, 1) := dk_42 (dk_at dksX3_back_0 20 rfl rfl)
theorem dX3_back_21 : decode cX3_back 21 = .ok (.iload_n 3, 1) := dk_29 (dk_at dksX3_back_0 21 rfl rfl)
theorem dX3_back_22 : decode cX3_back 22 = .ok (.bipush 7, 2) := dk_16 7 (dk_at dksX3_back_0 22 rfl rfl)
theorem dX3_back_24 : decode cX3_back 24 = .ok (.invokevirtual 45, 3) := dk_182 0 45 (dk_at dksX3_back_1 0 rfl rfl)
theorem dX3_back_27 : decode cX3_back 27 = .ok (.iadd, 1) := dk_96 (dk_at dksX3_back_1 3 rfl rfl)
theorem dX3_back_28 : decode cX3_back 28 = .ok (.istore_n 1, 1) := dk_60 (dk_at dksX3_back_1 4 rfl rfl)
theorem dX3_back_29 : decode cX3_back 29 = .ok (.iload_n 2, 1) := dk_28 (dk_at dksX3_back_1 5 rfl rfl)
theorem dX3_back_30 : decode cX3_back 30 = .ok (.aload_n 0, 1) := dk_42 (dk_at dksX3_back_1 6 rfl rfl)
theorem dX3_back_31 : decode cX3_back 31 = .ok (.iload_n 3, 1) := dk_29 (dk_at dksX3_back_1 7 rfl rfl)
theorem dX3_back_32 : decode cX3_back 32 = .ok (.bipush 8, 2) := dk_16 8 (dk_at dksX3_back_1 8 rfl rfl)
theorem dX3_back_34 : decode cX3_back 34 = .ok (.invokevirtual 45, 3) := dk_182 0 45 (dk_at dksX3_back_1 10 rfl rfl)
theorem dX3_back_37 : decode cX3_back 37 = .ok (.iadd, 1) := dk_96 (dk_at dksX3_back_1 13 rfl rfl)
theorem dX3_back_38 : decode cX3_back 38 = .ok (.istore_n 2, 1) := dk_61 (dk_at dksX3_back_1 14 rfl rfl)
theorem dX3_back_39 : decode cX3_back 39 = .ok (.iinc 3 1, 3) := dk_132 3 1 (dk_at dksX3_back_1 15 rfl rfl)
theorem dX3_back_42 : decode cX3_back 42 = .ok (.goto (-31), 3) := dk_167 255 225 (dk_at dksX3_back_1 18 rfl rfl)
theorem dX3_back_45 : decode cX3_back 45 = .ok (.iload_n 1, 1) := dk_27 (dk_at dksX3_back_1 21 rfl rfl)
theorem dX3_back_46 : decode cX3_back 46 = .ok (.ifCond .ne 7, 3) := dk_154 0 7 (dk_at dksX3_back_2 0 rfl rfl)
theorem dX3_back_49 : decode cX3_back 49 = .ok (.dconst 0, 1) := dk_14 (dk_at dksX3_back_2 3 rfl rfl)
theorem dX3_back_50 : decode cX3_back 50 = .ok (.goto 8, 3) := dk_167 0 8 (dk_at dksX3_back_2 4 rfl rfl)
theorem dX3_back_53 : decode cX3_back 53 = .ok (.iload_n 2, 1) := dk_28 (dk_at dksX3_back_2 7 rfl rfl)
theorem dX3_back_54 : decode cX3_back 54 = .ok (.i2d, 1) := dk_135 (dk_at dksX3_back_2 8 rfl rfl)
theorem dX3_back_55 : decode cX3_back 55 = .ok (.iload_n 1, 1) := dk_27 (dk_at dksX3_back_2 9 rfl rfl)
theorem dX3_back_56 : decode cX3_back 56 = .ok (.i2d, 1) := dk_135 (dk_at dksX3_back_2 10 rfl rfl)
theorem dX3_back_57 : decode cX3_back 57 = .ok (.ddiv, 1) := dk_111 (dk_at dksX3_back_2 11 rfl rfl)
theorem dX3_back_58 : decode cX3_back 58 = .ok (.dreturn, 1) := dk_175 (dk_at dksX3_back_2 12 rfl rfl)
abbrev cX3_digest : ByteArray := prog_8_method_56_code
def yX3_digest : MethodName := ⟨RX3, "digest", "()J"⟩
def dkwX3_digest_12 : List UInt8 := [31, 20, 0, 180, 105, 42, 180, 0, 25, 29, 46, 133, 97, 64, 132, 3, 1, 167, 255, 229, 31, 173]
abbrev dktX3_digest_12 : List UInt8 := dkwX3_digest_12 ++ []
def dkwX3_digest_11 : List UInt8 := [132, 4, 1, 167, 255, 231, 132, 3, 1, 167, 255, 214, 3, 62, 29, 42, 180, 0, 28, 4, 46, 162, 0, 23]
abbrev dktX3_digest_11 : List UInt8 := dkwX3_digest_11 ++ dktX3_digest_12
def dkwX3_digest_10 : List UInt8 := [54, 4, 21, 4, 16, 6, 162, 0, 24, 31, 20, 0, 180, 105, 42, 29, 21, 4, 182, 0, 78, 133, 97, 64]
abbrev dktX3_digest_10 : List UInt8 := dkwX3_digest_10 ++ dktX3_digest_11
def dkwX3_digest_9 : List UInt8 := [64, 132, 4, 1, 167, 255, 220, 132, 3, 1, 167, 255, 71, 3, 62, 29, 42, 180, 0, 42, 162, 0, 40, 3]
abbrev dktX3_digest_9 : List UInt8 := dkwX3_digest_9 ++ dktX3_digest_10
def dkwX3_digest_8 : List UInt8 := [182, 0, 49, 154, 0, 28, 31, 20, 0, 180, 105, 42, 180, 0, 19, 8, 29, 104, 21, 4, 96, 46, 133, 97]
abbrev dktX3_digest_8 : List UInt8 := dkwX3_digest_8 ++ dktX3_digest_9
def dkwX3_digest_7 : List UInt8 := [132, 5, 1, 167, 255, 221, 132, 4, 1, 167, 255, 201, 3, 54, 4, 21, 4, 8, 162, 0, 36, 42, 29]
abbrev dktX3_digest_7 : List UInt8 := dkwX3_digest_7 ++ dktX3_digest_8
def dkwX3_digest_6 : List UInt8 := [162, 0, 30, 31, 20, 0, 180, 105, 42, 180, 0, 13, 29, 21, 4, 21, 5, 184, 0, 74, 46, 133, 97, 64]
abbrev dktX3_digest_6 : List UInt8 := dkwX3_digest_6 ++ dktX3_digest_7
def dkwX3_digest_5 : List UInt8 := [54, 4, 21, 4, 42, 29, 5, 182, 0, 45, 162, 0, 50, 3, 54, 5, 21, 5, 42, 29, 4, 182, 0, 45]
abbrev dktX3_digest_5 : List UInt8 := dkwX3_digest_5 ++ dktX3_digest_6
def dkwX3_digest_4 : List UInt8 := [105, 42, 180, 0, 9, 16, 9, 29, 104, 21, 4, 96, 46, 133, 97, 64, 132, 4, 1, 167, 255, 222, 3]
abbrev dktX3_digest_4 : List UInt8 := dkwX3_digest_4 ++ dktX3_digest_5
def dkwX3_digest_3 : List UInt8 := [132, 4, 1, 167, 255, 231, 3, 54, 4, 21, 4, 42, 29, 4, 182, 0, 45, 162, 0, 29, 31, 20, 0, 180]
abbrev dktX3_digest_3 : List UInt8 := dkwX3_digest_3 ++ dktX3_digest_4
def dkwX3_digest_2 : List UInt8 := [54, 4, 21, 4, 16, 11, 162, 0, 24, 31, 20, 0, 180, 105, 42, 29, 21, 4, 182, 0, 84, 133, 97, 64]
abbrev dktX3_digest_2 : List UInt8 := dkwX3_digest_2 ++ dktX3_digest_3
def dkwX3_digest_1 : List UInt8 := [182, 0, 162, 133, 97, 64, 132, 3, 1, 167, 255, 234, 3, 62, 29, 42, 180, 0, 35, 162, 0, 183, 3]
abbrev dktX3_digest_1 : List UInt8 := dkwX3_digest_1 ++ dktX3_digest_2
def dkwX3_digest_0 : List UInt8 := [42, 3, 181, 0, 31, 20, 0, 178, 64, 3, 62, 29, 16, 10, 162, 0, 22, 31, 20, 0, 180, 105, 42, 29]
abbrev dktX3_digest_0 : List UInt8 := dkwX3_digest_0 ++ dktX3_digest_1
theorem dksX3_digest_0 : cX3_digest.data.toList.drop 0 = dktX3_digest_0 := by decide +kernel
theorem dksX3_digest_1 : cX3_digest.data.toList.drop 24 = dktX3_digest_1 := dk_seg dksX3_digest_0 24 rfl rfl
theorem dksX3_digest_2 : cX3_digest.data.toList.drop 47 = dktX3_digest_2 := dk_seg dksX3_digest_1 23 rfl rfl
theorem dksX3_digest_3 : cX3_digest.data.toList.drop 71 = dktX3_digest_3 := dk_seg dksX3_digest_2 24 rfl rfl
theorem dksX3_digest_4 : cX3_digest.data.toList.drop 95 = dktX3_digest_4 := dk_seg dksX3_digest_3 24 rfl rfl
theorem dksX3_digest_5 : cX3_digest.data.toList.drop 118 = dktX3_digest_5 := dk_seg dksX3_digest_4 23 rfl rfl
theorem dksX3_digest_6 : cX3_digest.data.toList.drop 142 = dktX3_digest_6 := dk_seg dksX3_digest_5 24 rfl rfl
theorem dksX3_digest_7 : cX3_digest.data.toList.drop 166 = dktX3_digest_7 := dk_seg dksX3_digest_6 24 rfl rfl
theorem dksX3_digest_8 : cX3_digest.data.toList.drop 189 = dktX3_digest_8 := dk_seg dksX3_digest_7 23 rfl rfl
theorem dksX3_digest_9 : cX3_digest.data.toList.drop 213 = dktX3_digest_9 := dk_seg dksX3_digest_8 24 rfl rfl
theorem dksX3_digest_10 : cX3_digest.data.toList.drop 237 = dktX3_digest_10 := dk_seg dksX3_digest_9 24 rfl rfl
theorem dksX3_digest_11 : cX3_digest.data.toList.drop 261 = dktX3_digest_11 := dk_seg dksX3_digest_10 24 rfl rfl
theorem dksX3_digest_12 : cX3_digest.data.toList.drop 285 = dktX3_digest_12 := dk_seg dksX3_digest_11 24 rfl rfl
theorem dX3_digest_0 : decode cX3_digest 0 = .ok (.aload_n 0, 1) := dk_42 (dk_at dksX3_digest_0 0 rfl rfl)
theorem dX3_digest_1 : decode cX3_digest 1 = .ok (.iconst 0, 1) := dk_3 (dk_at dksX3_digest_0 1 rfl rfl)
theorem dX3_digest_2 : decode cX3_digest 2 = .ok (.putfield 31, 3) := dk_181 0 31 (dk_at dksX3_digest_0 2 rfl rfl)
theorem dX3_digest_5 : decode cX3_digest 5 = .ok (.ldc2_w 178, 3) := dk_20 0 178 (dk_at dksX3_digest_0 5 rfl rfl)
theorem dX3_digest_8 : decode cX3_digest 8 = .ok (.lstore_n 1, 1) := dk_64 (dk_at dksX3_digest_0 8 rfl rfl)
theorem dX3_digest_9 : decode cX3_digest 9 = .ok (.iconst 0, 1) := dk_3 (dk_at dksX3_digest_0 9 rfl rfl)
theorem dX3_digest_10 : decode cX3_digest 10 = .ok (.istore_n 3, 1) := dk_62 (dk_at dksX3_digest_0 10 rfl rfl)
theorem dX3_digest_11 : decode cX3_digest 11 = .ok (.iload_n 3, 1) := dk_29 (dk_at dksX3_digest_0 11 rfl rfl)
theorem dX3_digest_12 : decode cX3_digest 12 = .ok (.bipush 10, 2) := dk_16 10 (dk_at dksX3_digest_0 12 rfl rfl)
theorem dX3_digest_14 : decode cX3_digest 14 = .ok (.if_icmp .ge 22, 3) := dk_162 0 22 (dk_at dksX3_digest_0 14 rfl rfl)
theorem dX3_digest_17 : decode cX3_digest 17 = .ok (.lload_n 1, 1) := dk_31 (dk_at dksX3_digest_0 17 rfl rfl)
theorem dX3_digest_18 : decode cX3_digest 18 = .ok (.ldc2_w 180, 3) := dk_20 0 180 (dk_at dksX3_digest_0 18 rfl rfl)
theorem dX3_digest_21 : decode cX3_digest 21 = .ok (.lmul, 1) := dk_105 (dk_at dksX3_digest_0 21 rfl rfl)
theorem dX3_digest_22 : decode cX3_digest 22 = .ok (.aload_n 0, 1) := dk_42 (dk_at dksX3_digest_0 22 rfl rfl)
theorem dX3_digest_23 : decode cX3_digest 23 = .ok (.iload_n 3, 1) := dk_29 (dk_at dksX3_digest_0 23 rfl rfl)
theorem dX3_digest_24 : decode cX3_digest 24 = .ok (.invokevirtual 162, 3) := dk_182 0 162 (dk_at dksX3_digest_1 0 rfl rfl)
theorem dX3_digest_27 : decode cX3_digest 27 = .ok (.i2l, 1) := dk_133 (dk_at dksX3_digest_1 3 rfl rfl)
theorem dX3_digest_28 : decode cX3_digest 28 = .ok (.ladd, 1) := dk_97 (dk_at dksX3_digest_1 4 rfl rfl)
theorem dX3_digest_29 : decode cX3_digest 29 = .ok (.lstore_n 1, 1) := dk_64 (dk_at dksX3_digest_1 5 rfl rfl)
theorem dX3_digest_30 : decode cX3_digest 30 = .ok (.iinc 3 1, 3) := dk_132 3 1 (dk_at dksX3_digest_1 6 rfl rfl)
theorem dX3_digest_33 : decode cX3_digest 33 = .ok (.goto (-22), 3) := dk_167 255 234 (dk_at dksX3_digest_1 9 rfl rfl)
theorem dX3_digest_36 : decode cX3_digest 36 = .ok (.iconst 0, 1) := dk_3 (dk_at dksX3_digest_1 12 rfl rfl)
theorem dX3_digest_37 : decode cX3_digest 37 = .ok (.istore_n 3, 1) := dk_62 (dk_at dksX3_digest_1 13 rfl rfl)
theorem dX3_digest_38 : decode cX3_digest 38 = .ok (.iload_n 3, 1) := dk_29 (dk_at dksX3_digest_1 14 rfl rfl)
theorem dX3_digest_39 : decode cX3_digest 39 = .ok (.aload_n 0, 1) := dk_42 (dk_at dksX3_digest_1 15 rfl rfl)
theorem dX3_digest_40 : decode cX3_digest 40 = .ok (.getfield 35, 3) := dk_180 0 35 (dk_at dksX3_digest_1 16 rfl rfl)
theorem dX3_digest_43 : decode cX3_digest 43 = .ok (.if_icmp .ge 183, 3) := dk_162 0 183 (dk_at dksX3_digest_1 19 rfl rfl)
theorem dX3_digest_46 : decode cX3_digest 46 = .ok (.iconst 0, 1) := dk_3 (dk_at dksX3_digest_1 22 rfl rfl)
theorem dX3_digest_47 : decode cX3_digest 47 = .ok (.istore 4, 2) := dk_54 4 (dk_at dksX3_digest_2 0 rfl rfl)
theorem dX3_digest_49 : decode cX3_digest 49 = .ok (.iload 4, 2) := dk_21 4 (dk_at dksX3_digest_2 2 rfl rfl)
theorem dX3_digest_51 : decode cX3_digest 51 = .ok (.bipush 11, 2) := dk_16 11 (dk_at dksX3_digest_2 4 rfl rfl)
theorem dX3_digest_53 : decode cX3_digest 53 = .ok (.if_icmp .ge 24, 3) := dk_162 0 24 (dk_at dksX3_digest_2 6 rfl rfl)
theorem dX3_digest_56 : decode cX3_digest 56 = .ok (.lload_n 1, 1) := dk_31 (dk_at dksX3_digest_2 9 rfl rfl)
theorem dX3_digest_57 : decode cX3_digest 57 = .ok (.ldc2_w 180, 3) := dk_20 0 180 (dk_at dksX3_digest_2 10 rfl rfl)
theorem dX3_digest_60 : decode cX3_digest 60 = .ok (.lmul, 1) := dk_105 (dk_at dksX3_digest_2 13 rfl rfl)
theorem dX3_digest_61 : decode cX3_digest 61 = .ok (.aload_n 0, 1) := dk_42 (dk_at dksX3_digest_2 14 rfl rfl)
theorem dX3_digest_62 : decode cX3_digest 62 = .ok (.iload_n 3, 1) := dk_29 (dk_at dksX3_digest_2 15 rfl rfl)
theorem dX3_digest_63 : decode cX3_digest 63 = .ok (.iload 4, 2) := dk_21 4 (dk_at dksX3_digest_2 16 rfl rfl)
theorem dX3_digest_65 : decode cX3_digest 65 = .ok (.invokevirtual 84, 3) := dk_182 0 84 (dk_at dksX3_digest_2 18 rfl rfl)
theorem dX3_digest_68 : decode cX3_digest 68 = .ok (.i2l, 1) := dk_133 (dk_at dksX3_digest_2 21 rfl rfl)
theorem dX3_digest_69 : decode cX3_digest 69 = .ok (.ladd, 1) := dk_97 (dk_at dksX3_digest_2 22 rfl rfl)
theorem dX3_digest_70 : decode cX3_digest 70 = .ok (.lstore_n 1, 1) := dk_64 (dk_at dksX3_digest_2 23 rfl rfl)
theorem dX3_digest_71 : decode cX3_digest 71 = .ok (.iinc 4 1, 3) := dk_132 4 1 (dk_at dksX3_digest_3 0 rfl rfl)
theorem dX3_digest_74 : decode cX3_digest 74 = .ok (.goto (-25), 3) := dk_167 255 231 (dk_at dksX3_digest_3 3 rfl rfl)
theorem dX3_digest_77 : decode cX3_digest 77 = .ok (.iconst 0, 1) := dk_3 (dk_at dksX3_digest_3 6 rfl rfl)
theorem dX3_digest_78 : decode cX3_digest 78 = .ok (.istore 4, 2) := dk_54 4 (dk_at dksX3_digest_3 7 rfl rfl)
theorem dX3_digest_80 : decode cX3_digest 80 = .ok (.iload 4, 2) := dk_21 4 (dk_at dksX3_digest_3 9 rfl rfl)
theorem dX3_digest_82 : decode cX3_digest 82 = .ok (.aload_n 0, 1) := dk_42 (dk_at dksX3_digest_3 11 rfl rfl)
theorem dX3_digest_83 : decode cX3_digest 83 = .ok (.iload_n 3, 1) := dk_29 (dk_at dksX3_digest_3 12 rfl rfl)
theorem dX3_digest_84 : decode cX3_digest 84 = .ok (.iconst 1, 1) := dk_4 (dk_at dksX3_digest_3 13 rfl rfl)
theorem dX3_digest_85 : decode cX3_digest 85 = .ok (.invokevirtual 45, 3) := dk_182 0 45 (dk_at dksX3_digest_3 14 rfl rfl)
theorem dX3_digest_88 : decode cX3_digest 88 = .ok (.if_icmp .ge 29, 3) := dk_162 0 29 (dk_at dksX3_digest_3 17 rfl rfl)
theorem dX3_digest_91 : decode cX3_digest 91 = .ok (.lload_n 1, 1) := dk_31 (dk_at dksX3_digest_3 20 rfl rfl)
theorem dX3_digest_92 : decode cX3_digest 92 = .ok (.ldc2_w 180, 3) := dk_20 0 180 (dk_at dksX3_digest_3 21 rfl rfl)
theorem dX3_digest_95 : decode cX3_digest 95 = .ok (.lmul, 1) := dk_105 (dk_at dksX3_digest_4 0 rfl rfl)
theorem dX3_digest_96 : decode cX3_digest 96 = .ok (.aload_n 0, 1) := dk_42 (dk_at dksX3_digest_4 1 rfl rfl)
theorem dX3_digest_97 : decode cX3_digest 97 = .ok (.getfield 9, 3) := dk_180 0 9 (dk_at dksX3_digest_4 2 rfl rfl)
theorem dX3_digest_100 : decode cX3_digest 100 = .ok (.bipush 9, 2) := dk_16 9 (dk_at dksX3_digest_4 5 rfl rfl)
theorem dX3_digest_102 : decode cX3_digest 102 = .ok (.iload_n 3, 1) := dk_29 (dk_at dksX3_digest_4 7 rfl rfl)
theorem dX3_digest_103 : decode cX3_digest 103 = .ok (.imul, 1) := dk_104 (dk_at dksX3_digest_4 8 rfl rfl)
theorem dX3_digest_104 : decode cX3_digest 104 = .ok (.iload 4, 2) := dk_21 4 (dk_at dksX3_digest_4 9 rfl rfl)
theorem dX3_digest_106 : decode cX3_digest 106 = .ok (.iadd, 1) := dk_96 (dk_at dksX3_digest_4 11 rfl rfl)
theorem dX3_digest_107 : decode cX3_digest 107 = .ok (.iaload, 1) := dk_46 (dk_at dksX3_digest_4 12 rfl rfl)
theorem dX3_digest_108 : decode cX3_digest 108 = .ok (.i2l, 1) := dk_133 (dk_at dksX3_digest_4 13 rfl rfl)
theorem dX3_digest_109 : decode cX3_digest 109 = .ok (.ladd, 1) := dk_97 (dk_at dksX3_digest_4 14 rfl rfl)
theorem dX3_digest_110 : decode cX3_digest 110 = .ok (.lstore_n 1, 1) := dk_64 (dk_at dksX3_digest_4 15 rfl rfl)
theorem dX3_digest_111 : decode cX3_digest 111 = .ok (.iinc 4 1, 3) := dk_132 4 1 (dk_at dksX3_digest_4 16 rfl rfl)
theorem dX3_digest_114 : decode cX3_digest 114 = .ok (.goto (-34), 3) := dk_167 255 222 (dk_at dksX3_digest_4 19 rfl rfl)
theorem dX3_digest_117 : decode cX3_digest 117 = .ok (.iconst 0, 1) := dk_3 (dk_at dksX3_digest_4 22 rfl rfl)
theorem dX3_digest_118 : decode cX3_digest 118 = .ok (.istore 4, 2) := dk_54 4 (dk_at dksX3_digest_5 0 rfl rfl)
theorem dX3_digest_120 : decode cX3_digest 120 = .ok (.iload 4, 2) := dk_21 4 (dk_at dksX3_digest_5 2 rfl rfl)
theorem dX3_digest_122 : decode cX3_digest 122 = .ok (.aload_n 0, 1) := dk_42 (dk_at dksX3_digest_5 4 rfl rfl)
theorem dX3_digest_123 : decode cX3_digest 123 = .ok (.iload_n 3, 1) := dk_29 (dk_at dksX3_digest_5 5 rfl rfl)
theorem dX3_digest_124 : decode cX3_digest 124 = .ok (.iconst 2, 1) := dk_5 (dk_at dksX3_digest_5 6 rfl rfl)
theorem dX3_digest_125 : decode cX3_digest 125 = .ok (.invokevirtual 45, 3) := dk_182 0 45 (dk_at dksX3_digest_5 7 rfl rfl)
theorem dX3_digest_128 : decode cX3_digest 128 = .ok (.if_icmp .ge 50, 3) := dk_162 0 50 (dk_at dksX3_digest_5 10 rfl rfl)
theorem dX3_digest_131 : decode cX3_digest 131 = .ok (.iconst 0, 1) := dk_3 (dk_at dksX3_digest_5 13 rfl rfl)
theorem dX3_digest_132 : decode cX3_digest 132 = .ok (.istore 5, 2) := dk_54 5 (dk_at dksX3_digest_5 14 rfl rfl)
theorem dX3_digest_134 : decode cX3_digest 134 = .ok (.iload 5, 2) := dk_21 5 (dk_at dksX3_digest_5 16 rfl rfl)
theorem dX3_digest_136 : decode cX3_digest 136 = .ok (.aload_n 0, 1) := dk_42 (dk_at dksX3_digest_5 18 rfl rfl)
theorem dX3_digest_137 : decode cX3_digest 137 = .ok (.iload_n 3, 1) := dk_29 (dk_at dksX3_digest_5 19 rfl rfl)
theorem dX3_digest_138 : decode cX3_digest 138 = .ok (.iconst 1, 1) := dk_4 (dk_at dksX3_digest_5 20 rfl rfl)
theorem dX3_digest_139 : decode cX3_digest 139 = .ok (.invokevirtual 45, 3) := dk_182 0 45 (dk_at dksX3_digest_5 21 rfl rfl)
theorem dX3_digest_142 : decode cX3_digest 142 = .ok (.if_icmp .ge 30, 3) := dk_162 0 30 (dk_at dksX3_digest_6 0 rfl rfl)
theorem dX3_digest_145 : decode cX3_digest 145 = .ok (.lload_n 1, 1) := dk_31 (dk_at dksX3_digest_6 3 rfl rfl)
theorem dX3_digest_146 : decode cX3_digest 146 = .ok (.ldc2_w 180, 3) := dk_20 0 180 (dk_at dksX3_digest_6 4 rfl rfl)
theorem dX3_digest_149 : decode cX3_digest 149 = .ok (.lmul, 1) := dk_105 (dk_at dksX3_digest_6 7 rfl rfl)
theorem dX3_digest_150 : decode cX3_digest 150 = .ok (.aload_n 0, 1) := dk_42 (dk_at dksX3_digest_6 8 rfl rfl)
theorem dX3_digest_151 : decode cX3_digest 151 = .ok (.getfield 13, 3) := dk_180 0 13 (dk_at dksX3_digest_6 9 rfl rfl)
theorem dX3_digest_154 : decode cX3_digest 154 = .ok (.iload_n 3, 1) := dk_29 (dk_at dksX3_digest_6 12 rfl rfl)
theorem dX3_digest_155 : decode cX3_digest 155 = .ok (.iload 4, 2) := dk_21 4 (dk_at dksX3_digest_6 13 rfl rfl)
theorem dX3_digest_157 : decode cX3_digest 157 = .ok (.iload 5, 2) := dk_21 5 (dk_at dksX3_digest_6 15 rfl rfl)
theorem dX3_digest_159 : decode cX3_digest 159 = .ok (.invokestatic 74, 3) := dk_184 0 74 (dk_at dksX3_digest_6 17 rfl rfl)
theorem dX3_digest_162 : decode cX3_digest 162 = .ok (.iaload, 1) := dk_46 (dk_at dksX3_digest_6 20 rfl rfl)
theorem dX3_digest_163 : decode cX3_digest 163 = .ok (.i2l, 1) := dk_133 (dk_at dksX3_digest_6 21 rfl rfl)
theorem dX3_digest_164 : decode cX3_digest 164 = .ok (.ladd, 1) := dk_97 (dk_at dksX3_digest_6 22 rfl rfl)
theorem dX3_digest_165 : decode cX3_digest 165 = .ok (.lstore_n 1, 1) := dk_64 (dk_at dksX3_digest_6 23 rfl rfl)
theorem dX3_digest_166 : decode cX3_digest 166 = .ok (.iinc 5 1, 3) := dk_132 5 1 (dk_at dksX3_digest_7 0 rfl rfl)
theorem dX3_digest_169 : decode cX3_digest 169 = .ok (.goto (-35), 3) := dk_167 255 221 (dk_at dksX3_digest_7 3 rfl rfl)
theorem dX3_digest_172 : decode cX3_digest 172 = .ok (.iinc 4 1, 3) := dk_132 4 1 (dk_at dksX3_digest_7 6 rfl rfl)
theorem dX3_digest_175 : decode cX3_digest 175 = .ok (.goto (-55), 3) := dk_167 255 201 (dk_at dksX3_digest_7 9 rfl rfl)
theorem dX3_digest_178 : decode cX3_digest 178 = .ok (.iconst 0, 1) := dk_3 (dk_at dksX3_digest_7 12 rfl rfl)
theorem dX3_digest_179 : decode cX3_digest 179 = .ok (.istore 4, 2) := dk_54 4 (dk_at dksX3_digest_7 13 rfl rfl)
theorem dX3_digest_181 : decode cX3_digest 181 = .ok (.iload 4, 2) := dk_21 4 (dk_at dksX3_digest_7 15 rfl rfl)
theorem dX3_digest_183 : decode cX3_digest 183 = .ok (.iconst 5, 1) := dk_8 (dk_at dksX3_digest_7 17 rfl rfl)
theorem dX3_digest_184 : decode cX3_digest 184 = .ok (.if_icmp .ge 36, 3) := dk_162 0 36 (dk_at dksX3_digest_7 18 rfl rfl)
theorem dX3_digest_187 : decode cX3_digest 187 = .ok (.aload_n 0, 1) := dk_42 (dk_at dksX3_digest_7 21 rfl rfl)
theorem dX3_digest_188 : decode cX3_digest 188 = .ok (.iload_n 3, 1) := dk_29 (dk_at dksX3_digest_7 22 rfl rfl)
theorem dX3_digest_189 : decode cX3_digest 189 = .ok (.invokevirtual 49, 3) := dk_182 0 49 (dk_at dksX3_digest_8 0 rfl rfl)
theorem dX3_digest_192 : decode cX3_digest 192 = .ok (.ifCond .ne 28, 3) := dk_154 0 28 (dk_at dksX3_digest_8 3 rfl rfl)
theorem dX3_digest_195 : decode cX3_digest 195 = .ok (.lload_n 1, 1) := dk_31 (dk_at dksX3_digest_8 6 rfl rfl)
theorem dX3_digest_196 : decode cX3_digest 196 = .ok (.ldc2_w 180, 3) := dk_20 0 180 (dk_at dksX3_digest_8 7 rfl rfl)
theorem dX3_digest_199 : decode cX3_digest 199 = .ok (.lmul, 1) := dk_105 (dk_at dksX3_digest_8 10 rfl rfl)
theorem dX3_digest_200 : decode cX3_digest 200 = .ok (.aload_n 0, 1) := dk_42 (dk_at dksX3_digest_8 11 rfl rfl)
theorem dX3_digest_201 : decode cX3_digest 201 = .ok (.getfield 19, 3) := dk_180 0 19 (dk_at dksX3_digest_8 12 rfl rfl)
theorem dX3_digest_204 : decode cX3_digest 204 = .ok (.iconst 5, 1) := dk_8 (dk_at dksX3_digest_8 15 rfl rfl)
theorem dX3_digest_205 : decode cX3_digest 205 = .ok (.iload_n 3, 1) := dk_29 (dk_at dksX3_digest_8 16 rfl rfl)
theorem dX3_digest_206 : decode cX3_digest 206 = .ok (.imul, 1) := dk_104 (dk_at dksX3_digest_8 17 rfl rfl)
theorem dX3_digest_207 : decode cX3_digest 207 = .ok (.iload 4, 2) := dk_21 4 (dk_at dksX3_digest_8 18 rfl rfl)
theorem dX3_digest_209 : decode cX3_digest 209 = .ok (.iadd, 1) := dk_96 (dk_at dksX3_digest_8 20 rfl rfl)
theorem dX3_digest_210 : decode cX3_digest 210 = .ok (.iaload, 1) := dk_46 (dk_at dksX3_digest_8 21 rfl rfl)
theorem dX3_digest_211 : decode cX3_digest 211 = .ok (.i2l, 1) := dk_133 (dk_at dksX3_digest_8 22 rfl rfl)
theorem dX3_digest_212 : decode cX3_digest 212 = .ok (.ladd, 1) := dk_97 (dk_at dksX3_digest_8 23 rfl rfl)
theorem dX3_digest_213 : decode cX3_digest 213 = .ok (.lstore_n 1, 1) := dk_64 (dk_at dksX3_digest_9 0 rfl rfl)
theorem dX3_digest_214 : decode cX3_digest 214 = .ok (.iinc 4 1, 3) := dk_132 4 1 (dk_at dksX3_digest_9 1 rfl rfl)
theorem dX3_digest_217 : decode cX3_digest 217 = .ok (.goto (-36), 3) := dk_167 255 220 (dk_at dksX3_digest_9 4 rfl rfl)
theorem dX3_digest_220 : decode cX3_digest 220 = .ok (.iinc 3 1, 3) := dk_132 3 1 (dk_at dksX3_digest_9 7 rfl rfl)
theorem dX3_digest_223 : decode cX3_digest 223 = .ok (.goto (-185), 3) := dk_167 255 71 (dk_at dksX3_digest_9 10 rfl rfl)
theorem dX3_digest_226 : decode cX3_digest 226 = .ok (.iconst 0, 1) := dk_3 (dk_at dksX3_digest_9 13 rfl rfl)
theorem dX3_digest_227 : decode cX3_digest 227 = .ok (.istore_n 3, 1) := dk_62 (dk_at dksX3_digest_9 14 rfl rfl)
theorem dX3_digest_228 : decode cX3_digest 228 = .ok (.iload_n 3, 1) := dk_29 (dk_at dksX3_digest_9 15 rfl rfl)
theorem dX3_digest_229 : decode cX3_digest 229 = .ok (.aload_n 0, 1) := dk_42 (dk_at dksX3_digest_9 16 rfl rfl)
theorem dX3_digest_230 : decode cX3_digest 230 = .ok (.getfield 42, 3) := dk_180 0 42 (dk_at dksX3_digest_9 17 rfl rfl)
theorem dX3_digest_233 : decode cX3_digest 233 = .ok (.if_icmp .ge 40, 3) := dk_162 0 40 (dk_at dksX3_digest_9 20 rfl rfl)
theorem dX3_digest_236 : decode cX3_digest 236 = .ok (.iconst 0, 1) := dk_3 (dk_at dksX3_digest_9 23 rfl rfl)
theorem dX3_digest_237 : decode cX3_digest 237 = .ok (.istore 4, 2) := dk_54 4 (dk_at dksX3_digest_10 0 rfl rfl)
theorem dX3_digest_239 : decode cX3_digest 239 = .ok (.iload 4, 2) := dk_21 4 (dk_at dksX3_digest_10 2 rfl rfl)
theorem dX3_digest_241 : decode cX3_digest 241 = .ok (.bipush 6, 2) := dk_16 6 (dk_at dksX3_digest_10 4 rfl rfl)
theorem dX3_digest_243 : decode cX3_digest 243 = .ok (.if_icmp .ge 24, 3) := dk_162 0 24 (dk_at dksX3_digest_10 6 rfl rfl)
theorem dX3_digest_246 : decode cX3_digest 246 = .ok (.lload_n 1, 1) := dk_31 (dk_at dksX3_digest_10 9 rfl rfl)
theorem dX3_digest_247 : decode cX3_digest 247 = .ok (.ldc2_w 180, 3) := dk_20 0 180 (dk_at dksX3_digest_10 10 rfl rfl)
theorem dX3_digest_250 : decode cX3_digest 250 = .ok (.lmul, 1) := dk_105 (dk_at dksX3_digest_10 13 rfl rfl)
theorem dX3_digest_251 : decode cX3_digest 251 = .ok (.aload_n 0, 1) := dk_42 (dk_at dksX3_digest_10 14 rfl rfl)
theorem dX3_digest_252 : decode cX3_digest 252 = .ok (.iload_n 3, 1) := dk_29 (dk_at dksX3_digest_10 15 rfl rfl)
theorem dX3_digest_253 : decode cX3_digest 253 = .ok (.iload 4, 2) := dk_21 4 (dk_at dksX3_digest_10 16 rfl rfl)
theorem dX3_digest_255 : decode cX3_digest 255 = .ok (.invokevirtual 78, 3) := dk_182 0 78 (dk_at dksX3_digest_10 18 rfl rfl)
theorem dX3_digest_258 : decode cX3_digest 258 = .ok (.i2l, 1) := dk_133 (dk_at dksX3_digest_10 21 rfl rfl)
theorem dX3_digest_259 : decode cX3_digest 259 = .ok (.ladd, 1) := dk_97 (dk_at dksX3_digest_10 22 rfl rfl)
theorem dX3_digest_260 : decode cX3_digest 260 = .ok (.lstore_n 1, 1) := dk_64 (dk_at dksX3_digest_10 23 rfl rfl)
theorem dX3_digest_261 : decode cX3_digest 261 = .ok (.iinc 4 1, 3) := dk_132 4 1 (dk_at dksX3_digest_11 0 rfl rfl)
theorem dX3_digest_264 : decode cX3_digest 264 = .ok (.goto (-25), 3) := dk_167 255 231 (dk_at dksX3_digest_11 3 rfl rfl)
theorem dX3_digest_267 : decode cX3_digest 267 = .ok (.iinc 3 1, 3) := dk_132 3 1 (dk_at dksX3_digest_11 6 rfl rfl)
theorem dX3_digest_270 : decode cX3_digest 270 = .ok (.goto (-42), 3) := dk_167 255 214 (dk_at dksX3_digest_11 9 rfl rfl)
theorem dX3_digest_273 : decode cX3_digest 273 = .ok (.iconst 0, 1) := dk_3 (dk_at dksX3_digest_11 12 rfl rfl)
theorem dX3_digest_274 : decode cX3_digest 274 = .ok (.istore_n 3, 1) := dk_62 (dk_at dksX3_digest_11 13 rfl rfl)
theorem dX3_digest_275 : decode cX3_digest 275 = .ok (.iload_n 3, 1) := dk_29 (dk_at dksX3_digest_11 14 rfl rfl)
theorem dX3_digest_276 : decode cX3_digest 276 = .ok (.aload_n 0, 1) := dk_42 (dk_at dksX3_digest_11 15 rfl rfl)
theorem dX3_digest_277 : decode cX3_digest 277 = .ok (.getfield 28, 3) := dk_180 0 28 (dk_at dksX3_digest_11 16 rfl rfl)
theorem dX3_digest_280 : decode cX3_digest 280 = .ok (.iconst 1, 1) := dk_4 (dk_at dksX3_digest_11 19 rfl rfl)
theorem dX3_digest_281 : decode cX3_digest 281 = .ok (.iaload, 1) := dk_46 (dk_at dksX3_digest_11 20 rfl rfl)
theorem dX3_digest_282 : decode cX3_digest 282 = .ok (.if_icmp .ge 23, 3) := dk_162 0 23 (dk_at dksX3_digest_11 21 rfl rfl)
theorem dX3_digest_285 : decode cX3_digest 285 = .ok (.lload_n 1, 1) := dk_31 (dk_at dksX3_digest_12 0 rfl rfl)
theorem dX3_digest_286 : decode cX3_digest 286 = .ok (.ldc2_w 180, 3) := dk_20 0 180 (dk_at dksX3_digest_12 1 rfl rfl)
theorem dX3_digest_289 : decode cX3_digest 289 = .ok (.lmul, 1) := dk_105 (dk_at dksX3_digest_12 4 rfl rfl)
theorem dX3_digest_290 : decode cX3_digest 290 = .ok (.aload_n 0, 1) := dk_42 (dk_at dksX3_digest_12 5 rfl rfl)
theorem dX3_digest_291 : decode cX3_digest 291 = .ok (.getfield 25, 3) := dk_180 0 25 (dk_at dksX3_digest_12 6 rfl rfl)
theorem dX3_digest_294 : decode cX3_digest 294 = .ok (.iload_n 3, 1) := dk_29 (dk_at dksX3_digest_12 9 rfl rfl)
theorem dX3_digest_295 : decode cX3_digest 295 = .ok (.iaload, 1) := dk_46 (dk_at dksX3_digest_12 10 rfl rfl)
theorem dX3_digest_296 : decode cX3_digest 296 = .ok (.i2l, 1) := dk_133 (dk_at dksX3_digest_12 11 rfl rfl)
theorem dX3_digest_297 : decode cX3_digest 297 = .ok (.ladd, 1) := dk_97 (dk_at dksX3_digest_12 12 rfl rfl)
theorem dX3_digest_298 : decode cX3_digest 298 = .ok (.lstore_n 1, 1) := dk_64 (dk_at dksX3_digest_12 13 rfl rfl)
theorem dX3_digest_299 : decode cX3_digest 299 = .ok (.iinc 3 1, 3) := dk_132 3 1 (dk_at dksX3_digest_12 14 rfl rfl)
theorem dX3_digest_302 : decode cX3_digest 302 = .ok (.goto (-27), 3) := dk_167 255 229 (dk_at dksX3_digest_12 17 rfl rfl)
theorem dX3_digest_305 : decode cX3_digest 305 = .ok (.lload_n 1, 1) := dk_31 (dk_at dksX3_digest_12 20 rfl rfl)
theorem dX3_digest_306 : decode cX3_digest 306 = .ok (.lreturn, 1) := dk_173 (dk_at dksX3_digest_12 21 rfl rfl)
theorem q48 : (Jvm.Cond.initialized "PennyArcadeModel") ∈ lw_all := lw_g (lw_at lw_m1 6 rfl) rfl
theorem q440 : (Jvm.Cond.selects "PennyArcadeModel" ({ cls := "java/lang/Object", name := "getClass", desc := "()Ljava/lang/Class;" } : Jvm.MethodName) ({ cls := "java/lang/Object", name := "getClass", desc := "()Ljava/lang/Class;" } : Jvm.MethodName)) ∈ lw_all := lw_g (lw_at lw_m2 158 rfl) rfl
theorem q805 : (Jvm.Cond.instantiable "PennyArcadeModel" (11 : Nat)) ∈ lw_all := lw_g (lw_at lw_m4 43 rfl) rfl
theorem q807 : (Jvm.Cond.instanceMethod ({ cls := "PennyArcadeModel", name := "<init>", desc := "()V" } : Jvm.MethodName)) ∈ lw_all := lw_g (lw_at lw_m4 45 rfl) rfl
theorem q808 : (Jvm.Cond.code ({ cls := "PennyArcadeModel", name := "<init>", desc := "()V" } : Jvm.MethodName) prog_8_method_1_code (1 : Nat) (Option.none : Option Jvm.ClassFile.FieldType)) ∈ lw_all := lw_g (lw_at lw_m4 46 rfl) rfl
theorem q809 : (Jvm.Cond.methodLink "PennyArcadeModel" (1 : Nat) ({ cls := "java/lang/Object", name := "<init>", desc := "()V" } : Jvm.MethodName)) ∈ lw_all := lw_g (lw_at lw_m4 47 rfl) rfl
theorem q810 : (Jvm.Cond.fieldLink "PennyArcadeModel" (31 : Nat) "PennyArcadeModel" "thrown" "I") ∈ lw_all := lw_g (lw_at lw_m4 48 rfl) rfl
theorem q811 : (Jvm.Cond.fieldLink "PennyArcadeModel" (35 : Nat) "PennyArcadeModel" "machines" "I") ∈ lw_all := lw_g (lw_at lw_m4 49 rfl) rfl
theorem q812 : (Jvm.Cond.fieldLink "PennyArcadeModel" (42 : Nat) "PennyArcadeModel" "players" "I") ∈ lw_all := lw_g (lw_at lw_m4 50 rfl) rfl
theorem q813 : (Jvm.Cond.fieldLink "PennyArcadeModel" (133 : Nat) "PennyArcadeModel" "skill" "I") ∈ lw_all := lw_g (lw_at lw_m4 51 rfl) rfl
theorem q814 : (Jvm.Cond.fieldLink "PennyArcadeModel" (9 : Nat) "PennyArcadeModel" "cups" "[I") ∈ lw_all := lw_g (lw_at lw_m4 52 rfl) rfl
theorem q815 : (Jvm.Cond.fieldLink "PennyArcadeModel" (13 : Nat) "PennyArcadeModel" "pins" "[I") ∈ lw_all := lw_g (lw_at lw_m4 53 rfl) rfl
theorem q816 : (Jvm.Cond.fieldLink "PennyArcadeModel" (16 : Nat) "PennyArcadeModel" "table" "[I") ∈ lw_all := lw_g (lw_at lw_m4 54 rfl) rfl
theorem q817 : (Jvm.Cond.fieldLink "PennyArcadeModel" (19 : Nat) "PennyArcadeModel" "ledges" "[I") ∈ lw_all := lw_g (lw_at lw_m4 55 rfl) rfl
theorem q818 : (Jvm.Cond.fieldLink "PennyArcadeModel" (22 : Nat) "PennyArcadeModel" "people" "[I") ∈ lw_all := lw_g (lw_at lw_m4 56 rfl) rfl
theorem q819 : (Jvm.Cond.fieldLink "PennyArcadeModel" (25 : Nat) "PennyArcadeModel" "row" "[I") ∈ lw_all := lw_g (lw_at lw_m4 57 rfl) rfl
theorem q820 : (Jvm.Cond.fieldLink "PennyArcadeModel" (28 : Nat) "PennyArcadeModel" "numbers" "[I") ∈ lw_all := lw_g (lw_at lw_m4 58 rfl) rfl
theorem q821 : (Jvm.Cond.lays "PennyArcadeModel" "PennyArcadeModel" "thrown" "I") ∈ lw_all := lw_g (lw_at lw_m4 59 rfl) rfl
theorem q822 : (Jvm.Cond.soleField "PennyArcadeModel" "thrown") ∈ lw_all := lw_g (lw_at lw_m4 60 rfl) rfl
theorem q823 : (Jvm.Cond.lays "PennyArcadeModel" "PennyArcadeModel" "machines" "I") ∈ lw_all := lw_g (lw_at lw_m4 61 rfl) rfl
theorem q824 : (Jvm.Cond.soleField "PennyArcadeModel" "machines") ∈ lw_all := lw_g (lw_at lw_m4 62 rfl) rfl
theorem q825 : (Jvm.Cond.lays "PennyArcadeModel" "PennyArcadeModel" "players" "I") ∈ lw_all := lw_g (lw_at lw_m4 63 rfl) rfl
theorem q826 : (Jvm.Cond.soleField "PennyArcadeModel" "players") ∈ lw_all := lw_g (lw_at lw_m4 64 rfl) rfl
theorem q827 : (Jvm.Cond.lays "PennyArcadeModel" "PennyArcadeModel" "skill" "I") ∈ lw_all := lw_g (lw_at lw_m4 65 rfl) rfl
theorem q828 : (Jvm.Cond.soleField "PennyArcadeModel" "skill") ∈ lw_all := lw_g (lw_at lw_m4 66 rfl) rfl
theorem q829 : (Jvm.Cond.laysFinal "PennyArcadeModel" "PennyArcadeModel" "cups" "[I") ∈ lw_all := lw_g (lw_at lw_m4 67 rfl) rfl
theorem q830 : (Jvm.Cond.soleField "PennyArcadeModel" "cups") ∈ lw_all := lw_g (lw_at lw_m4 68 rfl) rfl
theorem q831 : (Jvm.Cond.laysFinal "PennyArcadeModel" "PennyArcadeModel" "pins" "[I") ∈ lw_all := lw_g (lw_at lw_m4 69 rfl) rfl
theorem q832 : (Jvm.Cond.soleField "PennyArcadeModel" "pins") ∈ lw_all := lw_g (lw_at lw_m4 70 rfl) rfl
theorem q833 : (Jvm.Cond.laysFinal "PennyArcadeModel" "PennyArcadeModel" "table" "[I") ∈ lw_all := lw_g (lw_at lw_m4 71 rfl) rfl
theorem q834 : (Jvm.Cond.soleField "PennyArcadeModel" "table") ∈ lw_all := lw_g (lw_at lw_m4 72 rfl) rfl
theorem q835 : (Jvm.Cond.laysFinal "PennyArcadeModel" "PennyArcadeModel" "ledges" "[I") ∈ lw_all := lw_g (lw_at lw_m4 73 rfl) rfl
theorem q836 : (Jvm.Cond.soleField "PennyArcadeModel" "ledges") ∈ lw_all := lw_g (lw_at lw_m4 74 rfl) rfl
theorem q837 : (Jvm.Cond.laysFinal "PennyArcadeModel" "PennyArcadeModel" "people" "[I") ∈ lw_all := lw_g (lw_at lw_m4 75 rfl) rfl
theorem q838 : (Jvm.Cond.soleField "PennyArcadeModel" "people") ∈ lw_all := lw_g (lw_at lw_m4 76 rfl) rfl
theorem q839 : (Jvm.Cond.laysFinal "PennyArcadeModel" "PennyArcadeModel" "row" "[I") ∈ lw_all := lw_g (lw_at lw_m4 77 rfl) rfl
theorem q840 : (Jvm.Cond.soleField "PennyArcadeModel" "row") ∈ lw_all := lw_g (lw_at lw_m4 78 rfl) rfl
theorem q841 : (Jvm.Cond.laysFinal "PennyArcadeModel" "PennyArcadeModel" "numbers" "[I") ∈ lw_all := lw_g (lw_at lw_m4 79 rfl) rfl
theorem q842 : (Jvm.Cond.soleField "PennyArcadeModel" "numbers") ∈ lw_all := lw_g (lw_at lw_m4 80 rfl) rfl
theorem q843 : (Jvm.Cond.superclass "PennyArcadeModel" "java/lang/Object") ∈ lw_all := lw_g (lw_at lw_m4 81 rfl) rfl
theorem q845 : (Jvm.Cond.instanceMethod ({ cls := "PennyArcadeModel", name := "thrown", desc := "()I" } : Jvm.MethodName)) ∈ lw_all := lw_g (lw_at lw_m4 83 rfl) rfl
theorem q846 : (Jvm.Cond.selects "PennyArcadeModel" ({ cls := "PennyArcadeModel", name := "thrown", desc := "()I" } : Jvm.MethodName) ({ cls := "PennyArcadeModel", name := "thrown", desc := "()I" } : Jvm.MethodName)) ∈ lw_all := lw_g (lw_at lw_m4 84 rfl) rfl
theorem q847 : (Jvm.Cond.code ({ cls := "PennyArcadeModel", name := "thrown", desc := "()I" } : Jvm.MethodName) prog_8_method_2_code (1 : Nat) (Option.some Jvm.ClassFile.FieldType.int)) ∈ lw_all := lw_g (lw_at lw_m4 85 rfl) rfl
theorem q849 : (Jvm.Cond.instanceMethod ({ cls := "PennyArcadeModel", name := "addTable", desc := "(III)I" } : Jvm.MethodName)) ∈ lw_all := lw_g (lw_at lw_m4 87 rfl) rfl
theorem q850 : (Jvm.Cond.selects "PennyArcadeModel" ({ cls := "PennyArcadeModel", name := "addTable", desc := "(III)I" } : Jvm.MethodName) ({ cls := "PennyArcadeModel", name := "addTable", desc := "(III)I" } : Jvm.MethodName)) ∈ lw_all := lw_g (lw_at lw_m4 88 rfl) rfl
theorem q851 : (Jvm.Cond.code ({ cls := "PennyArcadeModel", name := "addTable", desc := "(III)I" } : Jvm.MethodName) prog_8_method_15_code (4 : Nat) (Option.some Jvm.ClassFile.FieldType.int)) ∈ lw_all := lw_g (lw_at lw_m4 89 rfl) rfl
theorem q852 : (Jvm.Cond.methodLink "PennyArcadeModel" (38 : Nat) ({ cls := "PennyArcadeModel", name := "isIn", desc := "(III)Z" } : Jvm.MethodName)) ∈ lw_all := lw_g (lw_at lw_m4 90 rfl) rfl
theorem q853 : (Jvm.Cond.static ({ cls := "PennyArcadeModel", name := "isIn", desc := "(III)Z" } : Jvm.MethodName)) ∈ lw_all := lw_g (lw_at lw_m4 91 rfl) rfl
theorem q854 : (Jvm.Cond.code ({ cls := "PennyArcadeModel", name := "isIn", desc := "(III)Z" } : Jvm.MethodName) prog_8_method_4_code (3 : Nat) (Option.some Jvm.ClassFile.FieldType.boolean)) ∈ lw_all := lw_g (lw_at lw_m4 92 rfl) rfl
theorem q855 : (Jvm.Cond.methodLink "PennyArcadeModel" (59 : Nat) ({ cls := "PennyArcadeModel", name := "fail", desc := "(I)I" } : Jvm.MethodName)) ∈ lw_all := lw_g (lw_at lw_m4 93 rfl) rfl
theorem q856 : (Jvm.Cond.privateMethod ({ cls := "PennyArcadeModel", name := "fail", desc := "(I)I" } : Jvm.MethodName)) ∈ lw_tbl := lw_at lw_m4 94 rfl
theorem q857 : (Jvm.Cond.instanceMethod ({ cls := "PennyArcadeModel", name := "fail", desc := "(I)I" } : Jvm.MethodName)) ∈ lw_all := lw_g (lw_at lw_m4 95 rfl) rfl
theorem q858 : (Jvm.Cond.code ({ cls := "PennyArcadeModel", name := "fail", desc := "(I)I" } : Jvm.MethodName) prog_8_method_3_code (2 : Nat) (Option.some Jvm.ClassFile.FieldType.int)) ∈ lw_all := lw_g (lw_at lw_m4 96 rfl) rfl
theorem q859 : (Jvm.Cond.methodLink "PennyArcadeModel" (63 : Nat) ({ cls := "PennyArcadeModel", name := "add", desc := "(IIIII)I" } : Jvm.MethodName)) ∈ lw_all := lw_g (lw_at lw_m4 97 rfl) rfl
theorem q860 : (Jvm.Cond.privateMethod ({ cls := "PennyArcadeModel", name := "add", desc := "(IIIII)I" } : Jvm.MethodName)) ∈ lw_tbl := lw_at lw_m4 98 rfl
theorem q861 : (Jvm.Cond.instanceMethod ({ cls := "PennyArcadeModel", name := "add", desc := "(IIIII)I" } : Jvm.MethodName)) ∈ lw_all := lw_g (lw_at lw_m4 99 rfl) rfl
theorem q862 : (Jvm.Cond.code ({ cls := "PennyArcadeModel", name := "add", desc := "(IIIII)I" } : Jvm.MethodName) prog_8_method_14_code (7 : Nat) (Option.some Jvm.ClassFile.FieldType.int)) ∈ lw_all := lw_g (lw_at lw_m4 100 rfl) rfl
theorem q863 : (Jvm.Cond.methodLink "PennyArcadeModel" (53 : Nat) ({ cls := "java/lang/System", name := "arraycopy", desc := "(Ljava/lang/Object;ILjava/lang/Object;II)V" } : Jvm.MethodName)) ∈ lw_all := lw_g (lw_at lw_m4 101 rfl) rfl
theorem q865 : (Jvm.Cond.instanceMethod ({ cls := "PennyArcadeModel", name := "addPusher", desc := "(II)I" } : Jvm.MethodName)) ∈ lw_all := lw_g (lw_at lw_m4 103 rfl) rfl
theorem q866 : (Jvm.Cond.selects "PennyArcadeModel" ({ cls := "PennyArcadeModel", name := "addPusher", desc := "(II)I" } : Jvm.MethodName) ({ cls := "PennyArcadeModel", name := "addPusher", desc := "(II)I" } : Jvm.MethodName)) ∈ lw_all := lw_g (lw_at lw_m4 104 rfl) rfl
theorem q867 : (Jvm.Cond.code ({ cls := "PennyArcadeModel", name := "addPusher", desc := "(II)I" } : Jvm.MethodName) prog_8_method_16_code (3 : Nat) (Option.some Jvm.ClassFile.FieldType.int)) ∈ lw_all := lw_g (lw_at lw_m4 105 rfl) rfl
theorem q869 : (Jvm.Cond.instanceMethod ({ cls := "PennyArcadeModel", name := "bend", desc := "(IIII)I" } : Jvm.MethodName)) ∈ lw_all := lw_g (lw_at lw_m4 107 rfl) rfl
theorem q870 : (Jvm.Cond.selects "PennyArcadeModel" ({ cls := "PennyArcadeModel", name := "bend", desc := "(IIII)I" } : Jvm.MethodName) ({ cls := "PennyArcadeModel", name := "bend", desc := "(IIII)I" } : Jvm.MethodName)) ∈ lw_all := lw_g (lw_at lw_m4 108 rfl) rfl
theorem q871 : (Jvm.Cond.code ({ cls := "PennyArcadeModel", name := "bend", desc := "(IIII)I" } : Jvm.MethodName) prog_8_method_17_code (6 : Nat) (Option.some Jvm.ClassFile.FieldType.int)) ∈ lw_all := lw_g (lw_at lw_m4 109 rfl) rfl
theorem q872 : (Jvm.Cond.methodLink "PennyArcadeModel" (67 : Nat) ({ cls := "PennyArcadeModel", name := "isMachine", desc := "(I)Z" } : Jvm.MethodName)) ∈ lw_all := lw_g (lw_at lw_m4 110 rfl) rfl
theorem q873 : (Jvm.Cond.privateMethod ({ cls := "PennyArcadeModel", name := "isMachine", desc := "(I)Z" } : Jvm.MethodName)) ∈ lw_tbl := lw_at lw_m4 111 rfl
theorem q874 : (Jvm.Cond.instanceMethod ({ cls := "PennyArcadeModel", name := "isMachine", desc := "(I)Z" } : Jvm.MethodName)) ∈ lw_all := lw_g (lw_at lw_m4 112 rfl) rfl
theorem q875 : (Jvm.Cond.code ({ cls := "PennyArcadeModel", name := "isMachine", desc := "(I)Z" } : Jvm.MethodName) prog_8_method_5_code (2 : Nat) (Option.some Jvm.ClassFile.FieldType.boolean)) ∈ lw_all := lw_g (lw_at lw_m4 113 rfl) rfl
theorem q876 : (Jvm.Cond.methodLink "PennyArcadeModel" (70 : Nat) ({ cls := "PennyArcadeModel", name := "isColumn", desc := "(II)Z" } : Jvm.MethodName)) ∈ lw_all := lw_g (lw_at lw_m4 114 rfl) rfl
theorem q877 : (Jvm.Cond.privateMethod ({ cls := "PennyArcadeModel", name := "isColumn", desc := "(II)Z" } : Jvm.MethodName)) ∈ lw_tbl := lw_at lw_m4 115 rfl
theorem q878 : (Jvm.Cond.instanceMethod ({ cls := "PennyArcadeModel", name := "isColumn", desc := "(II)Z" } : Jvm.MethodName)) ∈ lw_all := lw_g (lw_at lw_m4 116 rfl) rfl
theorem q879 : (Jvm.Cond.code ({ cls := "PennyArcadeModel", name := "isColumn", desc := "(II)Z" } : Jvm.MethodName) prog_8_method_12_code (3 : Nat) (Option.some Jvm.ClassFile.FieldType.boolean)) ∈ lw_all := lw_g (lw_at lw_m4 117 rfl) rfl
theorem q880 : (Jvm.Cond.methodLink "PennyArcadeModel" (49 : Nat) ({ cls := "PennyArcadeModel", name := "isTable", desc := "(I)Z" } : Jvm.MethodName)) ∈ lw_all := lw_g (lw_at lw_m4 118 rfl) rfl
theorem q881 : (Jvm.Cond.privateMethod ({ cls := "PennyArcadeModel", name := "isTable", desc := "(I)Z" } : Jvm.MethodName)) ∈ lw_tbl := lw_at lw_m4 119 rfl
theorem q882 : (Jvm.Cond.instanceMethod ({ cls := "PennyArcadeModel", name := "isTable", desc := "(I)Z" } : Jvm.MethodName)) ∈ lw_all := lw_g (lw_at lw_m4 120 rfl) rfl
theorem q883 : (Jvm.Cond.code ({ cls := "PennyArcadeModel", name := "isTable", desc := "(I)Z" } : Jvm.MethodName) prog_8_method_11_code (2 : Nat) (Option.some Jvm.ClassFile.FieldType.boolean)) ∈ lw_all := lw_g (lw_at lw_m4 121 rfl) rfl
theorem q884 : (Jvm.Cond.methodLink "PennyArcadeModel" (45 : Nat) ({ cls := "PennyArcadeModel", name := "ma", desc := "(II)I" } : Jvm.MethodName)) ∈ lw_all := lw_g (lw_at lw_m4 122 rfl) rfl
theorem q885 : (Jvm.Cond.privateMethod ({ cls := "PennyArcadeModel", name := "ma", desc := "(II)I" } : Jvm.MethodName)) ∈ lw_tbl := lw_at lw_m4 123 rfl
theorem q886 : (Jvm.Cond.instanceMethod ({ cls := "PennyArcadeModel", name := "ma", desc := "(II)I" } : Jvm.MethodName)) ∈ lw_all := lw_g (lw_at lw_m4 124 rfl) rfl
theorem q887 : (Jvm.Cond.code ({ cls := "PennyArcadeModel", name := "ma", desc := "(II)I" } : Jvm.MethodName) prog_8_method_7_code (3 : Nat) (Option.some Jvm.ClassFile.FieldType.int)) ∈ lw_all := lw_g (lw_at lw_m4 125 rfl) rfl
theorem q888 : (Jvm.Cond.methodLink "PennyArcadeModel" (74 : Nat) ({ cls := "PennyArcadeModel", name := "pin", desc := "(III)I" } : Jvm.MethodName)) ∈ lw_all := lw_g (lw_at lw_m4 126 rfl) rfl
theorem q889 : (Jvm.Cond.static ({ cls := "PennyArcadeModel", name := "pin", desc := "(III)I" } : Jvm.MethodName)) ∈ lw_all := lw_g (lw_at lw_m4 127 rfl) rfl
theorem q890 : (Jvm.Cond.code ({ cls := "PennyArcadeModel", name := "pin", desc := "(III)I" } : Jvm.MethodName) prog_8_method_13_code (3 : Nat) (Option.some Jvm.ClassFile.FieldType.int)) ∈ lw_all := lw_g (lw_at lw_m4 128 rfl) rfl
theorem q892 : (Jvm.Cond.instanceMethod ({ cls := "PennyArcadeModel", name := "setCup", desc := "(III)I" } : Jvm.MethodName)) ∈ lw_all := lw_g (lw_at lw_m4 130 rfl) rfl
theorem q893 : (Jvm.Cond.selects "PennyArcadeModel" ({ cls := "PennyArcadeModel", name := "setCup", desc := "(III)I" } : Jvm.MethodName) ({ cls := "PennyArcadeModel", name := "setCup", desc := "(III)I" } : Jvm.MethodName)) ∈ lw_all := lw_g (lw_at lw_m4 131 rfl) rfl
theorem q894 : (Jvm.Cond.code ({ cls := "PennyArcadeModel", name := "setCup", desc := "(III)I" } : Jvm.MethodName) prog_8_method_18_code (5 : Nat) (Option.some Jvm.ClassFile.FieldType.int)) ∈ lw_all := lw_g (lw_at lw_m4 132 rfl) rfl
theorem q896 : (Jvm.Cond.instanceMethod ({ cls := "PennyArcadeModel", name := "machine", desc := "(II)I" } : Jvm.MethodName)) ∈ lw_all := lw_g (lw_at lw_m4 134 rfl) rfl
theorem q897 : (Jvm.Cond.selects "PennyArcadeModel" ({ cls := "PennyArcadeModel", name := "machine", desc := "(II)I" } : Jvm.MethodName) ({ cls := "PennyArcadeModel", name := "machine", desc := "(II)I" } : Jvm.MethodName)) ∈ lw_all := lw_g (lw_at lw_m4 135 rfl) rfl
theorem q898 : (Jvm.Cond.code ({ cls := "PennyArcadeModel", name := "machine", desc := "(II)I" } : Jvm.MethodName) prog_8_method_21_code (3 : Nat) (Option.some Jvm.ClassFile.FieldType.int)) ∈ lw_all := lw_g (lw_at lw_m4 136 rfl) rfl
theorem q899 : (Jvm.Cond.methodLink "PennyArcadeModel" (84 : Nat) ({ cls := "PennyArcadeModel", name := "machineTold", desc := "(II)I" } : Jvm.MethodName)) ∈ lw_all := lw_g (lw_at lw_m4 137 rfl) rfl
theorem q900 : (Jvm.Cond.privateMethod ({ cls := "PennyArcadeModel", name := "machineTold", desc := "(II)I" } : Jvm.MethodName)) ∈ lw_tbl := lw_at lw_m4 138 rfl
theorem q901 : (Jvm.Cond.instanceMethod ({ cls := "PennyArcadeModel", name := "machineTold", desc := "(II)I" } : Jvm.MethodName)) ∈ lw_all := lw_g (lw_at lw_m4 139 rfl) rfl
theorem q902 : (Jvm.Cond.code ({ cls := "PennyArcadeModel", name := "machineTold", desc := "(II)I" } : Jvm.MethodName) prog_8_method_20_code (5 : Nat) (Option.some Jvm.ClassFile.FieldType.int)) ∈ lw_all := lw_g (lw_at lw_m4 140 rfl) rfl
theorem q903 : (Jvm.Cond.methodLink "PennyArcadeModel" (78 : Nat) ({ cls := "PennyArcadeModel", name := "pl", desc := "(II)I" } : Jvm.MethodName)) ∈ lw_all := lw_g (lw_at lw_m4 141 rfl) rfl
theorem q904 : (Jvm.Cond.privateMethod ({ cls := "PennyArcadeModel", name := "pl", desc := "(II)I" } : Jvm.MethodName)) ∈ lw_tbl := lw_at lw_m4 142 rfl
theorem q905 : (Jvm.Cond.instanceMethod ({ cls := "PennyArcadeModel", name := "pl", desc := "(II)I" } : Jvm.MethodName)) ∈ lw_all := lw_g (lw_at lw_m4 143 rfl) rfl
theorem q906 : (Jvm.Cond.code ({ cls := "PennyArcadeModel", name := "pl", desc := "(II)I" } : Jvm.MethodName) prog_8_method_9_code (3 : Nat) (Option.some Jvm.ClassFile.FieldType.int)) ∈ lw_all := lw_g (lw_at lw_m4 144 rfl) rfl
theorem q907 : (Jvm.Cond.methodLink "PennyArcadeModel" (81 : Nat) ({ cls := "PennyArcadeModel", name := "onLedge", desc := "(I)I" } : Jvm.MethodName)) ∈ lw_all := lw_g (lw_at lw_m4 145 rfl) rfl
theorem q908 : (Jvm.Cond.privateMethod ({ cls := "PennyArcadeModel", name := "onLedge", desc := "(I)I" } : Jvm.MethodName)) ∈ lw_tbl := lw_at lw_m4 146 rfl
theorem q909 : (Jvm.Cond.instanceMethod ({ cls := "PennyArcadeModel", name := "onLedge", desc := "(I)I" } : Jvm.MethodName)) ∈ lw_all := lw_g (lw_at lw_m4 147 rfl) rfl
theorem q910 : (Jvm.Cond.code ({ cls := "PennyArcadeModel", name := "onLedge", desc := "(I)I" } : Jvm.MethodName) prog_8_method_19_code (4 : Nat) (Option.some Jvm.ClassFile.FieldType.int)) ∈ lw_all := lw_g (lw_at lw_m4 148 rfl) rfl
theorem q912 : (Jvm.Cond.instanceMethod ({ cls := "PennyArcadeModel", name := "ends", desc := "(III)I" } : Jvm.MethodName)) ∈ lw_all := lw_g (lw_at lw_m4 150 rfl) rfl
theorem q913 : (Jvm.Cond.selects "PennyArcadeModel" ({ cls := "PennyArcadeModel", name := "ends", desc := "(III)I" } : Jvm.MethodName) ({ cls := "PennyArcadeModel", name := "ends", desc := "(III)I" } : Jvm.MethodName)) ∈ lw_all := lw_g (lw_at lw_m4 151 rfl) rfl
theorem q914 : (Jvm.Cond.code ({ cls := "PennyArcadeModel", name := "ends", desc := "(III)I" } : Jvm.MethodName) prog_8_method_23_code (4 : Nat) (Option.some Jvm.ClassFile.FieldType.int)) ∈ lw_all := lw_g (lw_at lw_m4 152 rfl) rfl
theorem q915 : (Jvm.Cond.methodLink "PennyArcadeModel" (95 : Nat) ({ cls := "PennyArcadeModel", name := "end", desc := "(III)I" } : Jvm.MethodName)) ∈ lw_all := lw_g (lw_at lw_m4 153 rfl) rfl
theorem q916 : (Jvm.Cond.privateMethod ({ cls := "PennyArcadeModel", name := "end", desc := "(III)I" } : Jvm.MethodName)) ∈ lw_tbl := lw_at lw_m4 154 rfl
theorem q917 : (Jvm.Cond.instanceMethod ({ cls := "PennyArcadeModel", name := "end", desc := "(III)I" } : Jvm.MethodName)) ∈ lw_all := lw_g (lw_at lw_m4 155 rfl) rfl
theorem q918 : (Jvm.Cond.code ({ cls := "PennyArcadeModel", name := "end", desc := "(III)I" } : Jvm.MethodName) prog_8_method_22_code (8 : Nat) (Option.some Jvm.ClassFile.FieldType.int)) ∈ lw_all := lw_g (lw_at lw_m4 156 rfl) rfl
theorem q919 : (Jvm.Cond.methodLink "PennyArcadeModel" (87 : Nat) ({ cls := "java/lang/Math", name := "min", desc := "(II)I" } : Jvm.MethodName)) ∈ lw_all := lw_g (lw_at lw_m4 157 rfl) rfl
theorem q920 : (Jvm.Cond.methodLink "PennyArcadeModel" (92 : Nat) ({ cls := "java/lang/Math", name := "max", desc := "(II)I" } : Jvm.MethodName)) ∈ lw_all := lw_g (lw_at lw_m4 158 rfl) rfl
theorem q922 : (Jvm.Cond.instanceMethod ({ cls := "PennyArcadeModel", name := "bestTilt", desc := "(II)I" } : Jvm.MethodName)) ∈ lw_all := lw_g (lw_at lw_m4 160 rfl) rfl
theorem q923 : (Jvm.Cond.selects "PennyArcadeModel" ({ cls := "PennyArcadeModel", name := "bestTilt", desc := "(II)I" } : Jvm.MethodName) ({ cls := "PennyArcadeModel", name := "bestTilt", desc := "(II)I" } : Jvm.MethodName)) ∈ lw_all := lw_g (lw_at lw_m4 161 rfl) rfl
theorem q924 : (Jvm.Cond.code ({ cls := "PennyArcadeModel", name := "bestTilt", desc := "(II)I" } : Jvm.MethodName) prog_8_method_26_code (3 : Nat) (Option.some Jvm.ClassFile.FieldType.int)) ∈ lw_all := lw_g (lw_at lw_m4 162 rfl) rfl
theorem q925 : (Jvm.Cond.methodLink "PennyArcadeModel" (101 : Nat) ({ cls := "PennyArcadeModel", name := "best", desc := "(II)I" } : Jvm.MethodName)) ∈ lw_all := lw_g (lw_at lw_m4 163 rfl) rfl
theorem q926 : (Jvm.Cond.privateMethod ({ cls := "PennyArcadeModel", name := "best", desc := "(II)I" } : Jvm.MethodName)) ∈ lw_tbl := lw_at lw_m4 164 rfl
theorem q927 : (Jvm.Cond.instanceMethod ({ cls := "PennyArcadeModel", name := "best", desc := "(II)I" } : Jvm.MethodName)) ∈ lw_all := lw_g (lw_at lw_m4 165 rfl) rfl
theorem q928 : (Jvm.Cond.code ({ cls := "PennyArcadeModel", name := "best", desc := "(II)I" } : Jvm.MethodName) prog_8_method_25_code (5 : Nat) (Option.some Jvm.ClassFile.FieldType.int)) ∈ lw_all := lw_g (lw_at lw_m4 166 rfl) rfl
theorem q929 : (Jvm.Cond.methodLink "PennyArcadeModel" (98 : Nat) ({ cls := "PennyArcadeModel", name := "cupOf", desc := "(III)I" } : Jvm.MethodName)) ∈ lw_all := lw_g (lw_at lw_m4 167 rfl) rfl
theorem q930 : (Jvm.Cond.privateMethod ({ cls := "PennyArcadeModel", name := "cupOf", desc := "(III)I" } : Jvm.MethodName)) ∈ lw_tbl := lw_at lw_m4 168 rfl
theorem q931 : (Jvm.Cond.instanceMethod ({ cls := "PennyArcadeModel", name := "cupOf", desc := "(III)I" } : Jvm.MethodName)) ∈ lw_all := lw_g (lw_at lw_m4 169 rfl) rfl
theorem q932 : (Jvm.Cond.code ({ cls := "PennyArcadeModel", name := "cupOf", desc := "(III)I" } : Jvm.MethodName) prog_8_method_24_code (4 : Nat) (Option.some Jvm.ClassFile.FieldType.int)) ∈ lw_all := lw_g (lw_at lw_m4 170 rfl) rfl
theorem q934 : (Jvm.Cond.instanceMethod ({ cls := "PennyArcadeModel", name := "dead", desc := "(I)I" } : Jvm.MethodName)) ∈ lw_all := lw_g (lw_at lw_m4 172 rfl) rfl
theorem q935 : (Jvm.Cond.selects "PennyArcadeModel" ({ cls := "PennyArcadeModel", name := "dead", desc := "(I)I" } : Jvm.MethodName) ({ cls := "PennyArcadeModel", name := "dead", desc := "(I)I" } : Jvm.MethodName)) ∈ lw_all := lw_g (lw_at lw_m4 173 rfl) rfl
theorem q936 : (Jvm.Cond.code ({ cls := "PennyArcadeModel", name := "dead", desc := "(I)I" } : Jvm.MethodName) prog_8_method_27_code (5 : Nat) (Option.some Jvm.ClassFile.FieldType.int)) ∈ lw_all := lw_g (lw_at lw_m4 174 rfl) rfl
theorem q937 : (Jvm.Cond.methodLink "PennyArcadeModel" (104 : Nat) ({ cls := "java/lang/Integer", name := "bitCount", desc := "(I)I" } : Jvm.MethodName)) ∈ lw_all := lw_g (lw_at lw_m4 175 rfl) rfl
theorem q939 : (Jvm.Cond.instanceMethod ({ cls := "PennyArcadeModel", name := "ledge", desc := "(II)I" } : Jvm.MethodName)) ∈ lw_all := lw_g (lw_at lw_m4 177 rfl) rfl
theorem q940 : (Jvm.Cond.selects "PennyArcadeModel" ({ cls := "PennyArcadeModel", name := "ledge", desc := "(II)I" } : Jvm.MethodName) ({ cls := "PennyArcadeModel", name := "ledge", desc := "(II)I" } : Jvm.MethodName)) ∈ lw_all := lw_g (lw_at lw_m4 178 rfl) rfl
theorem q941 : (Jvm.Cond.code ({ cls := "PennyArcadeModel", name := "ledge", desc := "(II)I" } : Jvm.MethodName) prog_8_method_28_code (3 : Nat) (Option.some Jvm.ClassFile.FieldType.int)) ∈ lw_all := lw_g (lw_at lw_m4 179 rfl) rfl
theorem q943 : (Jvm.Cond.instanceMethod ({ cls := "PennyArcadeModel", name := "come", desc := "(II)I" } : Jvm.MethodName)) ∈ lw_all := lw_g (lw_at lw_m4 181 rfl) rfl
theorem q944 : (Jvm.Cond.selects "PennyArcadeModel" ({ cls := "PennyArcadeModel", name := "come", desc := "(II)I" } : Jvm.MethodName) ({ cls := "PennyArcadeModel", name := "come", desc := "(II)I" } : Jvm.MethodName)) ∈ lw_all := lw_g (lw_at lw_m4 182 rfl) rfl
theorem q945 : (Jvm.Cond.code ({ cls := "PennyArcadeModel", name := "come", desc := "(II)I" } : Jvm.MethodName) prog_8_method_29_code (4 : Nat) (Option.some Jvm.ClassFile.FieldType.int)) ∈ lw_all := lw_g (lw_at lw_m4 183 rfl) rfl
theorem q947 : (Jvm.Cond.instanceMethod ({ cls := "PennyArcadeModel", name := "go", desc := "(II)I" } : Jvm.MethodName)) ∈ lw_all := lw_g (lw_at lw_m4 185 rfl) rfl
theorem q948 : (Jvm.Cond.selects "PennyArcadeModel" ({ cls := "PennyArcadeModel", name := "go", desc := "(II)I" } : Jvm.MethodName) ({ cls := "PennyArcadeModel", name := "go", desc := "(II)I" } : Jvm.MethodName)) ∈ lw_all := lw_g (lw_at lw_m4 186 rfl) rfl
theorem q949 : (Jvm.Cond.code ({ cls := "PennyArcadeModel", name := "go", desc := "(II)I" } : Jvm.MethodName) prog_8_method_31_code (4 : Nat) (Option.some Jvm.ClassFile.FieldType.int)) ∈ lw_all := lw_g (lw_at lw_m4 187 rfl) rfl
theorem q950 : (Jvm.Cond.methodLink "PennyArcadeModel" (113 : Nat) ({ cls := "PennyArcadeModel", name := "isPlayer", desc := "(I)Z" } : Jvm.MethodName)) ∈ lw_all := lw_g (lw_at lw_m4 188 rfl) rfl
theorem q951 : (Jvm.Cond.privateMethod ({ cls := "PennyArcadeModel", name := "isPlayer", desc := "(I)Z" } : Jvm.MethodName)) ∈ lw_tbl := lw_at lw_m4 189 rfl
theorem q952 : (Jvm.Cond.instanceMethod ({ cls := "PennyArcadeModel", name := "isPlayer", desc := "(I)Z" } : Jvm.MethodName)) ∈ lw_all := lw_g (lw_at lw_m4 190 rfl) rfl
theorem q953 : (Jvm.Cond.code ({ cls := "PennyArcadeModel", name := "isPlayer", desc := "(I)Z" } : Jvm.MethodName) prog_8_method_6_code (2 : Nat) (Option.some Jvm.ClassFile.FieldType.boolean)) ∈ lw_all := lw_g (lw_at lw_m4 191 rfl) rfl
theorem q954 : (Jvm.Cond.methodLink "PennyArcadeModel" (116 : Nat) ({ cls := "PennyArcadeModel", name := "to", desc := "(II)V" } : Jvm.MethodName)) ∈ lw_all := lw_g (lw_at lw_m4 192 rfl) rfl
theorem q955 : (Jvm.Cond.privateMethod ({ cls := "PennyArcadeModel", name := "to", desc := "(II)V" } : Jvm.MethodName)) ∈ lw_tbl := lw_at lw_m4 193 rfl
theorem q956 : (Jvm.Cond.instanceMethod ({ cls := "PennyArcadeModel", name := "to", desc := "(II)V" } : Jvm.MethodName)) ∈ lw_all := lw_g (lw_at lw_m4 194 rfl) rfl
theorem q957 : (Jvm.Cond.code ({ cls := "PennyArcadeModel", name := "to", desc := "(II)V" } : Jvm.MethodName) prog_8_method_30_code (3 : Nat) (Option.none : Option Jvm.ClassFile.FieldType)) ∈ lw_all := lw_g (lw_at lw_m4 195 rfl) rfl
theorem q958 : (Jvm.Cond.methodLink "PennyArcadeModel" (109 : Nat) ({ cls := "PennyArcadeModel", name := "setPl", desc := "(III)V" } : Jvm.MethodName)) ∈ lw_all := lw_g (lw_at lw_m4 196 rfl) rfl
theorem q959 : (Jvm.Cond.privateMethod ({ cls := "PennyArcadeModel", name := "setPl", desc := "(III)V" } : Jvm.MethodName)) ∈ lw_tbl := lw_at lw_m4 197 rfl
theorem q960 : (Jvm.Cond.instanceMethod ({ cls := "PennyArcadeModel", name := "setPl", desc := "(III)V" } : Jvm.MethodName)) ∈ lw_all := lw_g (lw_at lw_m4 198 rfl) rfl
theorem q961 : (Jvm.Cond.code ({ cls := "PennyArcadeModel", name := "setPl", desc := "(III)V" } : Jvm.MethodName) prog_8_method_10_code (4 : Nat) (Option.none : Option Jvm.ClassFile.FieldType)) ∈ lw_all := lw_g (lw_at lw_m4 199 rfl) rfl
theorem q963 : (Jvm.Cond.instanceMethod ({ cls := "PennyArcadeModel", name := "play", desc := "(IIII)I" } : Jvm.MethodName)) ∈ lw_all := lw_g (lw_at lw_m4 201 rfl) rfl
theorem q964 : (Jvm.Cond.selects "PennyArcadeModel" ({ cls := "PennyArcadeModel", name := "play", desc := "(IIII)I" } : Jvm.MethodName) ({ cls := "PennyArcadeModel", name := "play", desc := "(IIII)I" } : Jvm.MethodName)) ∈ lw_all := lw_g (lw_at lw_m4 202 rfl) rfl
theorem q965 : (Jvm.Cond.code ({ cls := "PennyArcadeModel", name := "play", desc := "(IIII)I" } : Jvm.MethodName) prog_8_method_35_code (5 : Nat) (Option.some Jvm.ClassFile.FieldType.int)) ∈ lw_all := lw_g (lw_at lw_m4 203 rfl) rfl
theorem q966 : (Jvm.Cond.methodLink "PennyArcadeModel" (126 : Nat) ({ cls := "PennyArcadeModel", name := "works", desc := "(I)Z" } : Jvm.MethodName)) ∈ lw_all := lw_g (lw_at lw_m4 204 rfl) rfl
theorem q967 : (Jvm.Cond.privateMethod ({ cls := "PennyArcadeModel", name := "works", desc := "(I)Z" } : Jvm.MethodName)) ∈ lw_tbl := lw_at lw_m4 205 rfl
theorem q968 : (Jvm.Cond.instanceMethod ({ cls := "PennyArcadeModel", name := "works", desc := "(I)Z" } : Jvm.MethodName)) ∈ lw_all := lw_g (lw_at lw_m4 206 rfl) rfl
theorem q969 : (Jvm.Cond.code ({ cls := "PennyArcadeModel", name := "works", desc := "(I)Z" } : Jvm.MethodName) prog_8_method_32_code (2 : Nat) (Option.some Jvm.ClassFile.FieldType.boolean)) ∈ lw_all := lw_g (lw_at lw_m4 207 rfl) rfl
theorem q970 : (Jvm.Cond.methodLink "PennyArcadeModel" (129 : Nat) ({ cls := "PennyArcadeModel", name := "playAt", desc := "(IIII)I" } : Jvm.MethodName)) ∈ lw_all := lw_g (lw_at lw_m4 208 rfl) rfl
theorem q971 : (Jvm.Cond.privateMethod ({ cls := "PennyArcadeModel", name := "playAt", desc := "(IIII)I" } : Jvm.MethodName)) ∈ lw_tbl := lw_at lw_m4 209 rfl
theorem q972 : (Jvm.Cond.instanceMethod ({ cls := "PennyArcadeModel", name := "playAt", desc := "(IIII)I" } : Jvm.MethodName)) ∈ lw_all := lw_g (lw_at lw_m4 210 rfl) rfl
theorem q973 : (Jvm.Cond.code ({ cls := "PennyArcadeModel", name := "playAt", desc := "(IIII)I" } : Jvm.MethodName) prog_8_method_34_code (6 : Nat) (Option.some Jvm.ClassFile.FieldType.int)) ∈ lw_all := lw_g (lw_at lw_m4 211 rfl) rfl
theorem q974 : (Jvm.Cond.methodLink "PennyArcadeModel" (120 : Nat) ({ cls := "PennyArcadeModel", name := "setMa", desc := "(III)V" } : Jvm.MethodName)) ∈ lw_all := lw_g (lw_at lw_m4 212 rfl) rfl
theorem q975 : (Jvm.Cond.privateMethod ({ cls := "PennyArcadeModel", name := "setMa", desc := "(III)V" } : Jvm.MethodName)) ∈ lw_tbl := lw_at lw_m4 213 rfl
theorem q976 : (Jvm.Cond.instanceMethod ({ cls := "PennyArcadeModel", name := "setMa", desc := "(III)V" } : Jvm.MethodName)) ∈ lw_all := lw_g (lw_at lw_m4 214 rfl) rfl
theorem q977 : (Jvm.Cond.code ({ cls := "PennyArcadeModel", name := "setMa", desc := "(III)V" } : Jvm.MethodName) prog_8_method_8_code (4 : Nat) (Option.none : Option Jvm.ClassFile.FieldType)) ∈ lw_all := lw_g (lw_at lw_m4 215 rfl) rfl
theorem q978 : (Jvm.Cond.methodLink "PennyArcadeModel" (123 : Nat) ({ cls := "PennyArcadeModel", name := "push", desc := "(I)I" } : Jvm.MethodName)) ∈ lw_all := lw_g (lw_at lw_m4 216 rfl) rfl
theorem q979 : (Jvm.Cond.privateMethod ({ cls := "PennyArcadeModel", name := "push", desc := "(I)I" } : Jvm.MethodName)) ∈ lw_tbl := lw_at lw_m4 217 rfl
theorem q980 : (Jvm.Cond.instanceMethod ({ cls := "PennyArcadeModel", name := "push", desc := "(I)I" } : Jvm.MethodName)) ∈ lw_all := lw_g (lw_at lw_m4 218 rfl) rfl
theorem q981 : (Jvm.Cond.code ({ cls := "PennyArcadeModel", name := "push", desc := "(I)I" } : Jvm.MethodName) prog_8_method_33_code (5 : Nat) (Option.some Jvm.ClassFile.FieldType.int)) ∈ lw_all := lw_g (lw_at lw_m4 219 rfl) rfl
theorem q983 : (Jvm.Cond.instanceMethod ({ cls := "PennyArcadeModel", name := "player", desc := "(II)I" } : Jvm.MethodName)) ∈ lw_all := lw_g (lw_at lw_m4 221 rfl) rfl
theorem q984 : (Jvm.Cond.selects "PennyArcadeModel" ({ cls := "PennyArcadeModel", name := "player", desc := "(II)I" } : Jvm.MethodName) ({ cls := "PennyArcadeModel", name := "player", desc := "(II)I" } : Jvm.MethodName)) ∈ lw_all := lw_g (lw_at lw_m4 222 rfl) rfl
theorem q985 : (Jvm.Cond.code ({ cls := "PennyArcadeModel", name := "player", desc := "(II)I" } : Jvm.MethodName) prog_8_method_36_code (3 : Nat) (Option.some Jvm.ClassFile.FieldType.int)) ∈ lw_all := lw_g (lw_at lw_m4 223 rfl) rfl
theorem q987 : (Jvm.Cond.instanceMethod ({ cls := "PennyArcadeModel", name := "setSkill", desc := "(I)I" } : Jvm.MethodName)) ∈ lw_all := lw_g (lw_at lw_m4 225 rfl) rfl
theorem q988 : (Jvm.Cond.selects "PennyArcadeModel" ({ cls := "PennyArcadeModel", name := "setSkill", desc := "(I)I" } : Jvm.MethodName) ({ cls := "PennyArcadeModel", name := "setSkill", desc := "(I)I" } : Jvm.MethodName)) ∈ lw_all := lw_g (lw_at lw_m4 226 rfl) rfl
theorem q989 : (Jvm.Cond.code ({ cls := "PennyArcadeModel", name := "setSkill", desc := "(I)I" } : Jvm.MethodName) prog_8_method_37_code (3 : Nat) (Option.some Jvm.ClassFile.FieldType.int)) ∈ lw_all := lw_g (lw_at lw_m4 227 rfl) rfl
theorem q991 : (Jvm.Cond.instanceMethod ({ cls := "PennyArcadeModel", name := "call", desc := "(I)I" } : Jvm.MethodName)) ∈ lw_all := lw_g (lw_at lw_m4 229 rfl) rfl
theorem q992 : (Jvm.Cond.selects "PennyArcadeModel" ({ cls := "PennyArcadeModel", name := "call", desc := "(I)I" } : Jvm.MethodName) ({ cls := "PennyArcadeModel", name := "call", desc := "(I)I" } : Jvm.MethodName)) ∈ lw_all := lw_g (lw_at lw_m4 230 rfl) rfl
theorem q993 : (Jvm.Cond.code ({ cls := "PennyArcadeModel", name := "call", desc := "(I)I" } : Jvm.MethodName) prog_8_method_40_code (2 : Nat) (Option.some Jvm.ClassFile.FieldType.int)) ∈ lw_all := lw_g (lw_at lw_m4 231 rfl) rfl
theorem q994 : (Jvm.Cond.methodLink "PennyArcadeModel" (136 : Nat) ({ cls := "PennyArcadeModel", name := "isInRow", desc := "(I)Z" } : Jvm.MethodName)) ∈ lw_all := lw_g (lw_at lw_m4 232 rfl) rfl
theorem q995 : (Jvm.Cond.privateMethod ({ cls := "PennyArcadeModel", name := "isInRow", desc := "(I)Z" } : Jvm.MethodName)) ∈ lw_tbl := lw_at lw_m4 233 rfl
theorem q996 : (Jvm.Cond.instanceMethod ({ cls := "PennyArcadeModel", name := "isInRow", desc := "(I)Z" } : Jvm.MethodName)) ∈ lw_all := lw_g (lw_at lw_m4 234 rfl) rfl
theorem q997 : (Jvm.Cond.code ({ cls := "PennyArcadeModel", name := "isInRow", desc := "(I)Z" } : Jvm.MethodName) prog_8_method_38_code (3 : Nat) (Option.some Jvm.ClassFile.FieldType.boolean)) ∈ lw_all := lw_g (lw_at lw_m4 235 rfl) rfl
theorem q998 : (Jvm.Cond.methodLink "PennyArcadeModel" (139 : Nat) ({ cls := "PennyArcadeModel", name := "putInRow", desc := "(I)V" } : Jvm.MethodName)) ∈ lw_all := lw_g (lw_at lw_m4 236 rfl) rfl
theorem q999 : (Jvm.Cond.privateMethod ({ cls := "PennyArcadeModel", name := "putInRow", desc := "(I)V" } : Jvm.MethodName)) ∈ lw_tbl := lw_at lw_m4 237 rfl
theorem q1000 : (Jvm.Cond.instanceMethod ({ cls := "PennyArcadeModel", name := "putInRow", desc := "(I)V" } : Jvm.MethodName)) ∈ lw_all := lw_g (lw_at lw_m4 238 rfl) rfl
theorem q1001 : (Jvm.Cond.code ({ cls := "PennyArcadeModel", name := "putInRow", desc := "(I)V" } : Jvm.MethodName) prog_8_method_39_code (2 : Nat) (Option.none : Option Jvm.ClassFile.FieldType)) ∈ lw_all := lw_g (lw_at lw_m4 239 rfl) rfl
theorem q1003 : (Jvm.Cond.instanceMethod ({ cls := "PennyArcadeModel", name := "repair", desc := "(I)I" } : Jvm.MethodName)) ∈ lw_all := lw_g (lw_at lw_m5 1 rfl) rfl
theorem q1004 : (Jvm.Cond.selects "PennyArcadeModel" ({ cls := "PennyArcadeModel", name := "repair", desc := "(I)I" } : Jvm.MethodName) ({ cls := "PennyArcadeModel", name := "repair", desc := "(I)I" } : Jvm.MethodName)) ∈ lw_all := lw_g (lw_at lw_m5 2 rfl) rfl
theorem q1005 : (Jvm.Cond.code ({ cls := "PennyArcadeModel", name := "repair", desc := "(I)I" } : Jvm.MethodName) prog_8_method_41_code (2 : Nat) (Option.some Jvm.ClassFile.FieldType.int)) ∈ lw_all := lw_g (lw_at lw_m5 3 rfl) rfl
theorem q1007 : (Jvm.Cond.instanceMethod ({ cls := "PennyArcadeModel", name := "pass", desc := "(I)I" } : Jvm.MethodName)) ∈ lw_all := lw_g (lw_at lw_m5 5 rfl) rfl
theorem q1008 : (Jvm.Cond.selects "PennyArcadeModel" ({ cls := "PennyArcadeModel", name := "pass", desc := "(I)I" } : Jvm.MethodName) ({ cls := "PennyArcadeModel", name := "pass", desc := "(I)I" } : Jvm.MethodName)) ∈ lw_all := lw_g (lw_at lw_m5 6 rfl) rfl
theorem q1009 : (Jvm.Cond.code ({ cls := "PennyArcadeModel", name := "pass", desc := "(I)I" } : Jvm.MethodName) prog_8_method_46_code (4 : Nat) (Option.some Jvm.ClassFile.FieldType.int)) ∈ lw_all := lw_g (lw_at lw_m5 7 rfl) rfl
theorem q1010 : (Jvm.Cond.methodLink "PennyArcadeModel" (153 : Nat) ({ cls := "PennyArcadeModel", name := "roundOn", desc := "()I" } : Jvm.MethodName)) ∈ lw_all := lw_g (lw_at lw_m5 8 rfl) rfl
theorem q1011 : (Jvm.Cond.privateMethod ({ cls := "PennyArcadeModel", name := "roundOn", desc := "()I" } : Jvm.MethodName)) ∈ lw_tbl := lw_at lw_m5 9 rfl
theorem q1012 : (Jvm.Cond.instanceMethod ({ cls := "PennyArcadeModel", name := "roundOn", desc := "()I" } : Jvm.MethodName)) ∈ lw_all := lw_g (lw_at lw_m5 10 rfl) rfl
theorem q1013 : (Jvm.Cond.code ({ cls := "PennyArcadeModel", name := "roundOn", desc := "()I" } : Jvm.MethodName) prog_8_method_45_code (3 : Nat) (Option.some Jvm.ClassFile.FieldType.int)) ∈ lw_all := lw_g (lw_at lw_m5 11 rfl) rfl
theorem q1014 : (Jvm.Cond.methodLink "PennyArcadeModel" (147 : Nat) ({ cls := "PennyArcadeModel", name := "turn", desc := "(I)I" } : Jvm.MethodName)) ∈ lw_all := lw_g (lw_at lw_m5 12 rfl) rfl
theorem q1015 : (Jvm.Cond.privateMethod ({ cls := "PennyArcadeModel", name := "turn", desc := "(I)I" } : Jvm.MethodName)) ∈ lw_tbl := lw_at lw_m5 13 rfl
theorem q1016 : (Jvm.Cond.instanceMethod ({ cls := "PennyArcadeModel", name := "turn", desc := "(I)I" } : Jvm.MethodName)) ∈ lw_all := lw_g (lw_at lw_m5 14 rfl) rfl
theorem q1017 : (Jvm.Cond.code ({ cls := "PennyArcadeModel", name := "turn", desc := "(I)I" } : Jvm.MethodName) prog_8_method_44_code (5 : Nat) (Option.some Jvm.ClassFile.FieldType.int)) ∈ lw_all := lw_g (lw_at lw_m5 15 rfl) rfl
theorem q1018 : (Jvm.Cond.methodLink "PennyArcadeModel" (143 : Nat) ({ cls := "PennyArcadeModel", name := "lure", desc := "()I" } : Jvm.MethodName)) ∈ lw_all := lw_g (lw_at lw_m5 16 rfl) rfl
theorem q1019 : (Jvm.Cond.privateMethod ({ cls := "PennyArcadeModel", name := "lure", desc := "()I" } : Jvm.MethodName)) ∈ lw_tbl := lw_at lw_m5 17 rfl
theorem q1020 : (Jvm.Cond.instanceMethod ({ cls := "PennyArcadeModel", name := "lure", desc := "()I" } : Jvm.MethodName)) ∈ lw_all := lw_g (lw_at lw_m5 18 rfl) rfl
theorem q1021 : (Jvm.Cond.code ({ cls := "PennyArcadeModel", name := "lure", desc := "()I" } : Jvm.MethodName) prog_8_method_43_code (3 : Nat) (Option.some Jvm.ClassFile.FieldType.int)) ∈ lw_all := lw_g (lw_at lw_m5 19 rfl) rfl
theorem q1022 : (Jvm.Cond.methodLink "PennyArcadeModel" (150 : Nat) ({ cls := "PennyArcadeModel", name := "repairOn", desc := "()V" } : Jvm.MethodName)) ∈ lw_all := lw_g (lw_at lw_m5 20 rfl) rfl
theorem q1023 : (Jvm.Cond.privateMethod ({ cls := "PennyArcadeModel", name := "repairOn", desc := "()V" } : Jvm.MethodName)) ∈ lw_tbl := lw_at lw_m5 21 rfl
theorem q1024 : (Jvm.Cond.instanceMethod ({ cls := "PennyArcadeModel", name := "repairOn", desc := "()V" } : Jvm.MethodName)) ∈ lw_all := lw_g (lw_at lw_m5 22 rfl) rfl
theorem q1025 : (Jvm.Cond.code ({ cls := "PennyArcadeModel", name := "repairOn", desc := "()V" } : Jvm.MethodName) prog_8_method_42_code (3 : Nat) (Option.none : Option Jvm.ClassFile.FieldType)) ∈ lw_all := lw_g (lw_at lw_m5 23 rfl) rfl
theorem q1027 : (Jvm.Cond.instanceMethod ({ cls := "PennyArcadeModel", name := "count", desc := "(I)I" } : Jvm.MethodName)) ∈ lw_all := lw_g (lw_at lw_m5 25 rfl) rfl
theorem q1028 : (Jvm.Cond.selects "PennyArcadeModel" ({ cls := "PennyArcadeModel", name := "count", desc := "(I)I" } : Jvm.MethodName) ({ cls := "PennyArcadeModel", name := "count", desc := "(I)I" } : Jvm.MethodName)) ∈ lw_all := lw_g (lw_at lw_m5 26 rfl) rfl
theorem q1029 : (Jvm.Cond.code ({ cls := "PennyArcadeModel", name := "count", desc := "(I)I" } : Jvm.MethodName) prog_8_method_50_code (2 : Nat) (Option.some Jvm.ClassFile.FieldType.int)) ∈ lw_all := lw_g (lw_at lw_m5 27 rfl) rfl
theorem q1030 : (Jvm.Cond.methodLink "PennyArcadeModel" (162 : Nat) ({ cls := "PennyArcadeModel", name := "counted", desc := "(I)I" } : Jvm.MethodName)) ∈ lw_all := lw_g (lw_at lw_m5 28 rfl) rfl
theorem q1031 : (Jvm.Cond.privateMethod ({ cls := "PennyArcadeModel", name := "counted", desc := "(I)I" } : Jvm.MethodName)) ∈ lw_tbl := lw_at lw_m5 29 rfl
theorem q1032 : (Jvm.Cond.instanceMethod ({ cls := "PennyArcadeModel", name := "counted", desc := "(I)I" } : Jvm.MethodName)) ∈ lw_all := lw_g (lw_at lw_m5 30 rfl) rfl
theorem q1033 : (Jvm.Cond.code ({ cls := "PennyArcadeModel", name := "counted", desc := "(I)I" } : Jvm.MethodName) prog_8_method_49_code (4 : Nat) (Option.some Jvm.ClassFile.FieldType.int)) ∈ lw_all := lw_g (lw_at lw_m5 31 rfl) rfl
theorem q1034 : (Jvm.Cond.methodLink "PennyArcadeModel" (156 : Nat) ({ cls := "PennyArcadeModel", name := "jammed", desc := "()I" } : Jvm.MethodName)) ∈ lw_all := lw_g (lw_at lw_m5 32 rfl) rfl
theorem q1035 : (Jvm.Cond.privateMethod ({ cls := "PennyArcadeModel", name := "jammed", desc := "()I" } : Jvm.MethodName)) ∈ lw_tbl := lw_at lw_m5 33 rfl
theorem q1036 : (Jvm.Cond.instanceMethod ({ cls := "PennyArcadeModel", name := "jammed", desc := "()I" } : Jvm.MethodName)) ∈ lw_all := lw_g (lw_at lw_m5 34 rfl) rfl
theorem q1037 : (Jvm.Cond.code ({ cls := "PennyArcadeModel", name := "jammed", desc := "()I" } : Jvm.MethodName) prog_8_method_47_code (3 : Nat) (Option.some Jvm.ClassFile.FieldType.int)) ∈ lw_all := lw_g (lw_at lw_m5 35 rfl) rfl
theorem q1038 : (Jvm.Cond.methodLink "PennyArcadeModel" (159 : Nat) ({ cls := "PennyArcadeModel", name := "boxes", desc := "()I" } : Jvm.MethodName)) ∈ lw_all := lw_g (lw_at lw_m5 36 rfl) rfl
theorem q1039 : (Jvm.Cond.privateMethod ({ cls := "PennyArcadeModel", name := "boxes", desc := "()I" } : Jvm.MethodName)) ∈ lw_tbl := lw_at lw_m5 37 rfl
theorem q1040 : (Jvm.Cond.instanceMethod ({ cls := "PennyArcadeModel", name := "boxes", desc := "()I" } : Jvm.MethodName)) ∈ lw_all := lw_g (lw_at lw_m5 38 rfl) rfl
theorem q1041 : (Jvm.Cond.code ({ cls := "PennyArcadeModel", name := "boxes", desc := "()I" } : Jvm.MethodName) prog_8_method_48_code (3 : Nat) (Option.some Jvm.ClassFile.FieldType.int)) ∈ lw_all := lw_g (lw_at lw_m5 39 rfl) rfl
theorem q1043 : (Jvm.Cond.instanceMethod ({ cls := "PennyArcadeModel", name := "foresee", desc := "(II)I" } : Jvm.MethodName)) ∈ lw_all := lw_g (lw_at lw_m5 41 rfl) rfl
theorem q1044 : (Jvm.Cond.selects "PennyArcadeModel" ({ cls := "PennyArcadeModel", name := "foresee", desc := "(II)I" } : Jvm.MethodName) ({ cls := "PennyArcadeModel", name := "foresee", desc := "(II)I" } : Jvm.MethodName)) ∈ lw_all := lw_g (lw_at lw_m5 42 rfl) rfl
theorem q1045 : (Jvm.Cond.code ({ cls := "PennyArcadeModel", name := "foresee", desc := "(II)I" } : Jvm.MethodName) prog_8_method_53_code (6 : Nat) (Option.some Jvm.ClassFile.FieldType.int)) ∈ lw_all := lw_g (lw_at lw_m5 43 rfl) rfl
theorem q1046 : (Jvm.Cond.methodLink "PennyArcadeModel" (170 : Nat) ({ cls := "PennyArcadeModel", name := "kept", desc := "()[[I" } : Jvm.MethodName)) ∈ lw_all := lw_g (lw_at lw_m5 44 rfl) rfl
theorem q1047 : (Jvm.Cond.privateMethod ({ cls := "PennyArcadeModel", name := "kept", desc := "()[[I" } : Jvm.MethodName)) ∈ lw_tbl := lw_at lw_m5 45 rfl
theorem q1048 : (Jvm.Cond.instanceMethod ({ cls := "PennyArcadeModel", name := "kept", desc := "()[[I" } : Jvm.MethodName)) ∈ lw_all := lw_g (lw_at lw_m5 46 rfl) rfl
theorem q1049 : (Jvm.Cond.code ({ cls := "PennyArcadeModel", name := "kept", desc := "()[[I" } : Jvm.MethodName) prog_8_method_51_code (1 : Nat) (Option.some (Jvm.ClassFile.FieldType.array (Jvm.ClassFile.FieldType.array Jvm.ClassFile.FieldType.int)))) ∈ lw_all := lw_g (lw_at lw_m5 47 rfl) rfl
theorem q1050 : (Jvm.Cond.classLink "PennyArcadeModel" (165 : Nat) "[I") ∈ lw_all := lw_g (lw_at lw_m5 48 rfl) rfl
theorem q1052 : (Jvm.Cond.methodLink "PennyArcadeModel" (166 : Nat) ({ cls := "[I", name := "clone", desc := "()Ljava/lang/Object;" } : Jvm.MethodName)) ∈ lw_all := lw_g (lw_at lw_m5 50 rfl) rfl
theorem q1058 : (Jvm.Cond.methodLink "PennyArcadeModel" (174 : Nat) ({ cls := "PennyArcadeModel", name := "bringBack", desc := "([[I)V" } : Jvm.MethodName)) ∈ lw_all := lw_g (lw_at lw_m5 56 rfl) rfl
theorem q1059 : (Jvm.Cond.privateMethod ({ cls := "PennyArcadeModel", name := "bringBack", desc := "([[I)V" } : Jvm.MethodName)) ∈ lw_tbl := lw_at lw_m5 57 rfl
theorem q1060 : (Jvm.Cond.instanceMethod ({ cls := "PennyArcadeModel", name := "bringBack", desc := "([[I)V" } : Jvm.MethodName)) ∈ lw_all := lw_g (lw_at lw_m5 58 rfl) rfl
theorem q1061 : (Jvm.Cond.code ({ cls := "PennyArcadeModel", name := "bringBack", desc := "([[I)V" } : Jvm.MethodName) prog_8_method_52_code (4 : Nat) (Option.none : Option Jvm.ClassFile.FieldType)) ∈ lw_all := lw_g (lw_at lw_m5 59 rfl) rfl
theorem q1063 : (Jvm.Cond.instanceMethod ({ cls := "PennyArcadeModel", name := "advise", desc := "(I)I" } : Jvm.MethodName)) ∈ lw_all := lw_g (lw_at lw_m5 61 rfl) rfl
theorem q1064 : (Jvm.Cond.selects "PennyArcadeModel" ({ cls := "PennyArcadeModel", name := "advise", desc := "(I)I" } : Jvm.MethodName) ({ cls := "PennyArcadeModel", name := "advise", desc := "(I)I" } : Jvm.MethodName)) ∈ lw_all := lw_g (lw_at lw_m5 62 rfl) rfl
theorem q1065 : (Jvm.Cond.code ({ cls := "PennyArcadeModel", name := "advise", desc := "(I)I" } : Jvm.MethodName) prog_8_method_54_code (7 : Nat) (Option.some Jvm.ClassFile.FieldType.int)) ∈ lw_all := lw_g (lw_at lw_m5 63 rfl) rfl
theorem q1067 : (Jvm.Cond.instanceMethod ({ cls := "PennyArcadeModel", name := "back", desc := "()D" } : Jvm.MethodName)) ∈ lw_all := lw_g (lw_at lw_m5 65 rfl) rfl
theorem q1068 : (Jvm.Cond.selects "PennyArcadeModel" ({ cls := "PennyArcadeModel", name := "back", desc := "()D" } : Jvm.MethodName) ({ cls := "PennyArcadeModel", name := "back", desc := "()D" } : Jvm.MethodName)) ∈ lw_all := lw_g (lw_at lw_m5 66 rfl) rfl
theorem q1069 : (Jvm.Cond.code ({ cls := "PennyArcadeModel", name := "back", desc := "()D" } : Jvm.MethodName) prog_8_method_55_code (4 : Nat) (Option.some Jvm.ClassFile.FieldType.double)) ∈ lw_all := lw_g (lw_at lw_m5 67 rfl) rfl
theorem q1071 : (Jvm.Cond.instanceMethod ({ cls := "PennyArcadeModel", name := "digest", desc := "()J" } : Jvm.MethodName)) ∈ lw_all := lw_g (lw_at lw_m5 69 rfl) rfl
theorem q1072 : (Jvm.Cond.selects "PennyArcadeModel" ({ cls := "PennyArcadeModel", name := "digest", desc := "()J" } : Jvm.MethodName) ({ cls := "PennyArcadeModel", name := "digest", desc := "()J" } : Jvm.MethodName)) ∈ lw_all := lw_g (lw_at lw_m5 70 rfl) rfl
theorem q1073 : (Jvm.Cond.code ({ cls := "PennyArcadeModel", name := "digest", desc := "()J" } : Jvm.MethodName) prog_8_method_56_code (6 : Nat) (Option.some Jvm.ClassFile.FieldType.long)) ∈ lw_all := lw_g (lw_at lw_m5 71 rfl) rfl
theorem q1074 : (Jvm.Cond.constantLong "PennyArcadeModel" (178 : Nat) (631 : Int64)) ∈ lw_all := lw_g (lw_at lw_m5 72 rfl) rfl
theorem q1075 : (Jvm.Cond.constantLong "PennyArcadeModel" (180 : Nat) (31 : Int64)) ∈ lw_all := lw_g (lw_at lw_m5 73 rfl) rfl
theorem q1085 : (Jvm.Cond.castable "PennyArcadeModel" "java/lang/Object") ∈ lw_tbl := lw_at lw_m5 83 rfl
theorem in_X3 : ∀ w ∈ wsX30, w ∈ lw_all := lw_in wsX30 [821, 823, 825, 827, 829, 831, 833, 835, 837, 839, 841] (by decide +kernel) (by decide +kernel)

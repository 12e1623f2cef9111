/-! PennyArcade -/
set_option maxRecDepth 100000
def RX1 : String := "PennyArcade"
def TX1 : u_T := fun k => match k with
  | 0 => ("PennyArcade", "machines", "Ljava/util/ArrayList;", true)
  | 1 => ("PennyArcade", "players", "Ljava/util/ArrayList;", true)
  | 2 => ("PennyArcade", "hall", "LPennyArcade$Hall;", true)
  | 3 => ("PennyArcade", "ahead", "LPennyArcade$Hall;", true)
  | _ => ("PennyArcade", "skill", "I", false)
def tyX1 : Nat → FieldType := fun k => match k with
  | 0 => .object "java/util/ArrayList"
  | 1 => .object "java/util/ArrayList"
  | 2 => .object "PennyArcade$Hall"
  | 3 => .object "PennyArcade$Hall"
  | _ => .int
abbrev wsX10 : List Cond := u_ws RX1 TX1 5
theorem nmX1 : ∀ a, a < 5 → ∀ b, b < 5 → a ≠ b → (TX1 a).2.1 ≠ (TX1 b).2.1 := by decide +kernel
theorem tyX1_ok : ∀ k, k < 5 → parseFieldDescriptor (TX1 k).2.2.1 = some (tyX1 k) := by decide +kernel
abbrev cX1_init : ByteArray := prog_1_method_6_code
def yX1_init : MethodName := ⟨RX1, "<init>", "()V"⟩
def dkwX1_init_2 : List UInt8 := [181, 0, 55, 177]
abbrev dktX1_init_2 : List UInt8 := dkwX1_init_2 ++ []
def dkwX1_init_1 : List UInt8 := [181, 0, 43, 42, 187, 0, 46, 89, 42, 183, 0, 48, 181, 0, 51, 42, 187, 0, 46, 89, 42, 183, 0, 48]
abbrev dktX1_init_1 : List UInt8 := dkwX1_init_1 ++ dktX1_init_2
def dkwX1_init_0 : List UInt8 := [42, 183, 0, 33, 42, 187, 0, 36, 89, 183, 0, 38, 181, 0, 39, 42, 187, 0, 36, 89, 183, 0, 38]
abbrev dktX1_init_0 : List UInt8 := dkwX1_init_0 ++ dktX1_init_1
theorem dksX1_init_0 : cX1_init.data.toList.drop 0 = dktX1_init_0 := by decide +kernel
theorem dksX1_init_1 : cX1_init.data.toList.drop 23 = dktX1_init_1 := dk_seg dksX1_init_0 23 rfl rfl
theorem dksX1_init_2 : cX1_init.data.toList.drop 47 = dktX1_init_2 := dk_seg dksX1_init_1 24 rfl rfl
theorem dX1_init_0 : decode cX1_init 0 = .ok (.aload_n 0, 1) := dk_42 (dk_at dksX1_init_0 0 rfl rfl)
theorem dX1_init_1 : decode cX1_init 1 = .ok (.invokespecial 33, 3) := dk_183 0 33 (dk_at dksX1_init_0 1 rfl rfl)
theorem dX1_init_4 : decode cX1_init 4 = .ok (.aload_n 0, 1) := dk_42 (dk_at dksX1_init_0 4 rfl rfl)
theorem dX1_init_5 : decode cX1_init 5 = .ok (.new 36, 3) := dk_187 0 36 (dk_at dksX1_init_0 5 rfl rfl)
theorem dX1_init_8 : decode cX1_init 8 = .ok (.dup, 1) := dk_89 (dk_at dksX1_init_0 8 rfl rfl)
theorem dX1_init_9 : decode cX1_init 9 = .ok (.invokespecial 38, 3) := dk_183 0 38 (dk_at dksX1_init_0 9 rfl rfl)
theorem dX1_init_12 : decode cX1_init 12 = .ok (.putfield 39, 3) := dk_181 0 39 (dk_at dksX1_init_0 12 rfl rfl)
theorem dX1_init_15 : decode cX1_init 15 = .ok (.aload_n 0, 1) := dk_42 (dk_at dksX1_init_0 15 rfl rfl)
theorem dX1_init_16 : decode cX1_init 16 = .ok (.new 36, 3) := dk_187 0 36 (dk_at dksX1_init_0 16 rfl rfl)
theorem dX1_init_19 : decode cX1_init 19 = .ok (.dup, 1) := dk_89 (dk_at dksX1_init_0 19 rfl rfl)
theorem dX1_init_20 : decode cX1_init 20 = .ok (.invokespecial 38, 3) := dk_183 0 38 (dk_at dksX1_init_0 20 rfl rfl)
theorem dX1_init_23 : decode cX1_init 23 = .ok (.putfield 43, 3) := dk_181 0 43 (dk_at dksX1_init_1 0 rfl rfl)
theorem dX1_init_26 : decode cX1_init 26 = .ok (.aload_n 0, 1) := dk_42 (dk_at dksX1_init_1 3 rfl rfl)
theorem dX1_init_27 : decode cX1_init 27 = .ok (.new 46, 3) := dk_187 0 46 (dk_at dksX1_init_1 4 rfl rfl)
theorem dX1_init_30 : decode cX1_init 30 = .ok (.dup, 1) := dk_89 (dk_at dksX1_init_1 7 rfl rfl)
theorem dX1_init_31 : decode cX1_init 31 = .ok (.aload_n 0, 1) := dk_42 (dk_at dksX1_init_1 8 rfl rfl)
theorem dX1_init_32 : decode cX1_init 32 = .ok (.invokespecial 48, 3) := dk_183 0 48 (dk_at dksX1_init_1 9 rfl rfl)
theorem dX1_init_35 : decode cX1_init 35 = .ok (.putfield 51, 3) := dk_181 0 51 (dk_at dksX1_init_1 12 rfl rfl)
theorem dX1_init_38 : decode cX1_init 38 = .ok (.aload_n 0, 1) := dk_42 (dk_at dksX1_init_1 15 rfl rfl)
theorem dX1_init_39 : decode cX1_init 39 = .ok (.new 46, 3) := dk_187 0 46 (dk_at dksX1_init_1 16 rfl rfl)
theorem dX1_init_42 : decode cX1_init 42 = .ok (.dup, 1) := dk_89 (dk_at dksX1_init_1 19 rfl rfl)
theorem dX1_init_43 : decode cX1_init 43 = .ok (.aload_n 0, 1) := dk_42 (dk_at dksX1_init_1 20 rfl rfl)
theorem dX1_init_44 : decode cX1_init 44 = .ok (.invokespecial 48, 3) := dk_183 0 48 (dk_at dksX1_init_1 21 rfl rfl)
theorem dX1_init_47 : decode cX1_init 47 = .ok (.putfield 55, 3) := dk_181 0 55 (dk_at dksX1_init_2 0 rfl rfl)
theorem dX1_init_50 : decode cX1_init 50 = .ok (.return_, 1) := dk_177 (dk_at dksX1_init_2 3 rfl rfl)
abbrev cX1_back : ByteArray := prog_1_method_33_code
def yX1_back : MethodName := ⟨RX1, "back", "()D"⟩
def dkwX1_back_2 : List UInt8 := [182, 0, 76, 182, 0, 215, 135, 27, 135, 111, 175]
abbrev dktX1_back_2 : List UInt8 := dkwX1_back_2 ++ []
def dkwX1_back_1 : List UInt8 := [154, 0, 7, 14, 167, 0, 28, 42, 180, 0, 51, 42, 180, 0, 51, 180, 0, 131, 42, 180, 0, 39]
abbrev dktX1_back_1 : List UInt8 := dkwX1_back_1 ++ dktX1_back_2
def dkwX1_back_0 : List UInt8 := [42, 180, 0, 51, 42, 180, 0, 51, 180, 0, 128, 42, 180, 0, 39, 182, 0, 76, 182, 0, 215, 60, 27]
abbrev dktX1_back_0 : List UInt8 := dkwX1_back_0 ++ dktX1_back_1
theorem dksX1_back_0 : cX1_back.data.toList.drop 0 = dktX1_back_0 := by decide +kernel
theorem dksX1_back_1 : cX1_back.data.toList.drop 23 = dktX1_back_1 := dk_seg dksX1_back_0 23 rfl rfl
theorem dksX1_back_2 : cX1_back.data.toList.drop 45 = dktX1_back_2 := dk_seg dksX1_back_1 22 rfl rfl
theorem dX1_back_0 : decode cX1_back 0 = .ok (.aload_n 0, 1) := dk_42 (dk_at dksX1_back_0 0 rfl rfl)
theorem dX1_back_1 : decode cX1_back 1 = .ok (.getfield 51, 3) := dk_180 0 51 (dk_at dksX1_back_0 1 rfl rfl)
theorem dX1_back_4 : decode cX1_back 4 = .ok (.aload_n 0, 1) := dk_42 (dk_at dksX1_back_0 4 rfl rfl)
theorem dX1_back_5 : decode cX1_back 5 = .ok (.getfield 51, 3) := dk_180 0 51 (dk_at dksX1_back_0 5 rfl rfl)
theorem dX1_back_8 : decode cX1_back 8 = .ok (.getfield 128, 3) := dk_180 0 128 (dk_at dksX1_back_0 8 rfl rfl)
theorem dX1_back_11 : decode cX1_back 11 = .ok (.aload_n 0, 1) := dk_42 (dk_at dksX1_back_0 11 rfl rfl)
theorem dX1_back_12 : decode cX1_back 12 = .ok (.getfield 39, 3) := dk_180 0 39 (dk_at dksX1_back_0 12 rfl rfl)
theorem dX1_back_15 : decode cX1_back 15 = .ok (.invokevirtual 76, 3) := dk_182 0 76 (dk_at dksX1_back_0 15 rfl rfl)
theorem dX1_back_18 : decode cX1_back 18 = .ok (.invokevirtual 215, 3) := dk_182 0 215 (dk_at dksX1_back_0 18 rfl rfl)
theorem dX1_back_21 : decode cX1_back 21 = .ok (.istore_n 1, 1) := dk_60 (dk_at dksX1_back_0 21 rfl rfl)
theorem dX1_back_22 : decode cX1_back 22 = .ok (.iload_n 1, 1) := dk_27 (dk_at dksX1_back_0 22 rfl rfl)
theorem dX1_back_23 : decode cX1_back 23 = .ok (.ifCond .ne 7, 3) := dk_154 0 7 (dk_at dksX1_back_1 0 rfl rfl)
theorem dX1_back_26 : decode cX1_back 26 = .ok (.dconst 0, 1) := dk_14 (dk_at dksX1_back_1 3 rfl rfl)
theorem dX1_back_27 : decode cX1_back 27 = .ok (.goto 28, 3) := dk_167 0 28 (dk_at dksX1_back_1 4 rfl rfl)
theorem dX1_back_30 : decode cX1_back 30 = .ok (.aload_n 0, 1) := dk_42 (dk_at dksX1_back_1 7 rfl rfl)
theorem dX1_back_31 : decode cX1_back 31 = .ok (.getfield 51, 3) := dk_180 0 51 (dk_at dksX1_back_1 8 rfl rfl)
theorem dX1_back_34 : decode cX1_back 34 = .ok (.aload_n 0, 1) := dk_42 (dk_at dksX1_back_1 11 rfl rfl)
theorem dX1_back_35 : decode cX1_back 35 = .ok (.getfield 51, 3) := dk_180 0 51 (dk_at dksX1_back_1 12 rfl rfl)
theorem dX1_back_38 : decode cX1_back 38 = .ok (.getfield 131, 3) := dk_180 0 131 (dk_at dksX1_back_1 15 rfl rfl)
theorem dX1_back_41 : decode cX1_back 41 = .ok (.aload_n 0, 1) := dk_42 (dk_at dksX1_back_1 18 rfl rfl)
theorem dX1_back_42 : decode cX1_back 42 = .ok (.getfield 39, 3) := dk_180 0 39 (dk_at dksX1_back_1 19 rfl rfl)
theorem dX1_back_45 : decode cX1_back 45 = .ok (.invokevirtual 76, 3) := dk_182 0 76 (dk_at dksX1_back_2 0 rfl rfl)
theorem dX1_back_48 : decode cX1_back 48 = .ok (.invokevirtual 215, 3) := dk_182 0 215 (dk_at dksX1_back_2 3 rfl rfl)
theorem dX1_back_51 : decode cX1_back 51 = .ok (.i2d, 1) := dk_135 (dk_at dksX1_back_2 6 rfl rfl)
theorem dX1_back_52 : decode cX1_back 52 = .ok (.iload_n 1, 1) := dk_27 (dk_at dksX1_back_2 7 rfl rfl)
theorem dX1_back_53 : decode cX1_back 53 = .ok (.i2d, 1) := dk_135 (dk_at dksX1_back_2 8 rfl rfl)
theorem dX1_back_54 : decode cX1_back 54 = .ok (.ddiv, 1) := dk_111 (dk_at dksX1_back_2 9 rfl rfl)
theorem dX1_back_55 : decode cX1_back 55 = .ok (.dreturn, 1) := dk_175 (dk_at dksX1_back_2 10 rfl rfl)
abbrev cX1_digest : ByteArray := prog_1_method_34_code
def yX1_digest : MethodName := ⟨RX1, "digest", "()J"⟩
def dkwX1_digest_13 : List UInt8 := [20, 0, 234, 105, 42, 180, 0, 51, 180, 0, 200, 29, 46, 133, 97, 64, 132, 3, 1, 167, 255, 225, 31, 173]
abbrev dktX1_digest_13 : List UInt8 := dkwX1_digest_13 ++ []
def dkwX1_digest_12 : List UInt8 := [167, 255, 231, 132, 3, 1, 167, 255, 211, 3, 62, 29, 42, 180, 0, 51, 180, 0, 197, 162, 0, 26, 31]
abbrev dktX1_digest_12 : List UInt8 := dkwX1_digest_12 ++ dktX1_digest_13
def dkwX1_digest_11 : List UInt8 := [16, 6, 162, 0, 24, 31, 20, 0, 234, 105, 42, 29, 21, 4, 182, 0, 185, 133, 97, 64, 132, 4, 1]
abbrev dktX1_digest_11 : List UInt8 := dkwX1_digest_11 ++ dktX1_digest_12
def dkwX1_digest_10 : List UInt8 := [132, 3, 1, 167, 255, 53, 3, 62, 29, 42, 180, 0, 43, 182, 0, 76, 162, 0, 40, 3, 54, 4, 21, 4]
abbrev dktX1_digest_10 : List UInt8 := dkwX1_digest_10 ++ dktX1_digest_11
def dkwX1_digest_9 : List UInt8 := [180, 0, 51, 180, 0, 152, 8, 29, 104, 21, 5, 96, 46, 133, 97, 64, 132, 5, 1, 167, 255, 225]
abbrev dktX1_digest_9 : List UInt8 := dkwX1_digest_9 ++ dktX1_digest_10
def dkwX1_digest_8 : List UInt8 := [132, 8, 1, 167, 255, 229, 167, 0, 40, 3, 54, 5, 21, 5, 8, 162, 0, 31, 31, 20, 0, 234, 105, 42]
abbrev dktX1_digest_8 : List UInt8 := dkwX1_digest_8 ++ dktX1_digest_9
def dkwX1_digest_7 : List UInt8 := [21, 8, 21, 7, 162, 0, 26, 25, 6, 21, 8, 46, 54, 9, 31, 20, 0, 234, 105, 21, 9, 133, 97, 64]
abbrev dktX1_digest_7 : List UInt8 := dkwX1_digest_7 ++ dktX1_digest_8
def dkwX1_digest_6 : List UInt8 := [97, 64, 132, 8, 1, 167, 255, 229, 25, 5, 180, 0, 103, 58, 6, 25, 6, 190, 54, 7, 3, 54, 8]
abbrev dktX1_digest_6 : List UInt8 := dkwX1_digest_6 ++ dktX1_digest_7
def dkwX1_digest_5 : List UInt8 := [54, 8, 21, 8, 21, 7, 162, 0, 26, 25, 6, 21, 8, 46, 54, 9, 31, 20, 0, 234, 105, 21, 9, 133]
abbrev dktX1_digest_5 : List UInt8 := dkwX1_digest_5 ++ dktX1_digest_6
def dkwX1_digest_4 : List UInt8 := [153, 0, 103, 25, 4, 192, 0, 80, 58, 5, 25, 5, 180, 0, 110, 58, 6, 25, 6, 190, 54, 7, 3]
abbrev dktX1_digest_4 : List UInt8 := dkwX1_digest_4 ++ dktX1_digest_5
def dkwX1_digest_3 : List UInt8 := [132, 4, 1, 167, 255, 231, 42, 180, 0, 39, 29, 182, 0, 113, 192, 0, 63, 58, 4, 25, 4, 193, 0, 80]
abbrev dktX1_digest_3 : List UInt8 := dkwX1_digest_3 ++ dktX1_digest_4
def dkwX1_digest_2 : List UInt8 := [21, 4, 16, 11, 162, 0, 24, 31, 20, 0, 234, 105, 42, 29, 21, 4, 182, 0, 137, 133, 97, 64]
abbrev dktX1_digest_2 : List UInt8 := dkwX1_digest_2 ++ dktX1_digest_3
def dkwX1_digest_1 : List UInt8 := [64, 132, 3, 1, 167, 255, 234, 3, 62, 29, 42, 180, 0, 39, 182, 0, 76, 162, 0, 198, 3, 54, 4]
abbrev dktX1_digest_1 : List UInt8 := dkwX1_digest_1 ++ dktX1_digest_2
def dkwX1_digest_0 : List UInt8 := [20, 0, 232, 64, 3, 62, 29, 16, 10, 162, 0, 22, 31, 20, 0, 234, 105, 42, 29, 182, 0, 225, 133, 97]
abbrev dktX1_digest_0 : List UInt8 := dkwX1_digest_0 ++ dktX1_digest_1
theorem dksX1_digest_0 : cX1_digest.data.toList.drop 0 = dktX1_digest_0 := by decide +kernel
theorem dksX1_digest_1 : cX1_digest.data.toList.drop 24 = dktX1_digest_1 := dk_seg dksX1_digest_0 24 rfl rfl
theorem dksX1_digest_2 : cX1_digest.data.toList.drop 47 = dktX1_digest_2 := dk_seg dksX1_digest_1 23 rfl rfl
theorem dksX1_digest_3 : cX1_digest.data.toList.drop 69 = dktX1_digest_3 := dk_seg dksX1_digest_2 22 rfl rfl
theorem dksX1_digest_4 : cX1_digest.data.toList.drop 93 = dktX1_digest_4 := dk_seg dksX1_digest_3 24 rfl rfl
theorem dksX1_digest_5 : cX1_digest.data.toList.drop 116 = dktX1_digest_5 := dk_seg dksX1_digest_4 23 rfl rfl
theorem dksX1_digest_6 : cX1_digest.data.toList.drop 140 = dktX1_digest_6 := dk_seg dksX1_digest_5 24 rfl rfl
theorem dksX1_digest_7 : cX1_digest.data.toList.drop 163 = dktX1_digest_7 := dk_seg dksX1_digest_6 23 rfl rfl
theorem dksX1_digest_8 : cX1_digest.data.toList.drop 187 = dktX1_digest_8 := dk_seg dksX1_digest_7 24 rfl rfl
theorem dksX1_digest_9 : cX1_digest.data.toList.drop 211 = dktX1_digest_9 := dk_seg dksX1_digest_8 24 rfl rfl
theorem dksX1_digest_10 : cX1_digest.data.toList.drop 233 = dktX1_digest_10 := dk_seg dksX1_digest_9 22 rfl rfl
theorem dksX1_digest_11 : cX1_digest.data.toList.drop 257 = dktX1_digest_11 := dk_seg dksX1_digest_10 24 rfl rfl
theorem dksX1_digest_12 : cX1_digest.data.toList.drop 280 = dktX1_digest_12 := dk_seg dksX1_digest_11 23 rfl rfl
theorem dksX1_digest_13 : cX1_digest.data.toList.drop 303 = dktX1_digest_13 := dk_seg dksX1_digest_12 23 rfl rfl
theorem dX1_digest_0 : decode cX1_digest 0 = .ok (.ldc2_w 232, 3) := dk_20 0 232 (dk_at dksX1_digest_0 0 rfl rfl)
theorem dX1_digest_3 : decode cX1_digest 3 = .ok (.lstore_n 1, 1) := dk_64 (dk_at dksX1_digest_0 3 rfl rfl)
theorem dX1_digest_4 : decode cX1_digest 4 = .ok (.iconst 0, 1) := dk_3 (dk_at dksX1_digest_0 4 rfl rfl)
theorem dX1_digest_5 : decode cX1_digest 5 = .ok (.istore_n 3, 1) := dk_62 (dk_at dksX1_digest_0 5 rfl rfl)
theorem dX1_digest_6 : decode cX1_digest 6 = .ok (.iload_n 3, 1) := dk_29 (dk_at dksX1_digest_0 6 rfl rfl)
theorem dX1_digest_7 : decode cX1_digest 7 = .ok (.bipush 10, 2) := dk_16 10 (dk_at dksX1_digest_0 7 rfl rfl)
theorem dX1_digest_9 : decode cX1_digest 9 = .ok (.if_icmp .ge 22, 3) := dk_162 0 22 (dk_at dksX1_digest_0 9 rfl rfl)
theorem dX1_digest_12 : decode cX1_digest 12 = .ok (.lload_n 1, 1) := dk_31 (dk_at dksX1_digest_0 12 rfl rfl)
theorem dX1_digest_13 : decode cX1_digest 13 = .ok (.ldc2_w 234, 3) := dk_20 0 234 (dk_at dksX1_digest_0 13 rfl rfl)
theorem dX1_digest_16 : decode cX1_digest 16 = .ok (.lmul, 1) := dk_105 (dk_at dksX1_digest_0 16 rfl rfl)
theorem dX1_digest_17 : decode cX1_digest 17 = .ok (.aload_n 0, 1) := dk_42 (dk_at dksX1_digest_0 17 rfl rfl)
theorem dX1_digest_18 : decode cX1_digest 18 = .ok (.iload_n 3, 1) := dk_29 (dk_at dksX1_digest_0 18 rfl rfl)
theorem dX1_digest_19 : decode cX1_digest 19 = .ok (.invokevirtual 225, 3) := dk_182 0 225 (dk_at dksX1_digest_0 19 rfl rfl)
theorem dX1_digest_22 : decode cX1_digest 22 = .ok (.i2l, 1) := dk_133 (dk_at dksX1_digest_0 22 rfl rfl)
theorem dX1_digest_23 : decode cX1_digest 23 = .ok (.ladd, 1) := dk_97 (dk_at dksX1_digest_0 23 rfl rfl)
theorem dX1_digest_24 : decode cX1_digest 24 = .ok (.lstore_n 1, 1) := dk_64 (dk_at dksX1_digest_1 0 rfl rfl)
theorem dX1_digest_25 : decode cX1_digest 25 = .ok (.iinc 3 1, 3) := dk_132 3 1 (dk_at dksX1_digest_1 1 rfl rfl)
theorem dX1_digest_28 : decode cX1_digest 28 = .ok (.goto (-22), 3) := dk_167 255 234 (dk_at dksX1_digest_1 4 rfl rfl)
theorem dX1_digest_31 : decode cX1_digest 31 = .ok (.iconst 0, 1) := dk_3 (dk_at dksX1_digest_1 7 rfl rfl)
theorem dX1_digest_32 : decode cX1_digest 32 = .ok (.istore_n 3, 1) := dk_62 (dk_at dksX1_digest_1 8 rfl rfl)
theorem dX1_digest_33 : decode cX1_digest 33 = .ok (.iload_n 3, 1) := dk_29 (dk_at dksX1_digest_1 9 rfl rfl)
theorem dX1_digest_34 : decode cX1_digest 34 = .ok (.aload_n 0, 1) := dk_42 (dk_at dksX1_digest_1 10 rfl rfl)
theorem dX1_digest_35 : decode cX1_digest 35 = .ok (.getfield 39, 3) := dk_180 0 39 (dk_at dksX1_digest_1 11 rfl rfl)
theorem dX1_digest_38 : decode cX1_digest 38 = .ok (.invokevirtual 76, 3) := dk_182 0 76 (dk_at dksX1_digest_1 14 rfl rfl)
theorem dX1_digest_41 : decode cX1_digest 41 = .ok (.if_icmp .ge 198, 3) := dk_162 0 198 (dk_at dksX1_digest_1 17 rfl rfl)
theorem dX1_digest_44 : decode cX1_digest 44 = .ok (.iconst 0, 1) := dk_3 (dk_at dksX1_digest_1 20 rfl rfl)
theorem dX1_digest_45 : decode cX1_digest 45 = .ok (.istore 4, 2) := dk_54 4 (dk_at dksX1_digest_1 21 rfl rfl)
theorem dX1_digest_47 : decode cX1_digest 47 = .ok (.iload 4, 2) := dk_21 4 (dk_at dksX1_digest_2 0 rfl rfl)
theorem dX1_digest_49 : decode cX1_digest 49 = .ok (.bipush 11, 2) := dk_16 11 (dk_at dksX1_digest_2 2 rfl rfl)
theorem dX1_digest_51 : decode cX1_digest 51 = .ok (.if_icmp .ge 24, 3) := dk_162 0 24 (dk_at dksX1_digest_2 4 rfl rfl)
theorem dX1_digest_54 : decode cX1_digest 54 = .ok (.lload_n 1, 1) := dk_31 (dk_at dksX1_digest_2 7 rfl rfl)
theorem dX1_digest_55 : decode cX1_digest 55 = .ok (.ldc2_w 234, 3) := dk_20 0 234 (dk_at dksX1_digest_2 8 rfl rfl)
theorem dX1_digest_58 : decode cX1_digest 58 = .ok (.lmul, 1) := dk_105 (dk_at dksX1_digest_2 11 rfl rfl)
theorem dX1_digest_59 : decode cX1_digest 59 = .ok (.aload_n 0, 1) := dk_42 (dk_at dksX1_digest_2 12 rfl rfl)
theorem dX1_digest_60 : decode cX1_digest 60 = .ok (.iload_n 3, 1) := dk_29 (dk_at dksX1_digest_2 13 rfl rfl)
theorem dX1_digest_61 : decode cX1_digest 61 = .ok (.iload 4, 2) := dk_21 4 (dk_at dksX1_digest_2 14 rfl rfl)
theorem dX1_digest_63 : decode cX1_digest 63 = .ok (.invokevirtual 137, 3) := dk_182 0 137 (dk_at dksX1_digest_2 16 rfl rfl)
theorem dX1_digest_66 : decode cX1_digest 66 = .ok (.i2l, 1) := dk_133 (dk_at dksX1_digest_2 19 rfl rfl)
theorem dX1_digest_67 : decode cX1_digest 67 = .ok (.ladd, 1) := dk_97 (dk_at dksX1_digest_2 20 rfl rfl)
theorem dX1_digest_68 : decode cX1_digest 68 = .ok (.lstore_n 1, 1) := dk_64 (dk_at dksX1_digest_2 21 rfl rfl)
theorem dX1_digest_69 : decode cX1_digest 69 = .ok (.iinc 4 1, 3) := dk_132 4 1 (dk_at dksX1_digest_3 0 rfl rfl)
theorem dX1_digest_72 : decode cX1_digest 72 = .ok (.goto (-25), 3) := dk_167 255 231 (dk_at dksX1_digest_3 3 rfl rfl)
theorem dX1_digest_75 : decode cX1_digest 75 = .ok (.aload_n 0, 1) := dk_42 (dk_at dksX1_digest_3 6 rfl rfl)
theorem dX1_digest_76 : decode cX1_digest 76 = .ok (.getfield 39, 3) := dk_180 0 39 (dk_at dksX1_digest_3 7 rfl rfl)
theorem dX1_digest_79 : decode cX1_digest 79 = .ok (.iload_n 3, 1) := dk_29 (dk_at dksX1_digest_3 10 rfl rfl)
theorem dX1_digest_80 : decode cX1_digest 80 = .ok (.invokevirtual 113, 3) := dk_182 0 113 (dk_at dksX1_digest_3 11 rfl rfl)
theorem dX1_digest_83 : decode cX1_digest 83 = .ok (.checkcast 63, 3) := dk_192 0 63 (dk_at dksX1_digest_3 14 rfl rfl)
theorem dX1_digest_86 : decode cX1_digest 86 = .ok (.astore 4, 2) := dk_58 4 (dk_at dksX1_digest_3 17 rfl rfl)
theorem dX1_digest_88 : decode cX1_digest 88 = .ok (.aload 4, 2) := dk_25 4 (dk_at dksX1_digest_3 19 rfl rfl)
theorem dX1_digest_90 : decode cX1_digest 90 = .ok (.instanceof 80, 3) := dk_193 0 80 (dk_at dksX1_digest_3 21 rfl rfl)
theorem dX1_digest_93 : decode cX1_digest 93 = .ok (.ifCond .eq 103, 3) := dk_153 0 103 (dk_at dksX1_digest_4 0 rfl rfl)
theorem dX1_digest_96 : decode cX1_digest 96 = .ok (.aload 4, 2) := dk_25 4 (dk_at dksX1_digest_4 3 rfl rfl)
theorem dX1_digest_98 : decode cX1_digest 98 = .ok (.checkcast 80, 3) := dk_192 0 80 (dk_at dksX1_digest_4 5 rfl rfl)
theorem dX1_digest_101 : decode cX1_digest 101 = .ok (.astore 5, 2) := dk_58 5 (dk_at dksX1_digest_4 8 rfl rfl)
theorem dX1_digest_103 : decode cX1_digest 103 = .ok (.aload 5, 2) := dk_25 5 (dk_at dksX1_digest_4 10 rfl rfl)
theorem dX1_digest_105 : decode cX1_digest 105 = .ok (.getfield 110, 3) := dk_180 0 110 (dk_at dksX1_digest_4 12 rfl rfl)
theorem dX1_digest_108 : decode cX1_digest 108 = .ok (.astore 6, 2) := dk_58 6 (dk_at dksX1_digest_4 15 rfl rfl)
theorem dX1_digest_110 : decode cX1_digest 110 = .ok (.aload 6, 2) := dk_25 6 (dk_at dksX1_digest_4 17 rfl rfl)
theorem dX1_digest_112 : decode cX1_digest 112 = .ok (.arraylength, 1) := dk_190 (dk_at dksX1_digest_4 19 rfl rfl)
theorem dX1_digest_113 : decode cX1_digest 113 = .ok (.istore 7, 2) := dk_54 7 (dk_at dksX1_digest_4 20 rfl rfl)
theorem dX1_digest_115 : decode cX1_digest 115 = .ok (.iconst 0, 1) := dk_3 (dk_at dksX1_digest_4 22 rfl rfl)
theorem dX1_digest_116 : decode cX1_digest 116 = .ok (.istore 8, 2) := dk_54 8 (dk_at dksX1_digest_5 0 rfl rfl)
theorem dX1_digest_118 : decode cX1_digest 118 = .ok (.iload 8, 2) := dk_21 8 (dk_at dksX1_digest_5 2 rfl rfl)
theorem dX1_digest_120 : decode cX1_digest 120 = .ok (.iload 7, 2) := dk_21 7 (dk_at dksX1_digest_5 4 rfl rfl)
theorem dX1_digest_122 : decode cX1_digest 122 = .ok (.if_icmp .ge 26, 3) := dk_162 0 26 (dk_at dksX1_digest_5 6 rfl rfl)
theorem dX1_digest_125 : decode cX1_digest 125 = .ok (.aload 6, 2) := dk_25 6 (dk_at dksX1_digest_5 9 rfl rfl)
theorem dX1_digest_127 : decode cX1_digest 127 = .ok (.iload 8, 2) := dk_21 8 (dk_at dksX1_digest_5 11 rfl rfl)
theorem dX1_digest_129 : decode cX1_digest 129 = .ok (.iaload, 1) := dk_46 (dk_at dksX1_digest_5 13 rfl rfl)
theorem dX1_digest_130 : decode cX1_digest 130 = .ok (.istore 9, 2) := dk_54 9 (dk_at dksX1_digest_5 14 rfl rfl)
theorem dX1_digest_132 : decode cX1_digest 132 = .ok (.lload_n 1, 1) := dk_31 (dk_at dksX1_digest_5 16 rfl rfl)
theorem dX1_digest_133 : decode cX1_digest 133 = .ok (.ldc2_w 234, 3) := dk_20 0 234 (dk_at dksX1_digest_5 17 rfl rfl)
theorem dX1_digest_136 : decode cX1_digest 136 = .ok (.lmul, 1) := dk_105 (dk_at dksX1_digest_5 20 rfl rfl)
theorem dX1_digest_137 : decode cX1_digest 137 = .ok (.iload 9, 2) := dk_21 9 (dk_at dksX1_digest_5 21 rfl rfl)
theorem dX1_digest_139 : decode cX1_digest 139 = .ok (.i2l, 1) := dk_133 (dk_at dksX1_digest_5 23 rfl rfl)
theorem dX1_digest_140 : decode cX1_digest 140 = .ok (.ladd, 1) := dk_97 (dk_at dksX1_digest_6 0 rfl rfl)
theorem dX1_digest_141 : decode cX1_digest 141 = .ok (.lstore_n 1, 1) := dk_64 (dk_at dksX1_digest_6 1 rfl rfl)
theorem dX1_digest_142 : decode cX1_digest 142 = .ok (.iinc 8 1, 3) := dk_132 8 1 (dk_at dksX1_digest_6 2 rfl rfl)
theorem dX1_digest_145 : decode cX1_digest 145 = .ok (.goto (-27), 3) := dk_167 255 229 (dk_at dksX1_digest_6 5 rfl rfl)
theorem dX1_digest_148 : decode cX1_digest 148 = .ok (.aload 5, 2) := dk_25 5 (dk_at dksX1_digest_6 8 rfl rfl)
theorem dX1_digest_150 : decode cX1_digest 150 = .ok (.getfield 103, 3) := dk_180 0 103 (dk_at dksX1_digest_6 10 rfl rfl)
theorem dX1_digest_153 : decode cX1_digest 153 = .ok (.astore 6, 2) := dk_58 6 (dk_at dksX1_digest_6 13 rfl rfl)
theorem dX1_digest_155 : decode cX1_digest 155 = .ok (.aload 6, 2) := dk_25 6 (dk_at dksX1_digest_6 15 rfl rfl)
theorem dX1_digest_157 : decode cX1_digest 157 = .ok (.arraylength, 1) := dk_190 (dk_at dksX1_digest_6 17 rfl rfl)
theorem dX1_digest_158 : decode cX1_digest 158 = .ok (.istore 7, 2) := dk_54 7 (dk_at dksX1_digest_6 18 rfl rfl)
theorem dX1_digest_160 : decode cX1_digest 160 = .ok (.iconst 0, 1) := dk_3 (dk_at dksX1_digest_6 20 rfl rfl)
theorem dX1_digest_161 : decode cX1_digest 161 = .ok (.istore 8, 2) := dk_54 8 (dk_at dksX1_digest_6 21 rfl rfl)
theorem dX1_digest_163 : decode cX1_digest 163 = .ok (.iload 8, 2) := dk_21 8 (dk_at dksX1_digest_7 0 rfl rfl)
theorem dX1_digest_165 : decode cX1_digest 165 = .ok (.iload 7, 2) := dk_21 7 (dk_at dksX1_digest_7 2 rfl rfl)
theorem dX1_digest_167 : decode cX1_digest 167 = .ok (.if_icmp .ge 26, 3) := dk_162 0 26 (dk_at dksX1_digest_7 4 rfl rfl)
theorem dX1_digest_170 : decode cX1_digest 170 = .ok (.aload 6, 2) := dk_25 6 (dk_at dksX1_digest_7 7 rfl rfl)
theorem dX1_digest_172 : decode cX1_digest 172 = .ok (.iload 8, 2) := dk_21 8 (dk_at dksX1_digest_7 9 rfl rfl)
theorem dX1_digest_174 : decode cX1_digest 174 = .ok (.iaload, 1) := dk_46 (dk_at dksX1_digest_7 11 rfl rfl)
theorem dX1_digest_175 : decode cX1_digest 175 = .ok (.istore 9, 2) := dk_54 9 (dk_at dksX1_digest_7 12 rfl rfl)
theorem dX1_digest_177 : decode cX1_digest 177 = .ok (.lload_n 1, 1) := dk_31 (dk_at dksX1_digest_7 14 rfl rfl)
theorem dX1_digest_178 : decode cX1_digest 178 = .ok (.ldc2_w 234, 3) := dk_20 0 234 (dk_at dksX1_digest_7 15 rfl rfl)
theorem dX1_digest_181 : decode cX1_digest 181 = .ok (.lmul, 1) := dk_105 (dk_at dksX1_digest_7 18 rfl rfl)
theorem dX1_digest_182 : decode cX1_digest 182 = .ok (.iload 9, 2) := dk_21 9 (dk_at dksX1_digest_7 19 rfl rfl)
theorem dX1_digest_184 : decode cX1_digest 184 = .ok (.i2l, 1) := dk_133 (dk_at dksX1_digest_7 21 rfl rfl)
theorem dX1_digest_185 : decode cX1_digest 185 = .ok (.ladd, 1) := dk_97 (dk_at dksX1_digest_7 22 rfl rfl)
theorem dX1_digest_186 : decode cX1_digest 186 = .ok (.lstore_n 1, 1) := dk_64 (dk_at dksX1_digest_7 23 rfl rfl)
theorem dX1_digest_187 : decode cX1_digest 187 = .ok (.iinc 8 1, 3) := dk_132 8 1 (dk_at dksX1_digest_8 0 rfl rfl)
theorem dX1_digest_190 : decode cX1_digest 190 = .ok (.goto (-27), 3) := dk_167 255 229 (dk_at dksX1_digest_8 3 rfl rfl)
theorem dX1_digest_193 : decode cX1_digest 193 = .ok (.goto 40, 3) := dk_167 0 40 (dk_at dksX1_digest_8 6 rfl rfl)
theorem dX1_digest_196 : decode cX1_digest 196 = .ok (.iconst 0, 1) := dk_3 (dk_at dksX1_digest_8 9 rfl rfl)
theorem dX1_digest_197 : decode cX1_digest 197 = .ok (.istore 5, 2) := dk_54 5 (dk_at dksX1_digest_8 10 rfl rfl)
theorem dX1_digest_199 : decode cX1_digest 199 = .ok (.iload 5, 2) := dk_21 5 (dk_at dksX1_digest_8 12 rfl rfl)
theorem dX1_digest_201 : decode cX1_digest 201 = .ok (.iconst 5, 1) := dk_8 (dk_at dksX1_digest_8 14 rfl rfl)
theorem dX1_digest_202 : decode cX1_digest 202 = .ok (.if_icmp .ge 31, 3) := dk_162 0 31 (dk_at dksX1_digest_8 15 rfl rfl)
theorem dX1_digest_205 : decode cX1_digest 205 = .ok (.lload_n 1, 1) := dk_31 (dk_at dksX1_digest_8 18 rfl rfl)
theorem dX1_digest_206 : decode cX1_digest 206 = .ok (.ldc2_w 234, 3) := dk_20 0 234 (dk_at dksX1_digest_8 19 rfl rfl)
theorem dX1_digest_209 : decode cX1_digest 209 = .ok (.lmul, 1) := dk_105 (dk_at dksX1_digest_8 22 rfl rfl)
theorem dX1_digest_210 : decode cX1_digest 210 = .ok (.aload_n 0, 1) := dk_42 (dk_at dksX1_digest_8 23 rfl rfl)
theorem dX1_digest_211 : decode cX1_digest 211 = .ok (.getfield 51, 3) := dk_180 0 51 (dk_at dksX1_digest_9 0 rfl rfl)
theorem dX1_digest_214 : decode cX1_digest 214 = .ok (.getfield 152, 3) := dk_180 0 152 (dk_at dksX1_digest_9 3 rfl rfl)
theorem dX1_digest_217 : decode cX1_digest 217 = .ok (.iconst 5, 1) := dk_8 (dk_at dksX1_digest_9 6 rfl rfl)
theorem dX1_digest_218 : decode cX1_digest 218 = .ok (.iload_n 3, 1) := dk_29 (dk_at dksX1_digest_9 7 rfl rfl)
theorem dX1_digest_219 : decode cX1_digest 219 = .ok (.imul, 1) := dk_104 (dk_at dksX1_digest_9 8 rfl rfl)
theorem dX1_digest_220 : decode cX1_digest 220 = .ok (.iload 5, 2) := dk_21 5 (dk_at dksX1_digest_9 9 rfl rfl)
theorem dX1_digest_222 : decode cX1_digest 222 = .ok (.iadd, 1) := dk_96 (dk_at dksX1_digest_9 11 rfl rfl)
theorem dX1_digest_223 : decode cX1_digest 223 = .ok (.iaload, 1) := dk_46 (dk_at dksX1_digest_9 12 rfl rfl)
theorem dX1_digest_224 : decode cX1_digest 224 = .ok (.i2l, 1) := dk_133 (dk_at dksX1_digest_9 13 rfl rfl)
theorem dX1_digest_225 : decode cX1_digest 225 = .ok (.ladd, 1) := dk_97 (dk_at dksX1_digest_9 14 rfl rfl)
theorem dX1_digest_226 : decode cX1_digest 226 = .ok (.lstore_n 1, 1) := dk_64 (dk_at dksX1_digest_9 15 rfl rfl)
theorem dX1_digest_227 : decode cX1_digest 227 = .ok (.iinc 5 1, 3) := dk_132 5 1 (dk_at dksX1_digest_9 16 rfl rfl)
theorem dX1_digest_230 : decode cX1_digest 230 = .ok (.goto (-31), 3) := dk_167 255 225 (dk_at dksX1_digest_9 19 rfl rfl)
theorem dX1_digest_233 : decode cX1_digest 233 = .ok (.iinc 3 1, 3) := dk_132 3 1 (dk_at dksX1_digest_10 0 rfl rfl)
theorem dX1_digest_236 : decode cX1_digest 236 = .ok (.goto (-203), 3) := dk_167 255 53 (dk_at dksX1_digest_10 3 rfl rfl)
theorem dX1_digest_239 : decode cX1_digest 239 = .ok (.iconst 0, 1) := dk_3 (dk_at dksX1_digest_10 6 rfl rfl)
theorem dX1_digest_240 : decode cX1_digest 240 = .ok (.istore_n 3, 1) := dk_62 (dk_at dksX1_digest_10 7 rfl rfl)
theorem dX1_digest_241 : decode cX1_digest 241 = .ok (.iload_n 3, 1) := dk_29 (dk_at dksX1_digest_10 8 rfl rfl)
theorem dX1_digest_242 : decode cX1_digest 242 = .ok (.aload_n 0, 1) := dk_42 (dk_at dksX1_digest_10 9 rfl rfl)
theorem dX1_digest_243 : decode cX1_digest 243 = .ok (.getfield 43, 3) := dk_180 0 43 (dk_at dksX1_digest_10 10 rfl rfl)
theorem dX1_digest_246 : decode cX1_digest 246 = .ok (.invokevirtual 76, 3) := dk_182 0 76 (dk_at dksX1_digest_10 13 rfl rfl)
theorem dX1_digest_249 : decode cX1_digest 249 = .ok (.if_icmp .ge 40, 3) := dk_162 0 40 (dk_at dksX1_digest_10 16 rfl rfl)
theorem dX1_digest_252 : decode cX1_digest 252 = .ok (.iconst 0, 1) := dk_3 (dk_at dksX1_digest_10 19 rfl rfl)
theorem dX1_digest_253 : decode cX1_digest 253 = .ok (.istore 4, 2) := dk_54 4 (dk_at dksX1_digest_10 20 rfl rfl)
theorem dX1_digest_255 : decode cX1_digest 255 = .ok (.iload 4, 2) := dk_21 4 (dk_at dksX1_digest_10 22 rfl rfl)
theorem dX1_digest_257 : decode cX1_digest 257 = .ok (.bipush 6, 2) := dk_16 6 (dk_at dksX1_digest_11 0 rfl rfl)
theorem dX1_digest_259 : decode cX1_digest 259 = .ok (.if_icmp .ge 24, 3) := dk_162 0 24 (dk_at dksX1_digest_11 2 rfl rfl)
theorem dX1_digest_262 : decode cX1_digest 262 = .ok (.lload_n 1, 1) := dk_31 (dk_at dksX1_digest_11 5 rfl rfl)
theorem dX1_digest_263 : decode cX1_digest 263 = .ok (.ldc2_w 234, 3) := dk_20 0 234 (dk_at dksX1_digest_11 6 rfl rfl)
theorem dX1_digest_266 : decode cX1_digest 266 = .ok (.lmul, 1) := dk_105 (dk_at dksX1_digest_11 9 rfl rfl)
theorem dX1_digest_267 : decode cX1_digest 267 = .ok (.aload_n 0, 1) := dk_42 (dk_at dksX1_digest_11 10 rfl rfl)
theorem dX1_digest_268 : decode cX1_digest 268 = .ok (.iload_n 3, 1) := dk_29 (dk_at dksX1_digest_11 11 rfl rfl)
theorem dX1_digest_269 : decode cX1_digest 269 = .ok (.iload 4, 2) := dk_21 4 (dk_at dksX1_digest_11 12 rfl rfl)
theorem dX1_digest_271 : decode cX1_digest 271 = .ok (.invokevirtual 185, 3) := dk_182 0 185 (dk_at dksX1_digest_11 14 rfl rfl)
theorem dX1_digest_274 : decode cX1_digest 274 = .ok (.i2l, 1) := dk_133 (dk_at dksX1_digest_11 17 rfl rfl)
theorem dX1_digest_275 : decode cX1_digest 275 = .ok (.ladd, 1) := dk_97 (dk_at dksX1_digest_11 18 rfl rfl)
theorem dX1_digest_276 : decode cX1_digest 276 = .ok (.lstore_n 1, 1) := dk_64 (dk_at dksX1_digest_11 19 rfl rfl)
theorem dX1_digest_277 : decode cX1_digest 277 = .ok (.iinc 4 1, 3) := dk_132 4 1 (dk_at dksX1_digest_11 20 rfl rfl)
theorem dX1_digest_280 : decode cX1_digest 280 = .ok (.goto (-25), 3) := dk_167 255 231 (dk_at dksX1_digest_12 0 rfl rfl)
theorem dX1_digest_283 : decode cX1_digest 283 = .ok (.iinc 3 1, 3) := dk_132 3 1 (dk_at dksX1_digest_12 3 rfl rfl)
theorem dX1_digest_286 : decode cX1_digest 286 = .ok (.goto (-45), 3) := dk_167 255 211 (dk_at dksX1_digest_12 6 rfl rfl)
theorem dX1_digest_289 : decode cX1_digest 289 = .ok (.iconst 0, 1) := dk_3 (dk_at dksX1_digest_12 9 rfl rfl)
theorem dX1_digest_290 : decode cX1_digest 290 = .ok (.istore_n 3, 1) := dk_62 (dk_at dksX1_digest_12 10 rfl rfl)
theorem dX1_digest_291 : decode cX1_digest 291 = .ok (.iload_n 3, 1) := dk_29 (dk_at dksX1_digest_12 11 rfl rfl)
theorem dX1_digest_292 : decode cX1_digest 292 = .ok (.aload_n 0, 1) := dk_42 (dk_at dksX1_digest_12 12 rfl rfl)
theorem dX1_digest_293 : decode cX1_digest 293 = .ok (.getfield 51, 3) := dk_180 0 51 (dk_at dksX1_digest_12 13 rfl rfl)
theorem dX1_digest_296 : decode cX1_digest 296 = .ok (.getfield 197, 3) := dk_180 0 197 (dk_at dksX1_digest_12 16 rfl rfl)
theorem dX1_digest_299 : decode cX1_digest 299 = .ok (.if_icmp .ge 26, 3) := dk_162 0 26 (dk_at dksX1_digest_12 19 rfl rfl)
theorem dX1_digest_302 : decode cX1_digest 302 = .ok (.lload_n 1, 1) := dk_31 (dk_at dksX1_digest_12 22 rfl rfl)
theorem dX1_digest_303 : decode cX1_digest 303 = .ok (.ldc2_w 234, 3) := dk_20 0 234 (dk_at dksX1_digest_13 0 rfl rfl)
theorem dX1_digest_306 : decode cX1_digest 306 = .ok (.lmul, 1) := dk_105 (dk_at dksX1_digest_13 3 rfl rfl)
theorem dX1_digest_307 : decode cX1_digest 307 = .ok (.aload_n 0, 1) := dk_42 (dk_at dksX1_digest_13 4 rfl rfl)
theorem dX1_digest_308 : decode cX1_digest 308 = .ok (.getfield 51, 3) := dk_180 0 51 (dk_at dksX1_digest_13 5 rfl rfl)
theorem dX1_digest_311 : decode cX1_digest 311 = .ok (.getfield 200, 3) := dk_180 0 200 (dk_at dksX1_digest_13 8 rfl rfl)
theorem dX1_digest_314 : decode cX1_digest 314 = .ok (.iload_n 3, 1) := dk_29 (dk_at dksX1_digest_13 11 rfl rfl)
theorem dX1_digest_315 : decode cX1_digest 315 = .ok (.iaload, 1) := dk_46 (dk_at dksX1_digest_13 12 rfl rfl)
theorem dX1_digest_316 : decode cX1_digest 316 = .ok (.i2l, 1) := dk_133 (dk_at dksX1_digest_13 13 rfl rfl)
theorem dX1_digest_317 : decode cX1_digest 317 = .ok (.ladd, 1) := dk_97 (dk_at dksX1_digest_13 14 rfl rfl)
theorem dX1_digest_318 : decode cX1_digest 318 = .ok (.lstore_n 1, 1) := dk_64 (dk_at dksX1_digest_13 15 rfl rfl)
theorem dX1_digest_319 : decode cX1_digest 319 = .ok (.iinc 3 1, 3) := dk_132 3 1 (dk_at dksX1_digest_13 16 rfl rfl)
theorem dX1_digest_322 : decode cX1_digest 322 = .ok (.goto (-31), 3) := dk_167 255 225 (dk_at dksX1_digest_13 19 rfl rfl)
theorem dX1_digest_325 : decode cX1_digest 325 = .ok (.lload_n 1, 1) := dk_31 (dk_at dksX1_digest_13 22 rfl rfl)
theorem dX1_digest_326 : decode cX1_digest 326 = .ok (.lreturn, 1) := dk_173 (dk_at dksX1_digest_13 23 rfl rfl)
abbrev cX1_counted : ByteArray := prog_1_method_29_code
def yX1_counted : MethodName := ⟨RX1, "counted", "(I)I"⟩
def dkwX1_counted_6 : List UInt8 := [182, 0, 76, 104, 182, 0, 215, 172, 42, 180, 0, 51, 180, 0, 197, 172, 42, 180, 0, 51, 180, 0, 222, 172]
abbrev dktX1_counted_6 : List UInt8 := dkwX1_counted_6 ++ []
def dkwX1_counted_5 : List UInt8 := [180, 0, 51, 182, 0, 219, 172, 42, 180, 0, 51, 42, 180, 0, 51, 180, 0, 152, 8, 42, 180, 0, 39]
abbrev dktX1_counted_5 : List UInt8 := dkwX1_counted_5 ++ dktX1_counted_6
def dkwX1_counted_4 : List UInt8 := [172, 42, 180, 0, 51, 42, 180, 0, 51, 180, 0, 159, 42, 180, 0, 43, 182, 0, 76, 182, 0, 215, 172, 42]
abbrev dktX1_counted_4 : List UInt8 := dkwX1_counted_4 ++ dktX1_counted_5
def dkwX1_counted_3 : List UInt8 := [42, 180, 0, 43, 182, 0, 76, 172, 42, 180, 0, 43, 182, 0, 76, 42, 180, 0, 51, 2, 182, 0, 125, 100]
abbrev dktX1_counted_3 : List UInt8 := dkwX1_counted_3 ++ dktX1_counted_4
def dkwX1_counted_2 : List UInt8 := [42, 180, 0, 51, 180, 0, 209, 172, 42, 180, 0, 39, 182, 0, 76, 172, 42, 180, 0, 51, 182, 0, 212, 172]
abbrev dktX1_counted_2 : List UInt8 := dkwX1_counted_2 ++ dktX1_counted_3
def dkwX1_counted_1 : List UInt8 := [170, 0, 0, 0, 0, 0, 162, 0, 0, 0, 0, 0, 0, 0, 8, 0, 0, 0, 51, 0, 0, 0, 59, 0, 0, 0, 67, 0, 0, 0, 75, 0, 0, 0, 83, 0, 0, 0, 100, 0, 0, 0, 122, 0, 0, 0, 130, 0, 0, 0, 154]
abbrev dktX1_counted_1 : List UInt8 := dkwX1_counted_1 ++ dktX1_counted_2
def dkwX1_counted_0 : List UInt8 := [27]
abbrev dktX1_counted_0 : List UInt8 := dkwX1_counted_0 ++ dktX1_counted_1
theorem dksX1_counted_0 : cX1_counted.data.toList.drop 0 = dktX1_counted_0 := by decide +kernel
theorem dksX1_counted_1 : cX1_counted.data.toList.drop 1 = dktX1_counted_1 := dk_seg dksX1_counted_0 1 rfl rfl
theorem dksX1_counted_2 : cX1_counted.data.toList.drop 52 = dktX1_counted_2 := dk_seg dksX1_counted_1 51 rfl rfl
theorem dksX1_counted_3 : cX1_counted.data.toList.drop 76 = dktX1_counted_3 := dk_seg dksX1_counted_2 24 rfl rfl
theorem dksX1_counted_4 : cX1_counted.data.toList.drop 100 = dktX1_counted_4 := dk_seg dksX1_counted_3 24 rfl rfl
theorem dksX1_counted_5 : cX1_counted.data.toList.drop 124 = dktX1_counted_5 := dk_seg dksX1_counted_4 24 rfl rfl
theorem dksX1_counted_6 : cX1_counted.data.toList.drop 147 = dktX1_counted_6 := dk_seg dksX1_counted_5 23 rfl rfl
theorem dX1_counted_0 : decode cX1_counted 0 = .ok (.iload_n 1, 1) := dk_27 (dk_at dksX1_counted_0 0 rfl rfl)
theorem dX1_counted_1 : decode cX1_counted 1 = .ok (.tableswitch 162 0 8 #[51, 59, 67, 75, 83, 100, 122, 130, 154], 51) := by decide +kernel
theorem dX1_counted_52 : decode cX1_counted 52 = .ok (.aload_n 0, 1) := dk_42 (dk_at dksX1_counted_2 0 rfl rfl)
theorem dX1_counted_53 : decode cX1_counted 53 = .ok (.getfield 51, 3) := dk_180 0 51 (dk_at dksX1_counted_2 1 rfl rfl)
theorem dX1_counted_56 : decode cX1_counted 56 = .ok (.getfield 209, 3) := dk_180 0 209 (dk_at dksX1_counted_2 4 rfl rfl)
theorem dX1_counted_59 : decode cX1_counted 59 = .ok (.ireturn, 1) := dk_172 (dk_at dksX1_counted_2 7 rfl rfl)
theorem dX1_counted_60 : decode cX1_counted 60 = .ok (.aload_n 0, 1) := dk_42 (dk_at dksX1_counted_2 8 rfl rfl)
theorem dX1_counted_61 : decode cX1_counted 61 = .ok (.getfield 39, 3) := dk_180 0 39 (dk_at dksX1_counted_2 9 rfl rfl)
theorem dX1_counted_64 : decode cX1_counted 64 = .ok (.invokevirtual 76, 3) := dk_182 0 76 (dk_at dksX1_counted_2 12 rfl rfl)
theorem dX1_counted_67 : decode cX1_counted 67 = .ok (.ireturn, 1) := dk_172 (dk_at dksX1_counted_2 15 rfl rfl)
theorem dX1_counted_68 : decode cX1_counted 68 = .ok (.aload_n 0, 1) := dk_42 (dk_at dksX1_counted_2 16 rfl rfl)
theorem dX1_counted_69 : decode cX1_counted 69 = .ok (.getfield 51, 3) := dk_180 0 51 (dk_at dksX1_counted_2 17 rfl rfl)
theorem dX1_counted_72 : decode cX1_counted 72 = .ok (.invokevirtual 212, 3) := dk_182 0 212 (dk_at dksX1_counted_2 20 rfl rfl)
theorem dX1_counted_75 : decode cX1_counted 75 = .ok (.ireturn, 1) := dk_172 (dk_at dksX1_counted_2 23 rfl rfl)
theorem dX1_counted_76 : decode cX1_counted 76 = .ok (.aload_n 0, 1) := dk_42 (dk_at dksX1_counted_3 0 rfl rfl)
theorem dX1_counted_77 : decode cX1_counted 77 = .ok (.getfield 43, 3) := dk_180 0 43 (dk_at dksX1_counted_3 1 rfl rfl)
theorem dX1_counted_80 : decode cX1_counted 80 = .ok (.invokevirtual 76, 3) := dk_182 0 76 (dk_at dksX1_counted_3 4 rfl rfl)
theorem dX1_counted_83 : decode cX1_counted 83 = .ok (.ireturn, 1) := dk_172 (dk_at dksX1_counted_3 7 rfl rfl)
theorem dX1_counted_84 : decode cX1_counted 84 = .ok (.aload_n 0, 1) := dk_42 (dk_at dksX1_counted_3 8 rfl rfl)
theorem dX1_counted_85 : decode cX1_counted 85 = .ok (.getfield 43, 3) := dk_180 0 43 (dk_at dksX1_counted_3 9 rfl rfl)
theorem dX1_counted_88 : decode cX1_counted 88 = .ok (.invokevirtual 76, 3) := dk_182 0 76 (dk_at dksX1_counted_3 12 rfl rfl)
theorem dX1_counted_91 : decode cX1_counted 91 = .ok (.aload_n 0, 1) := dk_42 (dk_at dksX1_counted_3 15 rfl rfl)
theorem dX1_counted_92 : decode cX1_counted 92 = .ok (.getfield 51, 3) := dk_180 0 51 (dk_at dksX1_counted_3 16 rfl rfl)
theorem dX1_counted_95 : decode cX1_counted 95 = .ok (.iconst (-1), 1) := dk_2 (dk_at dksX1_counted_3 19 rfl rfl)
theorem dX1_counted_96 : decode cX1_counted 96 = .ok (.invokevirtual 125, 3) := dk_182 0 125 (dk_at dksX1_counted_3 20 rfl rfl)
theorem dX1_counted_99 : decode cX1_counted 99 = .ok (.isub, 1) := dk_100 (dk_at dksX1_counted_3 23 rfl rfl)
theorem dX1_counted_100 : decode cX1_counted 100 = .ok (.ireturn, 1) := dk_172 (dk_at dksX1_counted_4 0 rfl rfl)
theorem dX1_counted_101 : decode cX1_counted 101 = .ok (.aload_n 0, 1) := dk_42 (dk_at dksX1_counted_4 1 rfl rfl)
theorem dX1_counted_102 : decode cX1_counted 102 = .ok (.getfield 51, 3) := dk_180 0 51 (dk_at dksX1_counted_4 2 rfl rfl)
theorem dX1_counted_105 : decode cX1_counted 105 = .ok (.aload_n 0, 1) := dk_42 (dk_at dksX1_counted_4 5 rfl rfl)
theorem dX1_counted_106 : decode cX1_counted 106 = .ok (.getfield 51, 3) := dk_180 0 51 (dk_at dksX1_counted_4 6 rfl rfl)
theorem dX1_counted_109 : decode cX1_counted 109 = .ok (.getfield 159, 3) := dk_180 0 159 (dk_at dksX1_counted_4 9 rfl rfl)
theorem dX1_counted_112 : decode cX1_counted 112 = .ok (.aload_n 0, 1) := dk_42 (dk_at dksX1_counted_4 12 rfl rfl)
theorem dX1_counted_113 : decode cX1_counted 113 = .ok (.getfield 43, 3) := dk_180 0 43 (dk_at dksX1_counted_4 13 rfl rfl)
theorem dX1_counted_116 : decode cX1_counted 116 = .ok (.invokevirtual 76, 3) := dk_182 0 76 (dk_at dksX1_counted_4 16 rfl rfl)
theorem dX1_counted_119 : decode cX1_counted 119 = .ok (.invokevirtual 215, 3) := dk_182 0 215 (dk_at dksX1_counted_4 19 rfl rfl)
theorem dX1_counted_122 : decode cX1_counted 122 = .ok (.ireturn, 1) := dk_172 (dk_at dksX1_counted_4 22 rfl rfl)
theorem dX1_counted_123 : decode cX1_counted 123 = .ok (.aload_n 0, 1) := dk_42 (dk_at dksX1_counted_4 23 rfl rfl)
theorem dX1_counted_124 : decode cX1_counted 124 = .ok (.getfield 51, 3) := dk_180 0 51 (dk_at dksX1_counted_5 0 rfl rfl)
theorem dX1_counted_127 : decode cX1_counted 127 = .ok (.invokevirtual 219, 3) := dk_182 0 219 (dk_at dksX1_counted_5 3 rfl rfl)
theorem dX1_counted_130 : decode cX1_counted 130 = .ok (.ireturn, 1) := dk_172 (dk_at dksX1_counted_5 6 rfl rfl)
theorem dX1_counted_131 : decode cX1_counted 131 = .ok (.aload_n 0, 1) := dk_42 (dk_at dksX1_counted_5 7 rfl rfl)
theorem dX1_counted_132 : decode cX1_counted 132 = .ok (.getfield 51, 3) := dk_180 0 51 (dk_at dksX1_counted_5 8 rfl rfl)
theorem dX1_counted_135 : decode cX1_counted 135 = .ok (.aload_n 0, 1) := dk_42 (dk_at dksX1_counted_5 11 rfl rfl)
theorem dX1_counted_136 : decode cX1_counted 136 = .ok (.getfield 51, 3) := dk_180 0 51 (dk_at dksX1_counted_5 12 rfl rfl)
theorem dX1_counted_139 : decode cX1_counted 139 = .ok (.getfield 152, 3) := dk_180 0 152 (dk_at dksX1_counted_5 15 rfl rfl)
theorem dX1_counted_142 : decode cX1_counted 142 = .ok (.iconst 5, 1) := dk_8 (dk_at dksX1_counted_5 18 rfl rfl)
theorem dX1_counted_143 : decode cX1_counted 143 = .ok (.aload_n 0, 1) := dk_42 (dk_at dksX1_counted_5 19 rfl rfl)
theorem dX1_counted_144 : decode cX1_counted 144 = .ok (.getfield 39, 3) := dk_180 0 39 (dk_at dksX1_counted_5 20 rfl rfl)
theorem dX1_counted_147 : decode cX1_counted 147 = .ok (.invokevirtual 76, 3) := dk_182 0 76 (dk_at dksX1_counted_6 0 rfl rfl)
theorem dX1_counted_150 : decode cX1_counted 150 = .ok (.imul, 1) := dk_104 (dk_at dksX1_counted_6 3 rfl rfl)
theorem dX1_counted_151 : decode cX1_counted 151 = .ok (.invokevirtual 215, 3) := dk_182 0 215 (dk_at dksX1_counted_6 4 rfl rfl)
theorem dX1_counted_154 : decode cX1_counted 154 = .ok (.ireturn, 1) := dk_172 (dk_at dksX1_counted_6 7 rfl rfl)
theorem dX1_counted_155 : decode cX1_counted 155 = .ok (.aload_n 0, 1) := dk_42 (dk_at dksX1_counted_6 8 rfl rfl)
theorem dX1_counted_156 : decode cX1_counted 156 = .ok (.getfield 51, 3) := dk_180 0 51 (dk_at dksX1_counted_6 9 rfl rfl)
theorem dX1_counted_159 : decode cX1_counted 159 = .ok (.getfield 197, 3) := dk_180 0 197 (dk_at dksX1_counted_6 12 rfl rfl)
theorem dX1_counted_162 : decode cX1_counted 162 = .ok (.ireturn, 1) := dk_172 (dk_at dksX1_counted_6 15 rfl rfl)
theorem dX1_counted_163 : decode cX1_counted 163 = .ok (.aload_n 0, 1) := dk_42 (dk_at dksX1_counted_6 16 rfl rfl)
theorem dX1_counted_164 : decode cX1_counted 164 = .ok (.getfield 51, 3) := dk_180 0 51 (dk_at dksX1_counted_6 17 rfl rfl)
theorem dX1_counted_167 : decode cX1_counted 167 = .ok (.getfield 222, 3) := dk_180 0 222 (dk_at dksX1_counted_6 20 rfl rfl)
theorem dX1_counted_170 : decode cX1_counted 170 = .ok (.ireturn, 1) := dk_172 (dk_at dksX1_counted_6 23 rfl rfl)
abbrev cX1_machineTold : ByteArray := prog_1_method_13_code
def yX1_machineTold : MethodName := ⟨RX1, "machineTold", "(II)I"⟩
def dkwX1_machineTold_5 : List UInt8 := [182, 0, 134, 172]
abbrev dktX1_machineTold_5 : List UInt8 := dkwX1_machineTold_5 ++ []
def dkwX1_machineTold_4 : List UInt8 := [180, 0, 51, 180, 0, 128, 27, 46, 172, 42, 180, 0, 51, 180, 0, 131, 27, 46, 172, 42, 180, 0, 51, 27]
abbrev dktX1_machineTold_4 : List UInt8 := dkwX1_machineTold_4 ++ dktX1_machineTold_5
def dkwX1_machineTold_3 : List UInt8 := [180, 0, 121, 27, 51, 153, 0, 7, 4, 167, 0, 4, 3, 172, 42, 180, 0, 51, 27, 182, 0, 125, 172, 42]
abbrev dktX1_machineTold_3 : List UInt8 := dkwX1_machineTold_3 ++ dktX1_machineTold_4
def dkwX1_machineTold_2 : List UInt8 := [42, 180, 0, 51, 180, 0, 58, 27, 46, 172, 42, 180, 0, 51, 180, 0, 118, 27, 46, 172, 42, 180, 0, 51]
abbrev dktX1_machineTold_2 : List UInt8 := dkwX1_machineTold_2 ++ dktX1_machineTold_3
def dkwX1_machineTold_1 : List UInt8 := [170, 0, 0, 0, 0, 105, 0, 0, 0, 4, 0, 0, 0, 9, 0, 0, 0, 38, 0, 0, 0, 48, 0, 0, 0, 58, 0, 0, 0, 76, 0, 0, 0, 85, 0, 0, 0, 95]
abbrev dktX1_machineTold_1 : List UInt8 := dkwX1_machineTold_1 ++ dktX1_machineTold_2
def dkwX1_machineTold_0 : List UInt8 := [28, 7, 162, 0, 19, 42, 180, 0, 39, 27, 182, 0, 113, 192, 0, 63, 28, 182, 0, 114, 172, 28]
abbrev dktX1_machineTold_0 : List UInt8 := dkwX1_machineTold_0 ++ dktX1_machineTold_1
theorem dksX1_machineTold_0 : cX1_machineTold.data.toList.drop 0 = dktX1_machineTold_0 := by decide +kernel
theorem dksX1_machineTold_1 : cX1_machineTold.data.toList.drop 22 = dktX1_machineTold_1 := dk_seg dksX1_machineTold_0 22 rfl rfl
theorem dksX1_machineTold_2 : cX1_machineTold.data.toList.drop 60 = dktX1_machineTold_2 := dk_seg dksX1_machineTold_1 38 rfl rfl
theorem dksX1_machineTold_3 : cX1_machineTold.data.toList.drop 84 = dktX1_machineTold_3 := dk_seg dksX1_machineTold_2 24 rfl rfl
theorem dksX1_machineTold_4 : cX1_machineTold.data.toList.drop 108 = dktX1_machineTold_4 := dk_seg dksX1_machineTold_3 24 rfl rfl
theorem dksX1_machineTold_5 : cX1_machineTold.data.toList.drop 132 = dktX1_machineTold_5 := dk_seg dksX1_machineTold_4 24 rfl rfl
theorem dX1_machineTold_0 : decode cX1_machineTold 0 = .ok (.iload_n 2, 1) := dk_28 (dk_at dksX1_machineTold_0 0 rfl rfl)
theorem dX1_machineTold_1 : decode cX1_machineTold 1 = .ok (.iconst 4, 1) := dk_7 (dk_at dksX1_machineTold_0 1 rfl rfl)
theorem dX1_machineTold_2 : decode cX1_machineTold 2 = .ok (.if_icmp .ge 19, 3) := dk_162 0 19 (dk_at dksX1_machineTold_0 2 rfl rfl)
theorem dX1_machineTold_5 : decode cX1_machineTold 5 = .ok (.aload_n 0, 1) := dk_42 (dk_at dksX1_machineTold_0 5 rfl rfl)
theorem dX1_machineTold_6 : decode cX1_machineTold 6 = .ok (.getfield 39, 3) := dk_180 0 39 (dk_at dksX1_machineTold_0 6 rfl rfl)
theorem dX1_machineTold_9 : decode cX1_machineTold 9 = .ok (.iload_n 1, 1) := dk_27 (dk_at dksX1_machineTold_0 9 rfl rfl)
theorem dX1_machineTold_10 : decode cX1_machineTold 10 = .ok (.invokevirtual 113, 3) := dk_182 0 113 (dk_at dksX1_machineTold_0 10 rfl rfl)
theorem dX1_machineTold_13 : decode cX1_machineTold 13 = .ok (.checkcast 63, 3) := dk_192 0 63 (dk_at dksX1_machineTold_0 13 rfl rfl)
theorem dX1_machineTold_16 : decode cX1_machineTold 16 = .ok (.iload_n 2, 1) := dk_28 (dk_at dksX1_machineTold_0 16 rfl rfl)
theorem dX1_machineTold_17 : decode cX1_machineTold 17 = .ok (.invokevirtual 114, 3) := dk_182 0 114 (dk_at dksX1_machineTold_0 17 rfl rfl)
theorem dX1_machineTold_20 : decode cX1_machineTold 20 = .ok (.ireturn, 1) := dk_172 (dk_at dksX1_machineTold_0 20 rfl rfl)
theorem dX1_machineTold_21 : decode cX1_machineTold 21 = .ok (.iload_n 2, 1) := dk_28 (dk_at dksX1_machineTold_0 21 rfl rfl)
theorem dX1_machineTold_22 : decode cX1_machineTold 22 = .ok (.tableswitch 105 4 9 #[38, 48, 58, 76, 85, 95], 38) := by decide +kernel
theorem dX1_machineTold_60 : decode cX1_machineTold 60 = .ok (.aload_n 0, 1) := dk_42 (dk_at dksX1_machineTold_2 0 rfl rfl)
theorem dX1_machineTold_61 : decode cX1_machineTold 61 = .ok (.getfield 51, 3) := dk_180 0 51 (dk_at dksX1_machineTold_2 1 rfl rfl)
theorem dX1_machineTold_64 : decode cX1_machineTold 64 = .ok (.getfield 58, 3) := dk_180 0 58 (dk_at dksX1_machineTold_2 4 rfl rfl)
theorem dX1_machineTold_67 : decode cX1_machineTold 67 = .ok (.iload_n 1, 1) := dk_27 (dk_at dksX1_machineTold_2 7 rfl rfl)
theorem dX1_machineTold_68 : decode cX1_machineTold 68 = .ok (.iaload, 1) := dk_46 (dk_at dksX1_machineTold_2 8 rfl rfl)
theorem dX1_machineTold_69 : decode cX1_machineTold 69 = .ok (.ireturn, 1) := dk_172 (dk_at dksX1_machineTold_2 9 rfl rfl)
theorem dX1_machineTold_70 : decode cX1_machineTold 70 = .ok (.aload_n 0, 1) := dk_42 (dk_at dksX1_machineTold_2 10 rfl rfl)
theorem dX1_machineTold_71 : decode cX1_machineTold 71 = .ok (.getfield 51, 3) := dk_180 0 51 (dk_at dksX1_machineTold_2 11 rfl rfl)
theorem dX1_machineTold_74 : decode cX1_machineTold 74 = .ok (.getfield 118, 3) := dk_180 0 118 (dk_at dksX1_machineTold_2 14 rfl rfl)
theorem dX1_machineTold_77 : decode cX1_machineTold 77 = .ok (.iload_n 1, 1) := dk_27 (dk_at dksX1_machineTold_2 17 rfl rfl)
theorem dX1_machineTold_78 : decode cX1_machineTold 78 = .ok (.iaload, 1) := dk_46 (dk_at dksX1_machineTold_2 18 rfl rfl)
theorem dX1_machineTold_79 : decode cX1_machineTold 79 = .ok (.ireturn, 1) := dk_172 (dk_at dksX1_machineTold_2 19 rfl rfl)
theorem dX1_machineTold_80 : decode cX1_machineTold 80 = .ok (.aload_n 0, 1) := dk_42 (dk_at dksX1_machineTold_2 20 rfl rfl)
theorem dX1_machineTold_81 : decode cX1_machineTold 81 = .ok (.getfield 51, 3) := dk_180 0 51 (dk_at dksX1_machineTold_2 21 rfl rfl)
theorem dX1_machineTold_84 : decode cX1_machineTold 84 = .ok (.getfield 121, 3) := dk_180 0 121 (dk_at dksX1_machineTold_3 0 rfl rfl)
theorem dX1_machineTold_87 : decode cX1_machineTold 87 = .ok (.iload_n 1, 1) := dk_27 (dk_at dksX1_machineTold_3 3 rfl rfl)
theorem dX1_machineTold_88 : decode cX1_machineTold 88 = .ok (.baload, 1) := dk_51 (dk_at dksX1_machineTold_3 4 rfl rfl)
theorem dX1_machineTold_89 : decode cX1_machineTold 89 = .ok (.ifCond .eq 7, 3) := dk_153 0 7 (dk_at dksX1_machineTold_3 5 rfl rfl)
theorem dX1_machineTold_92 : decode cX1_machineTold 92 = .ok (.iconst 1, 1) := dk_4 (dk_at dksX1_machineTold_3 8 rfl rfl)
theorem dX1_machineTold_93 : decode cX1_machineTold 93 = .ok (.goto 4, 3) := dk_167 0 4 (dk_at dksX1_machineTold_3 9 rfl rfl)
theorem dX1_machineTold_96 : decode cX1_machineTold 96 = .ok (.iconst 0, 1) := dk_3 (dk_at dksX1_machineTold_3 12 rfl rfl)
theorem dX1_machineTold_97 : decode cX1_machineTold 97 = .ok (.ireturn, 1) := dk_172 (dk_at dksX1_machineTold_3 13 rfl rfl)
theorem dX1_machineTold_98 : decode cX1_machineTold 98 = .ok (.aload_n 0, 1) := dk_42 (dk_at dksX1_machineTold_3 14 rfl rfl)
theorem dX1_machineTold_99 : decode cX1_machineTold 99 = .ok (.getfield 51, 3) := dk_180 0 51 (dk_at dksX1_machineTold_3 15 rfl rfl)
theorem dX1_machineTold_102 : decode cX1_machineTold 102 = .ok (.iload_n 1, 1) := dk_27 (dk_at dksX1_machineTold_3 18 rfl rfl)
theorem dX1_machineTold_103 : decode cX1_machineTold 103 = .ok (.invokevirtual 125, 3) := dk_182 0 125 (dk_at dksX1_machineTold_3 19 rfl rfl)
theorem dX1_machineTold_106 : decode cX1_machineTold 106 = .ok (.ireturn, 1) := dk_172 (dk_at dksX1_machineTold_3 22 rfl rfl)
theorem dX1_machineTold_107 : decode cX1_machineTold 107 = .ok (.aload_n 0, 1) := dk_42 (dk_at dksX1_machineTold_3 23 rfl rfl)
theorem dX1_machineTold_108 : decode cX1_machineTold 108 = .ok (.getfield 51, 3) := dk_180 0 51 (dk_at dksX1_machineTold_4 0 rfl rfl)
theorem dX1_machineTold_111 : decode cX1_machineTold 111 = .ok (.getfield 128, 3) := dk_180 0 128 (dk_at dksX1_machineTold_4 3 rfl rfl)
theorem dX1_machineTold_114 : decode cX1_machineTold 114 = .ok (.iload_n 1, 1) := dk_27 (dk_at dksX1_machineTold_4 6 rfl rfl)
theorem dX1_machineTold_115 : decode cX1_machineTold 115 = .ok (.iaload, 1) := dk_46 (dk_at dksX1_machineTold_4 7 rfl rfl)
theorem dX1_machineTold_116 : decode cX1_machineTold 116 = .ok (.ireturn, 1) := dk_172 (dk_at dksX1_machineTold_4 8 rfl rfl)
theorem dX1_machineTold_117 : decode cX1_machineTold 117 = .ok (.aload_n 0, 1) := dk_42 (dk_at dksX1_machineTold_4 9 rfl rfl)
theorem dX1_machineTold_118 : decode cX1_machineTold 118 = .ok (.getfield 51, 3) := dk_180 0 51 (dk_at dksX1_machineTold_4 10 rfl rfl)
theorem dX1_machineTold_121 : decode cX1_machineTold 121 = .ok (.getfield 131, 3) := dk_180 0 131 (dk_at dksX1_machineTold_4 13 rfl rfl)
theorem dX1_machineTold_124 : decode cX1_machineTold 124 = .ok (.iload_n 1, 1) := dk_27 (dk_at dksX1_machineTold_4 16 rfl rfl)
theorem dX1_machineTold_125 : decode cX1_machineTold 125 = .ok (.iaload, 1) := dk_46 (dk_at dksX1_machineTold_4 17 rfl rfl)
theorem dX1_machineTold_126 : decode cX1_machineTold 126 = .ok (.ireturn, 1) := dk_172 (dk_at dksX1_machineTold_4 18 rfl rfl)
theorem dX1_machineTold_127 : decode cX1_machineTold 127 = .ok (.aload_n 0, 1) := dk_42 (dk_at dksX1_machineTold_4 19 rfl rfl)
theorem dX1_machineTold_128 : decode cX1_machineTold 128 = .ok (.getfield 51, 3) := dk_180 0 51 (dk_at dksX1_machineTold_4 20 rfl rfl)
theorem dX1_machineTold_131 : decode cX1_machineTold 131 = .ok (.iload_n 1, 1) := dk_27 (dk_at dksX1_machineTold_4 23 rfl rfl)
theorem dX1_machineTold_132 : decode cX1_machineTold 132 = .ok (.invokevirtual 134, 3) := dk_182 0 134 (dk_at dksX1_machineTold_5 0 rfl rfl)
theorem dX1_machineTold_135 : decode cX1_machineTold 135 = .ok (.ireturn, 1) := dk_172 (dk_at dksX1_machineTold_5 3 rfl rfl)
abbrev cX1_playerTold : ByteArray := prog_1_method_22_code
def yX1_playerTold : MethodName := ⟨RX1, "playerTold", "(II)I"⟩
def dkwX1_playerTold_4 : List UInt8 := [180, 0, 51, 180, 0, 179, 27, 46, 172, 42, 180, 0, 51, 180, 0, 182, 27, 46, 172]
abbrev dktX1_playerTold_4 : List UInt8 := dkwX1_playerTold_4 ++ []
def dkwX1_playerTold_3 : List UInt8 := [172, 42, 180, 0, 51, 180, 0, 162, 27, 46, 172, 42, 180, 0, 51, 180, 0, 176, 27, 46, 172, 42]
abbrev dktX1_playerTold_3 : List UInt8 := dkwX1_playerTold_3 ++ dktX1_playerTold_4
def dkwX1_playerTold_2 : List UInt8 := [42, 180, 0, 51, 180, 0, 159, 27, 46, 172, 42, 180, 0, 43, 27, 182, 0, 113, 192, 0, 155, 180, 0, 173]
abbrev dktX1_playerTold_2 : List UInt8 := dkwX1_playerTold_2 ++ dktX1_playerTold_3
def dkwX1_playerTold_1 : List UInt8 := [170, 0, 0, 0, 0, 0, 90, 0, 0, 0, 0, 0, 0, 0, 4, 0, 0, 0, 35, 0, 0, 0, 45, 0, 0, 0, 60, 0, 0, 0, 70, 0, 0, 0, 80]
abbrev dktX1_playerTold_1 : List UInt8 := dkwX1_playerTold_1 ++ dktX1_playerTold_2
def dkwX1_playerTold_0 : List UInt8 := [28]
abbrev dktX1_playerTold_0 : List UInt8 := dkwX1_playerTold_0 ++ dktX1_playerTold_1
theorem dksX1_playerTold_0 : cX1_playerTold.data.toList.drop 0 = dktX1_playerTold_0 := by decide +kernel
theorem dksX1_playerTold_1 : cX1_playerTold.data.toList.drop 1 = dktX1_playerTold_1 := dk_seg dksX1_playerTold_0 1 rfl rfl
theorem dksX1_playerTold_2 : cX1_playerTold.data.toList.drop 36 = dktX1_playerTold_2 := dk_seg dksX1_playerTold_1 35 rfl rfl
theorem dksX1_playerTold_3 : cX1_playerTold.data.toList.drop 60 = dktX1_playerTold_3 := dk_seg dksX1_playerTold_2 24 rfl rfl
theorem dksX1_playerTold_4 : cX1_playerTold.data.toList.drop 82 = dktX1_playerTold_4 := dk_seg dksX1_playerTold_3 22 rfl rfl
theorem dX1_playerTold_0 : decode cX1_playerTold 0 = .ok (.iload_n 2, 1) := dk_28 (dk_at dksX1_playerTold_0 0 rfl rfl)
theorem dX1_playerTold_1 : decode cX1_playerTold 1 = .ok (.tableswitch 90 0 4 #[35, 45, 60, 70, 80], 35) := by decide +kernel
theorem dX1_playerTold_36 : decode cX1_playerTold 36 = .ok (.aload_n 0, 1) := dk_42 (dk_at dksX1_playerTold_2 0 rfl rfl)
theorem dX1_playerTold_37 : decode cX1_playerTold 37 = .ok (.getfield 51, 3) := dk_180 0 51 (dk_at dksX1_playerTold_2 1 rfl rfl)
theorem dX1_playerTold_40 : decode cX1_playerTold 40 = .ok (.getfield 159, 3) := dk_180 0 159 (dk_at dksX1_playerTold_2 4 rfl rfl)
theorem dX1_playerTold_43 : decode cX1_playerTold 43 = .ok (.iload_n 1, 1) := dk_27 (dk_at dksX1_playerTold_2 7 rfl rfl)
theorem dX1_playerTold_44 : decode cX1_playerTold 44 = .ok (.iaload, 1) := dk_46 (dk_at dksX1_playerTold_2 8 rfl rfl)
theorem dX1_playerTold_45 : decode cX1_playerTold 45 = .ok (.ireturn, 1) := dk_172 (dk_at dksX1_playerTold_2 9 rfl rfl)
theorem dX1_playerTold_46 : decode cX1_playerTold 46 = .ok (.aload_n 0, 1) := dk_42 (dk_at dksX1_playerTold_2 10 rfl rfl)
theorem dX1_playerTold_47 : decode cX1_playerTold 47 = .ok (.getfield 43, 3) := dk_180 0 43 (dk_at dksX1_playerTold_2 11 rfl rfl)
theorem dX1_playerTold_50 : decode cX1_playerTold 50 = .ok (.iload_n 1, 1) := dk_27 (dk_at dksX1_playerTold_2 14 rfl rfl)
theorem dX1_playerTold_51 : decode cX1_playerTold 51 = .ok (.invokevirtual 113, 3) := dk_182 0 113 (dk_at dksX1_playerTold_2 15 rfl rfl)
theorem dX1_playerTold_54 : decode cX1_playerTold 54 = .ok (.checkcast 155, 3) := dk_192 0 155 (dk_at dksX1_playerTold_2 18 rfl rfl)
theorem dX1_playerTold_57 : decode cX1_playerTold 57 = .ok (.getfield 173, 3) := dk_180 0 173 (dk_at dksX1_playerTold_2 21 rfl rfl)
theorem dX1_playerTold_60 : decode cX1_playerTold 60 = .ok (.ireturn, 1) := dk_172 (dk_at dksX1_playerTold_3 0 rfl rfl)
theorem dX1_playerTold_61 : decode cX1_playerTold 61 = .ok (.aload_n 0, 1) := dk_42 (dk_at dksX1_playerTold_3 1 rfl rfl)
theorem dX1_playerTold_62 : decode cX1_playerTold 62 = .ok (.getfield 51, 3) := dk_180 0 51 (dk_at dksX1_playerTold_3 2 rfl rfl)
theorem dX1_playerTold_65 : decode cX1_playerTold 65 = .ok (.getfield 162, 3) := dk_180 0 162 (dk_at dksX1_playerTold_3 5 rfl rfl)
theorem dX1_playerTold_68 : decode cX1_playerTold 68 = .ok (.iload_n 1, 1) := dk_27 (dk_at dksX1_playerTold_3 8 rfl rfl)
theorem dX1_playerTold_69 : decode cX1_playerTold 69 = .ok (.iaload, 1) := dk_46 (dk_at dksX1_playerTold_3 9 rfl rfl)
theorem dX1_playerTold_70 : decode cX1_playerTold 70 = .ok (.ireturn, 1) := dk_172 (dk_at dksX1_playerTold_3 10 rfl rfl)
theorem dX1_playerTold_71 : decode cX1_playerTold 71 = .ok (.aload_n 0, 1) := dk_42 (dk_at dksX1_playerTold_3 11 rfl rfl)
theorem dX1_playerTold_72 : decode cX1_playerTold 72 = .ok (.getfield 51, 3) := dk_180 0 51 (dk_at dksX1_playerTold_3 12 rfl rfl)
theorem dX1_playerTold_75 : decode cX1_playerTold 75 = .ok (.getfield 176, 3) := dk_180 0 176 (dk_at dksX1_playerTold_3 15 rfl rfl)
theorem dX1_playerTold_78 : decode cX1_playerTold 78 = .ok (.iload_n 1, 1) := dk_27 (dk_at dksX1_playerTold_3 18 rfl rfl)
theorem dX1_playerTold_79 : decode cX1_playerTold 79 = .ok (.iaload, 1) := dk_46 (dk_at dksX1_playerTold_3 19 rfl rfl)
theorem dX1_playerTold_80 : decode cX1_playerTold 80 = .ok (.ireturn, 1) := dk_172 (dk_at dksX1_playerTold_3 20 rfl rfl)
theorem dX1_playerTold_81 : decode cX1_playerTold 81 = .ok (.aload_n 0, 1) := dk_42 (dk_at dksX1_playerTold_3 21 rfl rfl)
theorem dX1_playerTold_82 : decode cX1_playerTold 82 = .ok (.getfield 51, 3) := dk_180 0 51 (dk_at dksX1_playerTold_4 0 rfl rfl)
theorem dX1_playerTold_85 : decode cX1_playerTold 85 = .ok (.getfield 179, 3) := dk_180 0 179 (dk_at dksX1_playerTold_4 3 rfl rfl)
theorem dX1_playerTold_88 : decode cX1_playerTold 88 = .ok (.iload_n 1, 1) := dk_27 (dk_at dksX1_playerTold_4 6 rfl rfl)
theorem dX1_playerTold_89 : decode cX1_playerTold 89 = .ok (.iaload, 1) := dk_46 (dk_at dksX1_playerTold_4 7 rfl rfl)
theorem dX1_playerTold_90 : decode cX1_playerTold 90 = .ok (.ireturn, 1) := dk_172 (dk_at dksX1_playerTold_4 8 rfl rfl)
theorem dX1_playerTold_91 : decode cX1_playerTold 91 = .ok (.aload_n 0, 1) := dk_42 (dk_at dksX1_playerTold_4 9 rfl rfl)
theorem dX1_playerTold_92 : decode cX1_playerTold 92 = .ok (.getfield 51, 3) := dk_180 0 51 (dk_at dksX1_playerTold_4 10 rfl rfl)
theorem dX1_playerTold_95 : decode cX1_playerTold 95 = .ok (.getfield 182, 3) := dk_180 0 182 (dk_at dksX1_playerTold_4 13 rfl rfl)
theorem dX1_playerTold_98 : decode cX1_playerTold 98 = .ok (.iload_n 1, 1) := dk_27 (dk_at dksX1_playerTold_4 16 rfl rfl)
theorem dX1_playerTold_99 : decode cX1_playerTold 99 = .ok (.iaload, 1) := dk_46 (dk_at dksX1_playerTold_4 17 rfl rfl)
theorem dX1_playerTold_100 : decode cX1_playerTold 100 = .ok (.ireturn, 1) := dk_172 (dk_at dksX1_playerTold_4 18 rfl rfl)
abbrev cX1_addTable : ByteArray := prog_1_method_8_code
def yX1_addTable : MethodName := ⟨RX1, "addTable", "(III)I"⟩
def dkwX1_addTable_2 : List UInt8 := [42, 180, 0, 39, 182, 0, 76, 27, 28, 183, 0, 82, 29, 182, 0, 84, 172]
abbrev dktX1_addTable_2 : List UInt8 := dkwX1_addTable_2 ++ []
def dkwX1_addTable_1 : List UInt8 := [180, 0, 39, 182, 0, 76, 16, 8, 162, 0, 7, 4, 167, 0, 4, 3, 184, 0, 77, 42, 187, 0, 80, 89]
abbrev dktX1_addTable_1 : List UInt8 := dkwX1_addTable_1 ++ dktX1_addTable_2
def dkwX1_addTable_0 : List UInt8 := [6, 16, 9, 27, 184, 0, 72, 5, 16, 12, 28, 184, 0, 72, 3, 17, 39, 15, 29, 184, 0, 72, 42]
abbrev dktX1_addTable_0 : List UInt8 := dkwX1_addTable_0 ++ dktX1_addTable_1
theorem dksX1_addTable_0 : cX1_addTable.data.toList.drop 0 = dktX1_addTable_0 := by decide +kernel
theorem dksX1_addTable_1 : cX1_addTable.data.toList.drop 23 = dktX1_addTable_1 := dk_seg dksX1_addTable_0 23 rfl rfl
theorem dksX1_addTable_2 : cX1_addTable.data.toList.drop 47 = dktX1_addTable_2 := dk_seg dksX1_addTable_1 24 rfl rfl
theorem dX1_addTable_0 : decode cX1_addTable 0 = .ok (.iconst 3, 1) := dk_6 (dk_at dksX1_addTable_0 0 rfl rfl)
theorem dX1_addTable_1 : decode cX1_addTable 1 = .ok (.bipush 9, 2) := dk_16 9 (dk_at dksX1_addTable_0 1 rfl rfl)
theorem dX1_addTable_3 : decode cX1_addTable 3 = .ok (.iload_n 1, 1) := dk_27 (dk_at dksX1_addTable_0 3 rfl rfl)
theorem dX1_addTable_4 : decode cX1_addTable 4 = .ok (.invokestatic 72, 3) := dk_184 0 72 (dk_at dksX1_addTable_0 4 rfl rfl)
theorem dX1_addTable_7 : decode cX1_addTable 7 = .ok (.iconst 2, 1) := dk_5 (dk_at dksX1_addTable_0 7 rfl rfl)
theorem dX1_addTable_8 : decode cX1_addTable 8 = .ok (.bipush 12, 2) := dk_16 12 (dk_at dksX1_addTable_0 8 rfl rfl)
theorem dX1_addTable_10 : decode cX1_addTable 10 = .ok (.iload_n 2, 1) := dk_28 (dk_at dksX1_addTable_0 10 rfl rfl)
theorem dX1_addTable_11 : decode cX1_addTable 11 = .ok (.invokestatic 72, 3) := dk_184 0 72 (dk_at dksX1_addTable_0 11 rfl rfl)
theorem dX1_addTable_14 : decode cX1_addTable 14 = .ok (.iconst 0, 1) := dk_3 (dk_at dksX1_addTable_0 14 rfl rfl)
theorem dX1_addTable_15 : decode cX1_addTable 15 = .ok (.sipush 9999, 3) := dk_17 39 15 (dk_at dksX1_addTable_0 15 rfl rfl)
theorem dX1_addTable_18 : decode cX1_addTable 18 = .ok (.iload_n 3, 1) := dk_29 (dk_at dksX1_addTable_0 18 rfl rfl)
theorem dX1_addTable_19 : decode cX1_addTable 19 = .ok (.invokestatic 72, 3) := dk_184 0 72 (dk_at dksX1_addTable_0 19 rfl rfl)
theorem dX1_addTable_22 : decode cX1_addTable 22 = .ok (.aload_n 0, 1) := dk_42 (dk_at dksX1_addTable_0 22 rfl rfl)
theorem dX1_addTable_23 : decode cX1_addTable 23 = .ok (.getfield 39, 3) := dk_180 0 39 (dk_at dksX1_addTable_1 0 rfl rfl)
theorem dX1_addTable_26 : decode cX1_addTable 26 = .ok (.invokevirtual 76, 3) := dk_182 0 76 (dk_at dksX1_addTable_1 3 rfl rfl)
theorem dX1_addTable_29 : decode cX1_addTable 29 = .ok (.bipush 8, 2) := dk_16 8 (dk_at dksX1_addTable_1 6 rfl rfl)
theorem dX1_addTable_31 : decode cX1_addTable 31 = .ok (.if_icmp .ge 7, 3) := dk_162 0 7 (dk_at dksX1_addTable_1 8 rfl rfl)
theorem dX1_addTable_34 : decode cX1_addTable 34 = .ok (.iconst 1, 1) := dk_4 (dk_at dksX1_addTable_1 11 rfl rfl)
theorem dX1_addTable_35 : decode cX1_addTable 35 = .ok (.goto 4, 3) := dk_167 0 4 (dk_at dksX1_addTable_1 12 rfl rfl)
theorem dX1_addTable_38 : decode cX1_addTable 38 = .ok (.iconst 0, 1) := dk_3 (dk_at dksX1_addTable_1 15 rfl rfl)
theorem dX1_addTable_39 : decode cX1_addTable 39 = .ok (.invokestatic 77, 3) := dk_184 0 77 (dk_at dksX1_addTable_1 16 rfl rfl)
theorem dX1_addTable_42 : decode cX1_addTable 42 = .ok (.aload_n 0, 1) := dk_42 (dk_at dksX1_addTable_1 19 rfl rfl)
theorem dX1_addTable_43 : decode cX1_addTable 43 = .ok (.new 80, 3) := dk_187 0 80 (dk_at dksX1_addTable_1 20 rfl rfl)
theorem dX1_addTable_46 : decode cX1_addTable 46 = .ok (.dup, 1) := dk_89 (dk_at dksX1_addTable_1 23 rfl rfl)
theorem dX1_addTable_47 : decode cX1_addTable 47 = .ok (.aload_n 0, 1) := dk_42 (dk_at dksX1_addTable_2 0 rfl rfl)
theorem dX1_addTable_48 : decode cX1_addTable 48 = .ok (.getfield 39, 3) := dk_180 0 39 (dk_at dksX1_addTable_2 1 rfl rfl)
theorem dX1_addTable_51 : decode cX1_addTable 51 = .ok (.invokevirtual 76, 3) := dk_182 0 76 (dk_at dksX1_addTable_2 4 rfl rfl)
theorem dX1_addTable_54 : decode cX1_addTable 54 = .ok (.iload_n 1, 1) := dk_27 (dk_at dksX1_addTable_2 7 rfl rfl)
theorem dX1_addTable_55 : decode cX1_addTable 55 = .ok (.iload_n 2, 1) := dk_28 (dk_at dksX1_addTable_2 8 rfl rfl)
theorem dX1_addTable_56 : decode cX1_addTable 56 = .ok (.invokespecial 82, 3) := dk_183 0 82 (dk_at dksX1_addTable_2 9 rfl rfl)
theorem dX1_addTable_59 : decode cX1_addTable 59 = .ok (.iload_n 3, 1) := dk_29 (dk_at dksX1_addTable_2 12 rfl rfl)
theorem dX1_addTable_60 : decode cX1_addTable 60 = .ok (.invokevirtual 84, 3) := dk_182 0 84 (dk_at dksX1_addTable_2 13 rfl rfl)
theorem dX1_addTable_63 : decode cX1_addTable 63 = .ok (.ireturn, 1) := dk_172 (dk_at dksX1_addTable_2 16 rfl rfl)
abbrev cX1_requireFrom : ByteArray := prog_1_method_4_code
def yX1_requireFrom : MethodName := ⟨RX1, "requireFrom", "(III)V"⟩
def dkwX1_requireFrom_0 : List UInt8 := [28, 26, 161, 0, 12, 28, 27, 163, 0, 7, 4, 167, 0, 4, 3, 184, 0, 13, 177]
abbrev dktX1_requireFrom_0 : List UInt8 := dkwX1_requireFrom_0 ++ []
theorem dksX1_requireFrom_0 : cX1_requireFrom.data.toList.drop 0 = dktX1_requireFrom_0 := by decide +kernel
theorem dX1_requireFrom_0 : decode cX1_requireFrom 0 = .ok (.iload_n 2, 1) := dk_28 (dk_at dksX1_requireFrom_0 0 rfl rfl)
theorem dX1_requireFrom_1 : decode cX1_requireFrom 1 = .ok (.iload_n 0, 1) := dk_26 (dk_at dksX1_requireFrom_0 1 rfl rfl)
theorem dX1_requireFrom_2 : decode cX1_requireFrom 2 = .ok (.if_icmp .lt 12, 3) := dk_161 0 12 (dk_at dksX1_requireFrom_0 2 rfl rfl)
theorem dX1_requireFrom_5 : decode cX1_requireFrom 5 = .ok (.iload_n 2, 1) := dk_28 (dk_at dksX1_requireFrom_0 5 rfl rfl)
theorem dX1_requireFrom_6 : decode cX1_requireFrom 6 = .ok (.iload_n 1, 1) := dk_27 (dk_at dksX1_requireFrom_0 6 rfl rfl)
theorem dX1_requireFrom_7 : decode cX1_requireFrom 7 = .ok (.if_icmp .gt 7, 3) := dk_163 0 7 (dk_at dksX1_requireFrom_0 7 rfl rfl)
theorem dX1_requireFrom_10 : decode cX1_requireFrom 10 = .ok (.iconst 1, 1) := dk_4 (dk_at dksX1_requireFrom_0 10 rfl rfl)
theorem dX1_requireFrom_11 : decode cX1_requireFrom 11 = .ok (.goto 4, 3) := dk_167 0 4 (dk_at dksX1_requireFrom_0 11 rfl rfl)
theorem dX1_requireFrom_14 : decode cX1_requireFrom 14 = .ok (.iconst 0, 1) := dk_3 (dk_at dksX1_requireFrom_0 14 rfl rfl)
theorem dX1_requireFrom_15 : decode cX1_requireFrom 15 = .ok (.invokestatic 13, 3) := dk_184 0 13 (dk_at dksX1_requireFrom_0 15 rfl rfl)
theorem dX1_requireFrom_18 : decode cX1_requireFrom 18 = .ok (.return_, 1) := dk_177 (dk_at dksX1_requireFrom_0 18 rfl rfl)
abbrev cX1_require : ByteArray := prog_1_method_1_code
def yX1_require : MethodName := ⟨RX1, "require", "(Z)V"⟩
def dkwX1_require_0 : List UInt8 := [26, 154, 0, 11, 187, 0, 1, 89, 183, 0, 3, 191, 177]
abbrev dktX1_require_0 : List UInt8 := dkwX1_require_0 ++ []
theorem dksX1_require_0 : cX1_require.data.toList.drop 0 = dktX1_require_0 := by decide +kernel
theorem dX1_require_0 : decode cX1_require 0 = .ok (.iload_n 0, 1) := dk_26 (dk_at dksX1_require_0 0 rfl rfl)
theorem dX1_require_1 : decode cX1_require 1 = .ok (.ifCond .ne 11, 3) := dk_154 0 11 (dk_at dksX1_require_0 1 rfl rfl)
theorem dX1_require_4 : decode cX1_require 4 = .ok (.new 1, 3) := dk_187 0 1 (dk_at dksX1_require_0 4 rfl rfl)
theorem dX1_require_7 : decode cX1_require 7 = .ok (.dup, 1) := dk_89 (dk_at dksX1_require_0 7 rfl rfl)
theorem dX1_require_8 : decode cX1_require 8 = .ok (.invokespecial 3, 3) := dk_183 0 3 (dk_at dksX1_require_0 8 rfl rfl)
theorem dX1_require_11 : decode cX1_require 11 = .ok (.athrow, 1) := dk_191 (dk_at dksX1_require_0 11 rfl rfl)
theorem dX1_require_12 : decode cX1_require 12 = .ok (.return_, 1) := dk_177 (dk_at dksX1_require_0 12 rfl rfl)
abbrev cX1_requireState : ByteArray := prog_1_method_2_code
def yX1_requireState : MethodName := ⟨RX1, "requireState", "(Z)V"⟩
def dkwX1_requireState_0 : List UInt8 := [26, 154, 0, 11, 187, 0, 7, 89, 183, 0, 9, 191, 177]
abbrev dktX1_requireState_0 : List UInt8 := dkwX1_requireState_0 ++ []
theorem dksX1_requireState_0 : cX1_requireState.data.toList.drop 0 = dktX1_requireState_0 := by decide +kernel
theorem dX1_requireState_0 : decode cX1_requireState 0 = .ok (.iload_n 0, 1) := dk_26 (dk_at dksX1_requireState_0 0 rfl rfl)
theorem dX1_requireState_1 : decode cX1_requireState 1 = .ok (.ifCond .ne 11, 3) := dk_154 0 11 (dk_at dksX1_requireState_0 1 rfl rfl)
theorem dX1_requireState_4 : decode cX1_requireState 4 = .ok (.new 7, 3) := dk_187 0 7 (dk_at dksX1_requireState_0 4 rfl rfl)
theorem dX1_requireState_7 : decode cX1_requireState 7 = .ok (.dup, 1) := dk_89 (dk_at dksX1_requireState_0 7 rfl rfl)
theorem dX1_requireState_8 : decode cX1_requireState 8 = .ok (.invokespecial 9, 3) := dk_183 0 9 (dk_at dksX1_requireState_0 8 rfl rfl)
theorem dX1_requireState_11 : decode cX1_requireState 11 = .ok (.athrow, 1) := dk_191 (dk_at dksX1_requireState_0 11 rfl rfl)
theorem dX1_requireState_12 : decode cX1_requireState 12 = .ok (.return_, 1) := dk_177 (dk_at dksX1_requireState_0 12 rfl rfl)
abbrev cX1_add : ByteArray := prog_1_method_7_code
def yX1_add : MethodName := ⟨RX1, "add", "(LPennyArcade$Machine;I)I"⟩
def dkwX1_add_1 : List UInt8 := [180, 0, 62, 172]
abbrev dktX1_add_1 : List UInt8 := dkwX1_add_1 ++ []
def dkwX1_add_0 : List UInt8 := [42, 180, 0, 51, 180, 0, 58, 43, 180, 0, 62, 28, 79, 42, 180, 0, 39, 43, 182, 0, 68, 87, 43]
abbrev dktX1_add_0 : List UInt8 := dkwX1_add_0 ++ dktX1_add_1
theorem dksX1_add_0 : cX1_add.data.toList.drop 0 = dktX1_add_0 := by decide +kernel
theorem dksX1_add_1 : cX1_add.data.toList.drop 23 = dktX1_add_1 := dk_seg dksX1_add_0 23 rfl rfl
theorem dX1_add_0 : decode cX1_add 0 = .ok (.aload_n 0, 1) := dk_42 (dk_at dksX1_add_0 0 rfl rfl)
theorem dX1_add_1 : decode cX1_add 1 = .ok (.getfield 51, 3) := dk_180 0 51 (dk_at dksX1_add_0 1 rfl rfl)
theorem dX1_add_4 : decode cX1_add 4 = .ok (.getfield 58, 3) := dk_180 0 58 (dk_at dksX1_add_0 4 rfl rfl)
theorem dX1_add_7 : decode cX1_add 7 = .ok (.aload_n 1, 1) := dk_43 (dk_at dksX1_add_0 7 rfl rfl)
theorem dX1_add_8 : decode cX1_add 8 = .ok (.getfield 62, 3) := dk_180 0 62 (dk_at dksX1_add_0 8 rfl rfl)
theorem dX1_add_11 : decode cX1_add 11 = .ok (.iload_n 2, 1) := dk_28 (dk_at dksX1_add_0 11 rfl rfl)
theorem dX1_add_12 : decode cX1_add 12 = .ok (.iastore, 1) := dk_79 (dk_at dksX1_add_0 12 rfl rfl)
theorem dX1_add_13 : decode cX1_add 13 = .ok (.aload_n 0, 1) := dk_42 (dk_at dksX1_add_0 13 rfl rfl)
theorem dX1_add_14 : decode cX1_add 14 = .ok (.getfield 39, 3) := dk_180 0 39 (dk_at dksX1_add_0 14 rfl rfl)
theorem dX1_add_17 : decode cX1_add 17 = .ok (.aload_n 1, 1) := dk_43 (dk_at dksX1_add_0 17 rfl rfl)
theorem dX1_add_18 : decode cX1_add 18 = .ok (.invokevirtual 68, 3) := dk_182 0 68 (dk_at dksX1_add_0 18 rfl rfl)
theorem dX1_add_21 : decode cX1_add 21 = .ok (.pop, 1) := dk_87 (dk_at dksX1_add_0 21 rfl rfl)
theorem dX1_add_22 : decode cX1_add 22 = .ok (.aload_n 1, 1) := dk_43 (dk_at dksX1_add_0 22 rfl rfl)
theorem dX1_add_23 : decode cX1_add 23 = .ok (.getfield 62, 3) := dk_180 0 62 (dk_at dksX1_add_1 0 rfl rfl)
theorem dX1_add_26 : decode cX1_add 26 = .ok (.ireturn, 1) := dk_172 (dk_at dksX1_add_1 3 rfl rfl)
abbrev cX1_addPusher : ByteArray := prog_1_method_9_code
def yX1_addPusher : MethodName := ⟨RX1, "addPusher", "(II)I"⟩
def dkwX1_addPusher_2 : List UInt8 := [183, 0, 89, 28, 182, 0, 84, 172]
abbrev dktX1_addPusher_2 : List UInt8 := dkwX1_addPusher_2 ++ []
def dkwX1_addPusher_1 : List UInt8 := [162, 0, 7, 4, 167, 0, 4, 3, 184, 0, 77, 42, 187, 0, 87, 89, 42, 180, 0, 39, 182, 0, 76, 27]
abbrev dktX1_addPusher_1 : List UInt8 := dkwX1_addPusher_1 ++ dktX1_addPusher_2
def dkwX1_addPusher_0 : List UInt8 := [4, 16, 9, 27, 184, 0, 72, 3, 17, 39, 15, 28, 184, 0, 72, 42, 180, 0, 39, 182, 0, 76, 16, 8]
abbrev dktX1_addPusher_0 : List UInt8 := dkwX1_addPusher_0 ++ dktX1_addPusher_1
theorem dksX1_addPusher_0 : cX1_addPusher.data.toList.drop 0 = dktX1_addPusher_0 := by decide +kernel
theorem dksX1_addPusher_1 : cX1_addPusher.data.toList.drop 24 = dktX1_addPusher_1 := dk_seg dksX1_addPusher_0 24 rfl rfl
theorem dksX1_addPusher_2 : cX1_addPusher.data.toList.drop 48 = dktX1_addPusher_2 := dk_seg dksX1_addPusher_1 24 rfl rfl
theorem dX1_addPusher_0 : decode cX1_addPusher 0 = .ok (.iconst 1, 1) := dk_4 (dk_at dksX1_addPusher_0 0 rfl rfl)
theorem dX1_addPusher_1 : decode cX1_addPusher 1 = .ok (.bipush 9, 2) := dk_16 9 (dk_at dksX1_addPusher_0 1 rfl rfl)
theorem dX1_addPusher_3 : decode cX1_addPusher 3 = .ok (.iload_n 1, 1) := dk_27 (dk_at dksX1_addPusher_0 3 rfl rfl)
theorem dX1_addPusher_4 : decode cX1_addPusher 4 = .ok (.invokestatic 72, 3) := dk_184 0 72 (dk_at dksX1_addPusher_0 4 rfl rfl)
theorem dX1_addPusher_7 : decode cX1_addPusher 7 = .ok (.iconst 0, 1) := dk_3 (dk_at dksX1_addPusher_0 7 rfl rfl)
theorem dX1_addPusher_8 : decode cX1_addPusher 8 = .ok (.sipush 9999, 3) := dk_17 39 15 (dk_at dksX1_addPusher_0 8 rfl rfl)
theorem dX1_addPusher_11 : decode cX1_addPusher 11 = .ok (.iload_n 2, 1) := dk_28 (dk_at dksX1_addPusher_0 11 rfl rfl)
theorem dX1_addPusher_12 : decode cX1_addPusher 12 = .ok (.invokestatic 72, 3) := dk_184 0 72 (dk_at dksX1_addPusher_0 12 rfl rfl)
theorem dX1_addPusher_15 : decode cX1_addPusher 15 = .ok (.aload_n 0, 1) := dk_42 (dk_at dksX1_addPusher_0 15 rfl rfl)
theorem dX1_addPusher_16 : decode cX1_addPusher 16 = .ok (.getfield 39, 3) := dk_180 0 39 (dk_at dksX1_addPusher_0 16 rfl rfl)
theorem dX1_addPusher_19 : decode cX1_addPusher 19 = .ok (.invokevirtual 76, 3) := dk_182 0 76 (dk_at dksX1_addPusher_0 19 rfl rfl)
theorem dX1_addPusher_22 : decode cX1_addPusher 22 = .ok (.bipush 8, 2) := dk_16 8 (dk_at dksX1_addPusher_0 22 rfl rfl)
theorem dX1_addPusher_24 : decode cX1_addPusher 24 = .ok (.if_icmp .ge 7, 3) := dk_162 0 7 (dk_at dksX1_addPusher_1 0 rfl rfl)
theorem dX1_addPusher_27 : decode cX1_addPusher 27 = .ok (.iconst 1, 1) := dk_4 (dk_at dksX1_addPusher_1 3 rfl rfl)
theorem dX1_addPusher_28 : decode cX1_addPusher 28 = .ok (.goto 4, 3) := dk_167 0 4 (dk_at dksX1_addPusher_1 4 rfl rfl)
theorem dX1_addPusher_31 : decode cX1_addPusher 31 = .ok (.iconst 0, 1) := dk_3 (dk_at dksX1_addPusher_1 7 rfl rfl)
theorem dX1_addPusher_32 : decode cX1_addPusher 32 = .ok (.invokestatic 77, 3) := dk_184 0 77 (dk_at dksX1_addPusher_1 8 rfl rfl)
theorem dX1_addPusher_35 : decode cX1_addPusher 35 = .ok (.aload_n 0, 1) := dk_42 (dk_at dksX1_addPusher_1 11 rfl rfl)
theorem dX1_addPusher_36 : decode cX1_addPusher 36 = .ok (.new 87, 3) := dk_187 0 87 (dk_at dksX1_addPusher_1 12 rfl rfl)
theorem dX1_addPusher_39 : decode cX1_addPusher 39 = .ok (.dup, 1) := dk_89 (dk_at dksX1_addPusher_1 15 rfl rfl)
theorem dX1_addPusher_40 : decode cX1_addPusher 40 = .ok (.aload_n 0, 1) := dk_42 (dk_at dksX1_addPusher_1 16 rfl rfl)
theorem dX1_addPusher_41 : decode cX1_addPusher 41 = .ok (.getfield 39, 3) := dk_180 0 39 (dk_at dksX1_addPusher_1 17 rfl rfl)
theorem dX1_addPusher_44 : decode cX1_addPusher 44 = .ok (.invokevirtual 76, 3) := dk_182 0 76 (dk_at dksX1_addPusher_1 20 rfl rfl)
theorem dX1_addPusher_47 : decode cX1_addPusher 47 = .ok (.iload_n 1, 1) := dk_27 (dk_at dksX1_addPusher_1 23 rfl rfl)
theorem dX1_addPusher_48 : decode cX1_addPusher 48 = .ok (.invokespecial 89, 3) := dk_183 0 89 (dk_at dksX1_addPusher_2 0 rfl rfl)
theorem dX1_addPusher_51 : decode cX1_addPusher 51 = .ok (.iload_n 2, 1) := dk_28 (dk_at dksX1_addPusher_2 3 rfl rfl)
theorem dX1_addPusher_52 : decode cX1_addPusher 52 = .ok (.invokevirtual 84, 3) := dk_182 0 84 (dk_at dksX1_addPusher_2 4 rfl rfl)
theorem dX1_addPusher_55 : decode cX1_addPusher 55 = .ok (.ireturn, 1) := dk_172 (dk_at dksX1_addPusher_2 7 rfl rfl)
abbrev cX1_bend : ByteArray := prog_1_method_11_code
def yX1_bend : MethodName := ⟨RX1, "bend", "(IIII)I"⟩
def dkwX1_bend_1 : List UInt8 := [25, 5, 180, 0, 103, 21, 6, 46, 54, 7, 25, 5, 180, 0, 103, 21, 6, 21, 4, 79, 21, 7, 172]
abbrev dktX1_bend_1 : List UInt8 := dkwX1_bend_1 ++ []
def dkwX1_bend_0 : List UInt8 := [42, 27, 182, 0, 95, 58, 5, 25, 5, 28, 29, 182, 0, 99, 54, 6, 2, 4, 21, 4, 184, 0, 72]
abbrev dktX1_bend_0 : List UInt8 := dkwX1_bend_0 ++ dktX1_bend_1
theorem dksX1_bend_0 : cX1_bend.data.toList.drop 0 = dktX1_bend_0 := by decide +kernel
theorem dksX1_bend_1 : cX1_bend.data.toList.drop 23 = dktX1_bend_1 := dk_seg dksX1_bend_0 23 rfl rfl
theorem dX1_bend_0 : decode cX1_bend 0 = .ok (.aload_n 0, 1) := dk_42 (dk_at dksX1_bend_0 0 rfl rfl)
theorem dX1_bend_1 : decode cX1_bend 1 = .ok (.iload_n 1, 1) := dk_27 (dk_at dksX1_bend_0 1 rfl rfl)
theorem dX1_bend_2 : decode cX1_bend 2 = .ok (.invokevirtual 95, 3) := dk_182 0 95 (dk_at dksX1_bend_0 2 rfl rfl)
theorem dX1_bend_5 : decode cX1_bend 5 = .ok (.astore 5, 2) := dk_58 5 (dk_at dksX1_bend_0 5 rfl rfl)
theorem dX1_bend_7 : decode cX1_bend 7 = .ok (.aload 5, 2) := dk_25 5 (dk_at dksX1_bend_0 7 rfl rfl)
theorem dX1_bend_9 : decode cX1_bend 9 = .ok (.iload_n 2, 1) := dk_28 (dk_at dksX1_bend_0 9 rfl rfl)
theorem dX1_bend_10 : decode cX1_bend 10 = .ok (.iload_n 3, 1) := dk_29 (dk_at dksX1_bend_0 10 rfl rfl)
theorem dX1_bend_11 : decode cX1_bend 11 = .ok (.invokevirtual 99, 3) := dk_182 0 99 (dk_at dksX1_bend_0 11 rfl rfl)
theorem dX1_bend_14 : decode cX1_bend 14 = .ok (.istore 6, 2) := dk_54 6 (dk_at dksX1_bend_0 14 rfl rfl)
theorem dX1_bend_16 : decode cX1_bend 16 = .ok (.iconst (-1), 1) := dk_2 (dk_at dksX1_bend_0 16 rfl rfl)
theorem dX1_bend_17 : decode cX1_bend 17 = .ok (.iconst 1, 1) := dk_4 (dk_at dksX1_bend_0 17 rfl rfl)
theorem dX1_bend_18 : decode cX1_bend 18 = .ok (.iload 4, 2) := dk_21 4 (dk_at dksX1_bend_0 18 rfl rfl)
theorem dX1_bend_20 : decode cX1_bend 20 = .ok (.invokestatic 72, 3) := dk_184 0 72 (dk_at dksX1_bend_0 20 rfl rfl)
theorem dX1_bend_23 : decode cX1_bend 23 = .ok (.aload 5, 2) := dk_25 5 (dk_at dksX1_bend_1 0 rfl rfl)
theorem dX1_bend_25 : decode cX1_bend 25 = .ok (.getfield 103, 3) := dk_180 0 103 (dk_at dksX1_bend_1 2 rfl rfl)
theorem dX1_bend_28 : decode cX1_bend 28 = .ok (.iload 6, 2) := dk_21 6 (dk_at dksX1_bend_1 5 rfl rfl)
theorem dX1_bend_30 : decode cX1_bend 30 = .ok (.iaload, 1) := dk_46 (dk_at dksX1_bend_1 7 rfl rfl)
theorem dX1_bend_31 : decode cX1_bend 31 = .ok (.istore 7, 2) := dk_54 7 (dk_at dksX1_bend_1 8 rfl rfl)
theorem dX1_bend_33 : decode cX1_bend 33 = .ok (.aload 5, 2) := dk_25 5 (dk_at dksX1_bend_1 10 rfl rfl)
theorem dX1_bend_35 : decode cX1_bend 35 = .ok (.getfield 103, 3) := dk_180 0 103 (dk_at dksX1_bend_1 12 rfl rfl)
theorem dX1_bend_38 : decode cX1_bend 38 = .ok (.iload 6, 2) := dk_21 6 (dk_at dksX1_bend_1 15 rfl rfl)
theorem dX1_bend_40 : decode cX1_bend 40 = .ok (.iload 4, 2) := dk_21 4 (dk_at dksX1_bend_1 17 rfl rfl)
theorem dX1_bend_42 : decode cX1_bend 42 = .ok (.iastore, 1) := dk_79 (dk_at dksX1_bend_1 19 rfl rfl)
theorem dX1_bend_43 : decode cX1_bend 43 = .ok (.iload 7, 2) := dk_21 7 (dk_at dksX1_bend_1 20 rfl rfl)
theorem dX1_bend_45 : decode cX1_bend 45 = .ok (.ireturn, 1) := dk_172 (dk_at dksX1_bend_1 22 rfl rfl)
abbrev cX1_tableAt : ByteArray := prog_1_method_10_code
def yX1_tableAt : MethodName := ⟨RX1, "tableAt", "(I)LPennyArcade$Table;"⟩
def dkwX1_tableAt_0 : List UInt8 := [42, 180, 0, 39, 27, 184, 0, 91, 192, 0, 63, 77, 44, 193, 0, 80, 184, 0, 13, 44, 192, 0, 80, 176]
abbrev dktX1_tableAt_0 : List UInt8 := dkwX1_tableAt_0 ++ []
theorem dksX1_tableAt_0 : cX1_tableAt.data.toList.drop 0 = dktX1_tableAt_0 := by decide +kernel
theorem dX1_tableAt_0 : decode cX1_tableAt 0 = .ok (.aload_n 0, 1) := dk_42 (dk_at dksX1_tableAt_0 0 rfl rfl)
theorem dX1_tableAt_1 : decode cX1_tableAt 1 = .ok (.getfield 39, 3) := dk_180 0 39 (dk_at dksX1_tableAt_0 1 rfl rfl)
theorem dX1_tableAt_4 : decode cX1_tableAt 4 = .ok (.iload_n 1, 1) := dk_27 (dk_at dksX1_tableAt_0 4 rfl rfl)
theorem dX1_tableAt_5 : decode cX1_tableAt 5 = .ok (.invokestatic 91, 3) := dk_184 0 91 (dk_at dksX1_tableAt_0 5 rfl rfl)
theorem dX1_tableAt_8 : decode cX1_tableAt 8 = .ok (.checkcast 63, 3) := dk_192 0 63 (dk_at dksX1_tableAt_0 8 rfl rfl)
theorem dX1_tableAt_11 : decode cX1_tableAt 11 = .ok (.astore_n 2, 1) := dk_77 (dk_at dksX1_tableAt_0 11 rfl rfl)
theorem dX1_tableAt_12 : decode cX1_tableAt 12 = .ok (.aload_n 2, 1) := dk_44 (dk_at dksX1_tableAt_0 12 rfl rfl)
theorem dX1_tableAt_13 : decode cX1_tableAt 13 = .ok (.instanceof 80, 3) := dk_193 0 80 (dk_at dksX1_tableAt_0 13 rfl rfl)
theorem dX1_tableAt_16 : decode cX1_tableAt 16 = .ok (.invokestatic 13, 3) := dk_184 0 13 (dk_at dksX1_tableAt_0 16 rfl rfl)
theorem dX1_tableAt_19 : decode cX1_tableAt 19 = .ok (.aload_n 2, 1) := dk_44 (dk_at dksX1_tableAt_0 19 rfl rfl)
theorem dX1_tableAt_20 : decode cX1_tableAt 20 = .ok (.checkcast 80, 3) := dk_192 0 80 (dk_at dksX1_tableAt_0 20 rfl rfl)
theorem dX1_tableAt_23 : decode cX1_tableAt 23 = .ok (.areturn, 1) := dk_176 (dk_at dksX1_tableAt_0 23 rfl rfl)
abbrev cX1_known : ByteArray := prog_1_method_5_code
def yX1_known : MethodName := ⟨RX1, "known", "(Ljava/util/List;I)Ljava/lang/Object;"⟩
def dkwX1_known_0 : List UInt8 := [27, 42, 185, 0, 19, 1, 0, 184, 0, 25, 42, 27, 185, 0, 29, 2, 0, 176]
abbrev dktX1_known_0 : List UInt8 := dkwX1_known_0 ++ []
theorem dksX1_known_0 : cX1_known.data.toList.drop 0 = dktX1_known_0 := by decide +kernel
theorem dX1_known_0 : decode cX1_known 0 = .ok (.iload_n 1, 1) := dk_27 (dk_at dksX1_known_0 0 rfl rfl)
theorem dX1_known_1 : decode cX1_known 1 = .ok (.aload_n 0, 1) := dk_42 (dk_at dksX1_known_0 1 rfl rfl)
theorem dX1_known_2 : decode cX1_known 2 = .ok (.invokeinterface 19 1, 5) := by decide +kernel
theorem dX1_known_7 : decode cX1_known 7 = .ok (.invokestatic 25, 3) := dk_184 0 25 (dk_at dksX1_known_0 7 rfl rfl)
theorem dX1_known_10 : decode cX1_known 10 = .ok (.aload_n 0, 1) := dk_42 (dk_at dksX1_known_0 10 rfl rfl)
theorem dX1_known_11 : decode cX1_known 11 = .ok (.iload_n 1, 1) := dk_27 (dk_at dksX1_known_0 11 rfl rfl)
theorem dX1_known_12 : decode cX1_known 12 = .ok (.invokeinterface 29 2, 5) := by decide +kernel
theorem dX1_known_17 : decode cX1_known 17 = .ok (.areturn, 1) := dk_176 (dk_at dksX1_known_0 17 rfl rfl)
abbrev cX1_requireIndex : ByteArray := prog_1_method_3_code
def yX1_requireIndex : MethodName := ⟨RX1, "requireIndex", "(II)V"⟩
def dkwX1_requireIndex_0 : List UInt8 := [26, 155, 0, 8, 26, 27, 161, 0, 11, 187, 0, 10, 89, 183, 0, 12, 191, 177]
abbrev dktX1_requireIndex_0 : List UInt8 := dkwX1_requireIndex_0 ++ []
theorem dksX1_requireIndex_0 : cX1_requireIndex.data.toList.drop 0 = dktX1_requireIndex_0 := by decide +kernel
theorem dX1_requireIndex_0 : decode cX1_requireIndex 0 = .ok (.iload_n 0, 1) := dk_26 (dk_at dksX1_requireIndex_0 0 rfl rfl)
theorem dX1_requireIndex_1 : decode cX1_requireIndex 1 = .ok (.ifCond .lt 8, 3) := dk_155 0 8 (dk_at dksX1_requireIndex_0 1 rfl rfl)
theorem dX1_requireIndex_4 : decode cX1_requireIndex 4 = .ok (.iload_n 0, 1) := dk_26 (dk_at dksX1_requireIndex_0 4 rfl rfl)
theorem dX1_requireIndex_5 : decode cX1_requireIndex 5 = .ok (.iload_n 1, 1) := dk_27 (dk_at dksX1_requireIndex_0 5 rfl rfl)
theorem dX1_requireIndex_6 : decode cX1_requireIndex 6 = .ok (.if_icmp .lt 11, 3) := dk_161 0 11 (dk_at dksX1_requireIndex_0 6 rfl rfl)
theorem dX1_requireIndex_9 : decode cX1_requireIndex 9 = .ok (.new 10, 3) := dk_187 0 10 (dk_at dksX1_requireIndex_0 9 rfl rfl)
theorem dX1_requireIndex_12 : decode cX1_requireIndex 12 = .ok (.dup, 1) := dk_89 (dk_at dksX1_requireIndex_0 12 rfl rfl)
theorem dX1_requireIndex_13 : decode cX1_requireIndex 13 = .ok (.invokespecial 12, 3) := dk_183 0 12 (dk_at dksX1_requireIndex_0 13 rfl rfl)
theorem dX1_requireIndex_16 : decode cX1_requireIndex 16 = .ok (.athrow, 1) := dk_191 (dk_at dksX1_requireIndex_0 16 rfl rfl)
theorem dX1_requireIndex_17 : decode cX1_requireIndex 17 = .ok (.return_, 1) := dk_177 (dk_at dksX1_requireIndex_0 17 rfl rfl)
abbrev cX1_setCup : ByteArray := prog_1_method_12_code
def yX1_setCup : MethodName := ⟨RX1, "setCup", "(III)I"⟩
def dkwX1_setCup_1 : List UInt8 := [180, 0, 110, 28, 46, 54, 5, 25, 4, 180, 0, 110, 28, 29, 79, 21, 5, 172]
abbrev dktX1_setCup_1 : List UInt8 := dkwX1_setCup_1 ++ []
def dkwX1_setCup_0 : List UInt8 := [42, 27, 182, 0, 95, 58, 4, 25, 4, 28, 182, 0, 106, 3, 16, 20, 29, 184, 0, 72, 25, 4]
abbrev dktX1_setCup_0 : List UInt8 := dkwX1_setCup_0 ++ dktX1_setCup_1
theorem dksX1_setCup_0 : cX1_setCup.data.toList.drop 0 = dktX1_setCup_0 := by decide +kernel
theorem dksX1_setCup_1 : cX1_setCup.data.toList.drop 22 = dktX1_setCup_1 := dk_seg dksX1_setCup_0 22 rfl rfl
theorem dX1_setCup_0 : decode cX1_setCup 0 = .ok (.aload_n 0, 1) := dk_42 (dk_at dksX1_setCup_0 0 rfl rfl)
theorem dX1_setCup_1 : decode cX1_setCup 1 = .ok (.iload_n 1, 1) := dk_27 (dk_at dksX1_setCup_0 1 rfl rfl)
theorem dX1_setCup_2 : decode cX1_setCup 2 = .ok (.invokevirtual 95, 3) := dk_182 0 95 (dk_at dksX1_setCup_0 2 rfl rfl)
theorem dX1_setCup_5 : decode cX1_setCup 5 = .ok (.astore 4, 2) := dk_58 4 (dk_at dksX1_setCup_0 5 rfl rfl)
theorem dX1_setCup_7 : decode cX1_setCup 7 = .ok (.aload 4, 2) := dk_25 4 (dk_at dksX1_setCup_0 7 rfl rfl)
theorem dX1_setCup_9 : decode cX1_setCup 9 = .ok (.iload_n 2, 1) := dk_28 (dk_at dksX1_setCup_0 9 rfl rfl)
theorem dX1_setCup_10 : decode cX1_setCup 10 = .ok (.invokevirtual 106, 3) := dk_182 0 106 (dk_at dksX1_setCup_0 10 rfl rfl)
theorem dX1_setCup_13 : decode cX1_setCup 13 = .ok (.iconst 0, 1) := dk_3 (dk_at dksX1_setCup_0 13 rfl rfl)
theorem dX1_setCup_14 : decode cX1_setCup 14 = .ok (.bipush 20, 2) := dk_16 20 (dk_at dksX1_setCup_0 14 rfl rfl)
theorem dX1_setCup_16 : decode cX1_setCup 16 = .ok (.iload_n 3, 1) := dk_29 (dk_at dksX1_setCup_0 16 rfl rfl)
theorem dX1_setCup_17 : decode cX1_setCup 17 = .ok (.invokestatic 72, 3) := dk_184 0 72 (dk_at dksX1_setCup_0 17 rfl rfl)
theorem dX1_setCup_20 : decode cX1_setCup 20 = .ok (.aload 4, 2) := dk_25 4 (dk_at dksX1_setCup_0 20 rfl rfl)
theorem dX1_setCup_22 : decode cX1_setCup 22 = .ok (.getfield 110, 3) := dk_180 0 110 (dk_at dksX1_setCup_1 0 rfl rfl)
theorem dX1_setCup_25 : decode cX1_setCup 25 = .ok (.iload_n 2, 1) := dk_28 (dk_at dksX1_setCup_1 3 rfl rfl)
theorem dX1_setCup_26 : decode cX1_setCup 26 = .ok (.iaload, 1) := dk_46 (dk_at dksX1_setCup_1 4 rfl rfl)
theorem dX1_setCup_27 : decode cX1_setCup 27 = .ok (.istore 5, 2) := dk_54 5 (dk_at dksX1_setCup_1 5 rfl rfl)
theorem dX1_setCup_29 : decode cX1_setCup 29 = .ok (.aload 4, 2) := dk_25 4 (dk_at dksX1_setCup_1 7 rfl rfl)
theorem dX1_setCup_31 : decode cX1_setCup 31 = .ok (.getfield 110, 3) := dk_180 0 110 (dk_at dksX1_setCup_1 9 rfl rfl)
theorem dX1_setCup_34 : decode cX1_setCup 34 = .ok (.iload_n 2, 1) := dk_28 (dk_at dksX1_setCup_1 12 rfl rfl)
theorem dX1_setCup_35 : decode cX1_setCup 35 = .ok (.iload_n 3, 1) := dk_29 (dk_at dksX1_setCup_1 13 rfl rfl)
theorem dX1_setCup_36 : decode cX1_setCup 36 = .ok (.iastore, 1) := dk_79 (dk_at dksX1_setCup_1 14 rfl rfl)
theorem dX1_setCup_37 : decode cX1_setCup 37 = .ok (.iload 5, 2) := dk_21 5 (dk_at dksX1_setCup_1 15 rfl rfl)
theorem dX1_setCup_39 : decode cX1_setCup 39 = .ok (.ireturn, 1) := dk_172 (dk_at dksX1_setCup_1 17 rfl rfl)
abbrev cX1_machine : ByteArray := prog_1_method_14_code
def yX1_machine : MethodName := ⟨RX1, "machine", "(II)I"⟩
def dkwX1_machine_0 : List UInt8 := [42, 180, 0, 39, 27, 184, 0, 91, 87, 28, 16, 11, 184, 0, 25, 42, 27, 28, 182, 0, 137, 172]
abbrev dktX1_machine_0 : List UInt8 := dkwX1_machine_0 ++ []
theorem dksX1_machine_0 : cX1_machine.data.toList.drop 0 = dktX1_machine_0 := by decide +kernel
theorem dX1_machine_0 : decode cX1_machine 0 = .ok (.aload_n 0, 1) := dk_42 (dk_at dksX1_machine_0 0 rfl rfl)
theorem dX1_machine_1 : decode cX1_machine 1 = .ok (.getfield 39, 3) := dk_180 0 39 (dk_at dksX1_machine_0 1 rfl rfl)
theorem dX1_machine_4 : decode cX1_machine 4 = .ok (.iload_n 1, 1) := dk_27 (dk_at dksX1_machine_0 4 rfl rfl)
theorem dX1_machine_5 : decode cX1_machine 5 = .ok (.invokestatic 91, 3) := dk_184 0 91 (dk_at dksX1_machine_0 5 rfl rfl)
theorem dX1_machine_8 : decode cX1_machine 8 = .ok (.pop, 1) := dk_87 (dk_at dksX1_machine_0 8 rfl rfl)
theorem dX1_machine_9 : decode cX1_machine 9 = .ok (.iload_n 2, 1) := dk_28 (dk_at dksX1_machine_0 9 rfl rfl)
theorem dX1_machine_10 : decode cX1_machine 10 = .ok (.bipush 11, 2) := dk_16 11 (dk_at dksX1_machine_0 10 rfl rfl)
theorem dX1_machine_12 : decode cX1_machine 12 = .ok (.invokestatic 25, 3) := dk_184 0 25 (dk_at dksX1_machine_0 12 rfl rfl)
theorem dX1_machine_15 : decode cX1_machine 15 = .ok (.aload_n 0, 1) := dk_42 (dk_at dksX1_machine_0 15 rfl rfl)
theorem dX1_machine_16 : decode cX1_machine 16 = .ok (.iload_n 1, 1) := dk_27 (dk_at dksX1_machine_0 16 rfl rfl)
theorem dX1_machine_17 : decode cX1_machine 17 = .ok (.iload_n 2, 1) := dk_28 (dk_at dksX1_machine_0 17 rfl rfl)
theorem dX1_machine_18 : decode cX1_machine 18 = .ok (.invokevirtual 137, 3) := dk_182 0 137 (dk_at dksX1_machine_0 18 rfl rfl)
theorem dX1_machine_21 : decode cX1_machine 21 = .ok (.ireturn, 1) := dk_172 (dk_at dksX1_machine_0 21 rfl rfl)
abbrev cX1_ends : ByteArray := prog_1_method_15_code
def yX1_ends : MethodName := ⟨RX1, "ends", "(III)I"⟩
def dkwX1_ends_0 : List UInt8 := [42, 27, 182, 0, 95, 58, 4, 25, 4, 28, 29, 182, 0, 140, 25, 4, 28, 29, 182, 0, 143, 172]
abbrev dktX1_ends_0 : List UInt8 := dkwX1_ends_0 ++ []
theorem dksX1_ends_0 : cX1_ends.data.toList.drop 0 = dktX1_ends_0 := by decide +kernel
theorem dX1_ends_0 : decode cX1_ends 0 = .ok (.aload_n 0, 1) := dk_42 (dk_at dksX1_ends_0 0 rfl rfl)
theorem dX1_ends_1 : decode cX1_ends 1 = .ok (.iload_n 1, 1) := dk_27 (dk_at dksX1_ends_0 1 rfl rfl)
theorem dX1_ends_2 : decode cX1_ends 2 = .ok (.invokevirtual 95, 3) := dk_182 0 95 (dk_at dksX1_ends_0 2 rfl rfl)
theorem dX1_ends_5 : decode cX1_ends 5 = .ok (.astore 4, 2) := dk_58 4 (dk_at dksX1_ends_0 5 rfl rfl)
theorem dX1_ends_7 : decode cX1_ends 7 = .ok (.aload 4, 2) := dk_25 4 (dk_at dksX1_ends_0 7 rfl rfl)
theorem dX1_ends_9 : decode cX1_ends 9 = .ok (.iload_n 2, 1) := dk_28 (dk_at dksX1_ends_0 9 rfl rfl)
theorem dX1_ends_10 : decode cX1_ends 10 = .ok (.iload_n 3, 1) := dk_29 (dk_at dksX1_ends_0 10 rfl rfl)
theorem dX1_ends_11 : decode cX1_ends 11 = .ok (.invokevirtual 140, 3) := dk_182 0 140 (dk_at dksX1_ends_0 11 rfl rfl)
theorem dX1_ends_14 : decode cX1_ends 14 = .ok (.aload 4, 2) := dk_25 4 (dk_at dksX1_ends_0 14 rfl rfl)
theorem dX1_ends_16 : decode cX1_ends 16 = .ok (.iload_n 2, 1) := dk_28 (dk_at dksX1_ends_0 16 rfl rfl)
theorem dX1_ends_17 : decode cX1_ends 17 = .ok (.iload_n 3, 1) := dk_29 (dk_at dksX1_ends_0 17 rfl rfl)
theorem dX1_ends_18 : decode cX1_ends 18 = .ok (.invokevirtual 143, 3) := dk_182 0 143 (dk_at dksX1_ends_0 18 rfl rfl)
theorem dX1_ends_21 : decode cX1_ends 21 = .ok (.ireturn, 1) := dk_172 (dk_at dksX1_ends_0 21 rfl rfl)
abbrev cX1_bestTilt : ByteArray := prog_1_method_16_code
def yX1_bestTilt : MethodName := ⟨RX1, "bestTilt", "(II)I"⟩
def dkwX1_bestTilt_0 : List UInt8 := [42, 27, 182, 0, 95, 78, 45, 28, 182, 0, 106, 45, 28, 182, 0, 146, 172]
abbrev dktX1_bestTilt_0 : List UInt8 := dkwX1_bestTilt_0 ++ []
theorem dksX1_bestTilt_0 : cX1_bestTilt.data.toList.drop 0 = dktX1_bestTilt_0 := by decide +kernel
theorem dX1_bestTilt_0 : decode cX1_bestTilt 0 = .ok (.aload_n 0, 1) := dk_42 (dk_at dksX1_bestTilt_0 0 rfl rfl)
theorem dX1_bestTilt_1 : decode cX1_bestTilt 1 = .ok (.iload_n 1, 1) := dk_27 (dk_at dksX1_bestTilt_0 1 rfl rfl)
theorem dX1_bestTilt_2 : decode cX1_bestTilt 2 = .ok (.invokevirtual 95, 3) := dk_182 0 95 (dk_at dksX1_bestTilt_0 2 rfl rfl)
theorem dX1_bestTilt_5 : decode cX1_bestTilt 5 = .ok (.astore_n 3, 1) := dk_78 (dk_at dksX1_bestTilt_0 5 rfl rfl)
theorem dX1_bestTilt_6 : decode cX1_bestTilt 6 = .ok (.aload_n 3, 1) := dk_45 (dk_at dksX1_bestTilt_0 6 rfl rfl)
theorem dX1_bestTilt_7 : decode cX1_bestTilt 7 = .ok (.iload_n 2, 1) := dk_28 (dk_at dksX1_bestTilt_0 7 rfl rfl)
theorem dX1_bestTilt_8 : decode cX1_bestTilt 8 = .ok (.invokevirtual 106, 3) := dk_182 0 106 (dk_at dksX1_bestTilt_0 8 rfl rfl)
theorem dX1_bestTilt_11 : decode cX1_bestTilt 11 = .ok (.aload_n 3, 1) := dk_45 (dk_at dksX1_bestTilt_0 11 rfl rfl)
theorem dX1_bestTilt_12 : decode cX1_bestTilt 12 = .ok (.iload_n 2, 1) := dk_28 (dk_at dksX1_bestTilt_0 12 rfl rfl)
theorem dX1_bestTilt_13 : decode cX1_bestTilt 13 = .ok (.invokevirtual 146, 3) := dk_182 0 146 (dk_at dksX1_bestTilt_0 13 rfl rfl)
theorem dX1_bestTilt_16 : decode cX1_bestTilt 16 = .ok (.ireturn, 1) := dk_172 (dk_at dksX1_bestTilt_0 16 rfl rfl)
abbrev cX1_dead : ByteArray := prog_1_method_17_code
def yX1_dead : MethodName := ⟨RX1, "dead", "(I)I"⟩
def dkwX1_dead_0 : List UInt8 := [42, 27, 182, 0, 95, 182, 0, 149, 172]
abbrev dktX1_dead_0 : List UInt8 := dkwX1_dead_0 ++ []
theorem dksX1_dead_0 : cX1_dead.data.toList.drop 0 = dktX1_dead_0 := by decide +kernel
theorem dX1_dead_0 : decode cX1_dead 0 = .ok (.aload_n 0, 1) := dk_42 (dk_at dksX1_dead_0 0 rfl rfl)
theorem dX1_dead_1 : decode cX1_dead 1 = .ok (.iload_n 1, 1) := dk_27 (dk_at dksX1_dead_0 1 rfl rfl)
theorem dX1_dead_2 : decode cX1_dead 2 = .ok (.invokevirtual 95, 3) := dk_182 0 95 (dk_at dksX1_dead_0 2 rfl rfl)
theorem dX1_dead_5 : decode cX1_dead 5 = .ok (.invokevirtual 149, 3) := dk_182 0 149 (dk_at dksX1_dead_0 5 rfl rfl)
theorem dX1_dead_8 : decode cX1_dead 8 = .ok (.ireturn, 1) := dk_172 (dk_at dksX1_dead_0 8 rfl rfl)
abbrev cX1_ledge : ByteArray := prog_1_method_18_code
def yX1_ledge : MethodName := ⟨RX1, "ledge", "(II)I"⟩
def dkwX1_ledge_1 : List UInt8 := [180, 0, 152, 8, 27, 104, 28, 96, 46, 172]
abbrev dktX1_ledge_1 : List UInt8 := dkwX1_ledge_1 ++ []
def dkwX1_ledge_0 : List UInt8 := [42, 180, 0, 39, 27, 184, 0, 91, 193, 0, 87, 184, 0, 13, 3, 7, 28, 184, 0, 72, 42, 180, 0, 51]
abbrev dktX1_ledge_0 : List UInt8 := dkwX1_ledge_0 ++ dktX1_ledge_1
theorem dksX1_ledge_0 : cX1_ledge.data.toList.drop 0 = dktX1_ledge_0 := by decide +kernel
theorem dksX1_ledge_1 : cX1_ledge.data.toList.drop 24 = dktX1_ledge_1 := dk_seg dksX1_ledge_0 24 rfl rfl
theorem dX1_ledge_0 : decode cX1_ledge 0 = .ok (.aload_n 0, 1) := dk_42 (dk_at dksX1_ledge_0 0 rfl rfl)
theorem dX1_ledge_1 : decode cX1_ledge 1 = .ok (.getfield 39, 3) := dk_180 0 39 (dk_at dksX1_ledge_0 1 rfl rfl)
theorem dX1_ledge_4 : decode cX1_ledge 4 = .ok (.iload_n 1, 1) := dk_27 (dk_at dksX1_ledge_0 4 rfl rfl)
theorem dX1_ledge_5 : decode cX1_ledge 5 = .ok (.invokestatic 91, 3) := dk_184 0 91 (dk_at dksX1_ledge_0 5 rfl rfl)
theorem dX1_ledge_8 : decode cX1_ledge 8 = .ok (.instanceof 87, 3) := dk_193 0 87 (dk_at dksX1_ledge_0 8 rfl rfl)
theorem dX1_ledge_11 : decode cX1_ledge 11 = .ok (.invokestatic 13, 3) := dk_184 0 13 (dk_at dksX1_ledge_0 11 rfl rfl)
theorem dX1_ledge_14 : decode cX1_ledge 14 = .ok (.iconst 0, 1) := dk_3 (dk_at dksX1_ledge_0 14 rfl rfl)
theorem dX1_ledge_15 : decode cX1_ledge 15 = .ok (.iconst 4, 1) := dk_7 (dk_at dksX1_ledge_0 15 rfl rfl)
theorem dX1_ledge_16 : decode cX1_ledge 16 = .ok (.iload_n 2, 1) := dk_28 (dk_at dksX1_ledge_0 16 rfl rfl)
theorem dX1_ledge_17 : decode cX1_ledge 17 = .ok (.invokestatic 72, 3) := dk_184 0 72 (dk_at dksX1_ledge_0 17 rfl rfl)
theorem dX1_ledge_20 : decode cX1_ledge 20 = .ok (.aload_n 0, 1) := dk_42 (dk_at dksX1_ledge_0 20 rfl rfl)
theorem dX1_ledge_21 : decode cX1_ledge 21 = .ok (.getfield 51, 3) := dk_180 0 51 (dk_at dksX1_ledge_0 21 rfl rfl)
theorem dX1_ledge_24 : decode cX1_ledge 24 = .ok (.getfield 152, 3) := dk_180 0 152 (dk_at dksX1_ledge_1 0 rfl rfl)
theorem dX1_ledge_27 : decode cX1_ledge 27 = .ok (.iconst 5, 1) := dk_8 (dk_at dksX1_ledge_1 3 rfl rfl)
theorem dX1_ledge_28 : decode cX1_ledge 28 = .ok (.iload_n 1, 1) := dk_27 (dk_at dksX1_ledge_1 4 rfl rfl)
theorem dX1_ledge_29 : decode cX1_ledge 29 = .ok (.imul, 1) := dk_104 (dk_at dksX1_ledge_1 5 rfl rfl)
theorem dX1_ledge_30 : decode cX1_ledge 30 = .ok (.iload_n 2, 1) := dk_28 (dk_at dksX1_ledge_1 6 rfl rfl)
theorem dX1_ledge_31 : decode cX1_ledge 31 = .ok (.iadd, 1) := dk_96 (dk_at dksX1_ledge_1 7 rfl rfl)
theorem dX1_ledge_32 : decode cX1_ledge 32 = .ok (.iaload, 1) := dk_46 (dk_at dksX1_ledge_1 8 rfl rfl)
theorem dX1_ledge_33 : decode cX1_ledge 33 = .ok (.ireturn, 1) := dk_172 (dk_at dksX1_ledge_1 9 rfl rfl)
abbrev cX1_come : ByteArray := prog_1_method_19_code
def yX1_come : MethodName := ⟨RX1, "come", "(II)I"⟩
def dkwX1_come_3 : List UInt8 := [29, 2, 79, 29, 172]
abbrev dktX1_come_3 : List UInt8 := dkwX1_come_3 ++ []
def dkwX1_come_2 : List UInt8 := [183, 0, 157, 182, 0, 68, 87, 42, 180, 0, 51, 180, 0, 159, 29, 27, 79, 42, 180, 0, 51, 180, 0, 162]
abbrev dktX1_come_2 : List UInt8 := dkwX1_come_2 ++ dktX1_come_3
def dkwX1_come_1 : List UInt8 := [16, 10, 162, 0, 7, 4, 167, 0, 4, 3, 184, 0, 77, 42, 180, 0, 43, 187, 0, 155, 89, 28]
abbrev dktX1_come_1 : List UInt8 := dkwX1_come_1 ++ dktX1_come_2
def dkwX1_come_0 : List UInt8 := [3, 17, 1, 244, 27, 184, 0, 72, 4, 16, 9, 28, 184, 0, 72, 42, 180, 0, 43, 182, 0, 76, 62, 29]
abbrev dktX1_come_0 : List UInt8 := dkwX1_come_0 ++ dktX1_come_1
theorem dksX1_come_0 : cX1_come.data.toList.drop 0 = dktX1_come_0 := by decide +kernel
theorem dksX1_come_1 : cX1_come.data.toList.drop 24 = dktX1_come_1 := dk_seg dksX1_come_0 24 rfl rfl
theorem dksX1_come_2 : cX1_come.data.toList.drop 46 = dktX1_come_2 := dk_seg dksX1_come_1 22 rfl rfl
theorem dksX1_come_3 : cX1_come.data.toList.drop 70 = dktX1_come_3 := dk_seg dksX1_come_2 24 rfl rfl
theorem dX1_come_0 : decode cX1_come 0 = .ok (.iconst 0, 1) := dk_3 (dk_at dksX1_come_0 0 rfl rfl)
theorem dX1_come_1 : decode cX1_come 1 = .ok (.sipush 500, 3) := dk_17 1 244 (dk_at dksX1_come_0 1 rfl rfl)
theorem dX1_come_4 : decode cX1_come 4 = .ok (.iload_n 1, 1) := dk_27 (dk_at dksX1_come_0 4 rfl rfl)
theorem dX1_come_5 : decode cX1_come 5 = .ok (.invokestatic 72, 3) := dk_184 0 72 (dk_at dksX1_come_0 5 rfl rfl)
theorem dX1_come_8 : decode cX1_come 8 = .ok (.iconst 1, 1) := dk_4 (dk_at dksX1_come_0 8 rfl rfl)
theorem dX1_come_9 : decode cX1_come 9 = .ok (.bipush 9, 2) := dk_16 9 (dk_at dksX1_come_0 9 rfl rfl)
theorem dX1_come_11 : decode cX1_come 11 = .ok (.iload_n 2, 1) := dk_28 (dk_at dksX1_come_0 11 rfl rfl)
theorem dX1_come_12 : decode cX1_come 12 = .ok (.invokestatic 72, 3) := dk_184 0 72 (dk_at dksX1_come_0 12 rfl rfl)
theorem dX1_come_15 : decode cX1_come 15 = .ok (.aload_n 0, 1) := dk_42 (dk_at dksX1_come_0 15 rfl rfl)
theorem dX1_come_16 : decode cX1_come 16 = .ok (.getfield 43, 3) := dk_180 0 43 (dk_at dksX1_come_0 16 rfl rfl)
theorem dX1_come_19 : decode cX1_come 19 = .ok (.invokevirtual 76, 3) := dk_182 0 76 (dk_at dksX1_come_0 19 rfl rfl)
theorem dX1_come_22 : decode cX1_come 22 = .ok (.istore_n 3, 1) := dk_62 (dk_at dksX1_come_0 22 rfl rfl)
theorem dX1_come_23 : decode cX1_come 23 = .ok (.iload_n 3, 1) := dk_29 (dk_at dksX1_come_0 23 rfl rfl)
theorem dX1_come_24 : decode cX1_come 24 = .ok (.bipush 10, 2) := dk_16 10 (dk_at dksX1_come_1 0 rfl rfl)
theorem dX1_come_26 : decode cX1_come 26 = .ok (.if_icmp .ge 7, 3) := dk_162 0 7 (dk_at dksX1_come_1 2 rfl rfl)
theorem dX1_come_29 : decode cX1_come 29 = .ok (.iconst 1, 1) := dk_4 (dk_at dksX1_come_1 5 rfl rfl)
theorem dX1_come_30 : decode cX1_come 30 = .ok (.goto 4, 3) := dk_167 0 4 (dk_at dksX1_come_1 6 rfl rfl)
theorem dX1_come_33 : decode cX1_come 33 = .ok (.iconst 0, 1) := dk_3 (dk_at dksX1_come_1 9 rfl rfl)
theorem dX1_come_34 : decode cX1_come 34 = .ok (.invokestatic 77, 3) := dk_184 0 77 (dk_at dksX1_come_1 10 rfl rfl)
theorem dX1_come_37 : decode cX1_come 37 = .ok (.aload_n 0, 1) := dk_42 (dk_at dksX1_come_1 13 rfl rfl)
theorem dX1_come_38 : decode cX1_come 38 = .ok (.getfield 43, 3) := dk_180 0 43 (dk_at dksX1_come_1 14 rfl rfl)
theorem dX1_come_41 : decode cX1_come 41 = .ok (.new 155, 3) := dk_187 0 155 (dk_at dksX1_come_1 17 rfl rfl)
theorem dX1_come_44 : decode cX1_come 44 = .ok (.dup, 1) := dk_89 (dk_at dksX1_come_1 20 rfl rfl)
theorem dX1_come_45 : decode cX1_come 45 = .ok (.iload_n 2, 1) := dk_28 (dk_at dksX1_come_1 21 rfl rfl)
theorem dX1_come_46 : decode cX1_come 46 = .ok (.invokespecial 157, 3) := dk_183 0 157 (dk_at dksX1_come_2 0 rfl rfl)
theorem dX1_come_49 : decode cX1_come 49 = .ok (.invokevirtual 68, 3) := dk_182 0 68 (dk_at dksX1_come_2 3 rfl rfl)
theorem dX1_come_52 : decode cX1_come 52 = .ok (.pop, 1) := dk_87 (dk_at dksX1_come_2 6 rfl rfl)
theorem dX1_come_53 : decode cX1_come 53 = .ok (.aload_n 0, 1) := dk_42 (dk_at dksX1_come_2 7 rfl rfl)
theorem dX1_come_54 : decode cX1_come 54 = .ok (.getfield 51, 3) := dk_180 0 51 (dk_at dksX1_come_2 8 rfl rfl)
theorem dX1_come_57 : decode cX1_come 57 = .ok (.getfield 159, 3) := dk_180 0 159 (dk_at dksX1_come_2 11 rfl rfl)
theorem dX1_come_60 : decode cX1_come 60 = .ok (.iload_n 3, 1) := dk_29 (dk_at dksX1_come_2 14 rfl rfl)
theorem dX1_come_61 : decode cX1_come 61 = .ok (.iload_n 1, 1) := dk_27 (dk_at dksX1_come_2 15 rfl rfl)
theorem dX1_come_62 : decode cX1_come 62 = .ok (.iastore, 1) := dk_79 (dk_at dksX1_come_2 16 rfl rfl)
theorem dX1_come_63 : decode cX1_come 63 = .ok (.aload_n 0, 1) := dk_42 (dk_at dksX1_come_2 17 rfl rfl)
theorem dX1_come_64 : decode cX1_come 64 = .ok (.getfield 51, 3) := dk_180 0 51 (dk_at dksX1_come_2 18 rfl rfl)
theorem dX1_come_67 : decode cX1_come 67 = .ok (.getfield 162, 3) := dk_180 0 162 (dk_at dksX1_come_2 21 rfl rfl)
theorem dX1_come_70 : decode cX1_come 70 = .ok (.iload_n 3, 1) := dk_29 (dk_at dksX1_come_3 0 rfl rfl)
theorem dX1_come_71 : decode cX1_come 71 = .ok (.iconst (-1), 1) := dk_2 (dk_at dksX1_come_3 1 rfl rfl)
theorem dX1_come_72 : decode cX1_come 72 = .ok (.iastore, 1) := dk_79 (dk_at dksX1_come_3 2 rfl rfl)
theorem dX1_come_73 : decode cX1_come 73 = .ok (.iload_n 3, 1) := dk_29 (dk_at dksX1_come_3 3 rfl rfl)
theorem dX1_come_74 : decode cX1_come 74 = .ok (.ireturn, 1) := dk_172 (dk_at dksX1_come_3 4 rfl rfl)
abbrev cX1_go : ByteArray := prog_1_method_20_code
def yX1_go : MethodName := ⟨RX1, "go", "(II)I"⟩
def dkwX1_go_1 : List UInt8 := [180, 0, 51, 180, 0, 162, 27, 46, 62, 42, 180, 0, 51, 27, 28, 182, 0, 165, 29, 172]
abbrev dktX1_go_1 : List UInt8 := dkwX1_go_1 ++ []
def dkwX1_go_0 : List UInt8 := [42, 180, 0, 43, 27, 184, 0, 91, 87, 28, 2, 159, 0, 12, 42, 180, 0, 39, 28, 184, 0, 91, 87, 42]
abbrev dktX1_go_0 : List UInt8 := dkwX1_go_0 ++ dktX1_go_1
theorem dksX1_go_0 : cX1_go.data.toList.drop 0 = dktX1_go_0 := by decide +kernel
theorem dksX1_go_1 : cX1_go.data.toList.drop 24 = dktX1_go_1 := dk_seg dksX1_go_0 24 rfl rfl
theorem dX1_go_0 : decode cX1_go 0 = .ok (.aload_n 0, 1) := dk_42 (dk_at dksX1_go_0 0 rfl rfl)
theorem dX1_go_1 : decode cX1_go 1 = .ok (.getfield 43, 3) := dk_180 0 43 (dk_at dksX1_go_0 1 rfl rfl)
theorem dX1_go_4 : decode cX1_go 4 = .ok (.iload_n 1, 1) := dk_27 (dk_at dksX1_go_0 4 rfl rfl)
theorem dX1_go_5 : decode cX1_go 5 = .ok (.invokestatic 91, 3) := dk_184 0 91 (dk_at dksX1_go_0 5 rfl rfl)
theorem dX1_go_8 : decode cX1_go 8 = .ok (.pop, 1) := dk_87 (dk_at dksX1_go_0 8 rfl rfl)
theorem dX1_go_9 : decode cX1_go 9 = .ok (.iload_n 2, 1) := dk_28 (dk_at dksX1_go_0 9 rfl rfl)
theorem dX1_go_10 : decode cX1_go 10 = .ok (.iconst (-1), 1) := dk_2 (dk_at dksX1_go_0 10 rfl rfl)
theorem dX1_go_11 : decode cX1_go 11 = .ok (.if_icmp .eq 12, 3) := dk_159 0 12 (dk_at dksX1_go_0 11 rfl rfl)
theorem dX1_go_14 : decode cX1_go 14 = .ok (.aload_n 0, 1) := dk_42 (dk_at dksX1_go_0 14 rfl rfl)
theorem dX1_go_15 : decode cX1_go 15 = .ok (.getfield 39, 3) := dk_180 0 39 (dk_at dksX1_go_0 15 rfl rfl)
theorem dX1_go_18 : decode cX1_go 18 = .ok (.iload_n 2, 1) := dk_28 (dk_at dksX1_go_0 18 rfl rfl)
theorem dX1_go_19 : decode cX1_go 19 = .ok (.invokestatic 91, 3) := dk_184 0 91 (dk_at dksX1_go_0 19 rfl rfl)
theorem dX1_go_22 : decode cX1_go 22 = .ok (.pop, 1) := dk_87 (dk_at dksX1_go_0 22 rfl rfl)
theorem dX1_go_23 : decode cX1_go 23 = .ok (.aload_n 0, 1) := dk_42 (dk_at dksX1_go_0 23 rfl rfl)
theorem dX1_go_24 : decode cX1_go 24 = .ok (.getfield 51, 3) := dk_180 0 51 (dk_at dksX1_go_1 0 rfl rfl)
theorem dX1_go_27 : decode cX1_go 27 = .ok (.getfield 162, 3) := dk_180 0 162 (dk_at dksX1_go_1 3 rfl rfl)
theorem dX1_go_30 : decode cX1_go 30 = .ok (.iload_n 1, 1) := dk_27 (dk_at dksX1_go_1 6 rfl rfl)
theorem dX1_go_31 : decode cX1_go 31 = .ok (.iaload, 1) := dk_46 (dk_at dksX1_go_1 7 rfl rfl)
theorem dX1_go_32 : decode cX1_go 32 = .ok (.istore_n 3, 1) := dk_62 (dk_at dksX1_go_1 8 rfl rfl)
theorem dX1_go_33 : decode cX1_go 33 = .ok (.aload_n 0, 1) := dk_42 (dk_at dksX1_go_1 9 rfl rfl)
theorem dX1_go_34 : decode cX1_go 34 = .ok (.getfield 51, 3) := dk_180 0 51 (dk_at dksX1_go_1 10 rfl rfl)
theorem dX1_go_37 : decode cX1_go 37 = .ok (.iload_n 1, 1) := dk_27 (dk_at dksX1_go_1 13 rfl rfl)
theorem dX1_go_38 : decode cX1_go 38 = .ok (.iload_n 2, 1) := dk_28 (dk_at dksX1_go_1 14 rfl rfl)
theorem dX1_go_39 : decode cX1_go 39 = .ok (.invokevirtual 165, 3) := dk_182 0 165 (dk_at dksX1_go_1 15 rfl rfl)
theorem dX1_go_42 : decode cX1_go 42 = .ok (.iload_n 3, 1) := dk_29 (dk_at dksX1_go_1 18 rfl rfl)
theorem dX1_go_43 : decode cX1_go 43 = .ok (.ireturn, 1) := dk_172 (dk_at dksX1_go_1 19 rfl rfl)
abbrev cX1_play : ByteArray := prog_1_method_21_code
def yX1_play : MethodName := ⟨RX1, "play", "(IIII)I"⟩
def dkwX1_play_3 : List UInt8 := [21, 4, 182, 0, 169, 172]
abbrev dktX1_play_3 : List UInt8 := dkwX1_play_3 ++ []
def dkwX1_play_2 : List UInt8 := [180, 0, 159, 27, 46, 158, 0, 7, 4, 167, 0, 4, 3, 184, 0, 77, 42, 180, 0, 51, 27, 25, 5, 29]
abbrev dktX1_play_2 : List UInt8 := dkwX1_play_2 ++ dktX1_play_3
def dkwX1_play_1 : List UInt8 := [29, 21, 4, 182, 0, 168, 42, 180, 0, 51, 180, 0, 121, 28, 51, 154, 0, 19, 42, 180, 0, 51]
abbrev dktX1_play_1 : List UInt8 := dkwX1_play_1 ++ dktX1_play_2
def dkwX1_play_0 : List UInt8 := [42, 180, 0, 43, 27, 184, 0, 91, 87, 42, 180, 0, 39, 28, 184, 0, 91, 192, 0, 63, 58, 5, 25, 5]
abbrev dktX1_play_0 : List UInt8 := dkwX1_play_0 ++ dktX1_play_1
theorem dksX1_play_0 : cX1_play.data.toList.drop 0 = dktX1_play_0 := by decide +kernel
theorem dksX1_play_1 : cX1_play.data.toList.drop 24 = dktX1_play_1 := dk_seg dksX1_play_0 24 rfl rfl
theorem dksX1_play_2 : cX1_play.data.toList.drop 46 = dktX1_play_2 := dk_seg dksX1_play_1 22 rfl rfl
theorem dksX1_play_3 : cX1_play.data.toList.drop 70 = dktX1_play_3 := dk_seg dksX1_play_2 24 rfl rfl
theorem dX1_play_0 : decode cX1_play 0 = .ok (.aload_n 0, 1) := dk_42 (dk_at dksX1_play_0 0 rfl rfl)
theorem dX1_play_1 : decode cX1_play 1 = .ok (.getfield 43, 3) := dk_180 0 43 (dk_at dksX1_play_0 1 rfl rfl)
theorem dX1_play_4 : decode cX1_play 4 = .ok (.iload_n 1, 1) := dk_27 (dk_at dksX1_play_0 4 rfl rfl)
theorem dX1_play_5 : decode cX1_play 5 = .ok (.invokestatic 91, 3) := dk_184 0 91 (dk_at dksX1_play_0 5 rfl rfl)
theorem dX1_play_8 : decode cX1_play 8 = .ok (.pop, 1) := dk_87 (dk_at dksX1_play_0 8 rfl rfl)
theorem dX1_play_9 : decode cX1_play 9 = .ok (.aload_n 0, 1) := dk_42 (dk_at dksX1_play_0 9 rfl rfl)
theorem dX1_play_10 : decode cX1_play 10 = .ok (.getfield 39, 3) := dk_180 0 39 (dk_at dksX1_play_0 10 rfl rfl)
theorem dX1_play_13 : decode cX1_play 13 = .ok (.iload_n 2, 1) := dk_28 (dk_at dksX1_play_0 13 rfl rfl)
theorem dX1_play_14 : decode cX1_play 14 = .ok (.invokestatic 91, 3) := dk_184 0 91 (dk_at dksX1_play_0 14 rfl rfl)
theorem dX1_play_17 : decode cX1_play 17 = .ok (.checkcast 63, 3) := dk_192 0 63 (dk_at dksX1_play_0 17 rfl rfl)
theorem dX1_play_20 : decode cX1_play 20 = .ok (.astore 5, 2) := dk_58 5 (dk_at dksX1_play_0 20 rfl rfl)
theorem dX1_play_22 : decode cX1_play 22 = .ok (.aload 5, 2) := dk_25 5 (dk_at dksX1_play_0 22 rfl rfl)
theorem dX1_play_24 : decode cX1_play 24 = .ok (.iload_n 3, 1) := dk_29 (dk_at dksX1_play_1 0 rfl rfl)
theorem dX1_play_25 : decode cX1_play 25 = .ok (.iload 4, 2) := dk_21 4 (dk_at dksX1_play_1 1 rfl rfl)
theorem dX1_play_27 : decode cX1_play 27 = .ok (.invokevirtual 168, 3) := dk_182 0 168 (dk_at dksX1_play_1 3 rfl rfl)
theorem dX1_play_30 : decode cX1_play 30 = .ok (.aload_n 0, 1) := dk_42 (dk_at dksX1_play_1 6 rfl rfl)
theorem dX1_play_31 : decode cX1_play 31 = .ok (.getfield 51, 3) := dk_180 0 51 (dk_at dksX1_play_1 7 rfl rfl)
theorem dX1_play_34 : decode cX1_play 34 = .ok (.getfield 121, 3) := dk_180 0 121 (dk_at dksX1_play_1 10 rfl rfl)
theorem dX1_play_37 : decode cX1_play 37 = .ok (.iload_n 2, 1) := dk_28 (dk_at dksX1_play_1 13 rfl rfl)
theorem dX1_play_38 : decode cX1_play 38 = .ok (.baload, 1) := dk_51 (dk_at dksX1_play_1 14 rfl rfl)
theorem dX1_play_39 : decode cX1_play 39 = .ok (.ifCond .ne 19, 3) := dk_154 0 19 (dk_at dksX1_play_1 15 rfl rfl)
theorem dX1_play_42 : decode cX1_play 42 = .ok (.aload_n 0, 1) := dk_42 (dk_at dksX1_play_1 18 rfl rfl)
theorem dX1_play_43 : decode cX1_play 43 = .ok (.getfield 51, 3) := dk_180 0 51 (dk_at dksX1_play_1 19 rfl rfl)
theorem dX1_play_46 : decode cX1_play 46 = .ok (.getfield 159, 3) := dk_180 0 159 (dk_at dksX1_play_2 0 rfl rfl)
theorem dX1_play_49 : decode cX1_play 49 = .ok (.iload_n 1, 1) := dk_27 (dk_at dksX1_play_2 3 rfl rfl)
theorem dX1_play_50 : decode cX1_play 50 = .ok (.iaload, 1) := dk_46 (dk_at dksX1_play_2 4 rfl rfl)
theorem dX1_play_51 : decode cX1_play 51 = .ok (.ifCond .le 7, 3) := dk_158 0 7 (dk_at dksX1_play_2 5 rfl rfl)
theorem dX1_play_54 : decode cX1_play 54 = .ok (.iconst 1, 1) := dk_4 (dk_at dksX1_play_2 8 rfl rfl)
theorem dX1_play_55 : decode cX1_play 55 = .ok (.goto 4, 3) := dk_167 0 4 (dk_at dksX1_play_2 9 rfl rfl)
theorem dX1_play_58 : decode cX1_play 58 = .ok (.iconst 0, 1) := dk_3 (dk_at dksX1_play_2 12 rfl rfl)
theorem dX1_play_59 : decode cX1_play 59 = .ok (.invokestatic 77, 3) := dk_184 0 77 (dk_at dksX1_play_2 13 rfl rfl)
theorem dX1_play_62 : decode cX1_play 62 = .ok (.aload_n 0, 1) := dk_42 (dk_at dksX1_play_2 16 rfl rfl)
theorem dX1_play_63 : decode cX1_play 63 = .ok (.getfield 51, 3) := dk_180 0 51 (dk_at dksX1_play_2 17 rfl rfl)
theorem dX1_play_66 : decode cX1_play 66 = .ok (.iload_n 1, 1) := dk_27 (dk_at dksX1_play_2 20 rfl rfl)
theorem dX1_play_67 : decode cX1_play 67 = .ok (.aload 5, 2) := dk_25 5 (dk_at dksX1_play_2 21 rfl rfl)
theorem dX1_play_69 : decode cX1_play 69 = .ok (.iload_n 3, 1) := dk_29 (dk_at dksX1_play_2 23 rfl rfl)
theorem dX1_play_70 : decode cX1_play 70 = .ok (.iload 4, 2) := dk_21 4 (dk_at dksX1_play_3 0 rfl rfl)
theorem dX1_play_72 : decode cX1_play 72 = .ok (.invokevirtual 169, 3) := dk_182 0 169 (dk_at dksX1_play_3 2 rfl rfl)
theorem dX1_play_75 : decode cX1_play 75 = .ok (.ireturn, 1) := dk_172 (dk_at dksX1_play_3 5 rfl rfl)
abbrev cX1_player : ByteArray := prog_1_method_23_code
def yX1_player : MethodName := ⟨RX1, "player", "(II)I"⟩
def dkwX1_player_0 : List UInt8 := [42, 180, 0, 43, 27, 184, 0, 91, 87, 28, 16, 6, 184, 0, 25, 42, 27, 28, 182, 0, 185, 172]
abbrev dktX1_player_0 : List UInt8 := dkwX1_player_0 ++ []
theorem dksX1_player_0 : cX1_player.data.toList.drop 0 = dktX1_player_0 := by decide +kernel
theorem dX1_player_0 : decode cX1_player 0 = .ok (.aload_n 0, 1) := dk_42 (dk_at dksX1_player_0 0 rfl rfl)
theorem dX1_player_1 : decode cX1_player 1 = .ok (.getfield 43, 3) := dk_180 0 43 (dk_at dksX1_player_0 1 rfl rfl)
theorem dX1_player_4 : decode cX1_player 4 = .ok (.iload_n 1, 1) := dk_27 (dk_at dksX1_player_0 4 rfl rfl)
theorem dX1_player_5 : decode cX1_player 5 = .ok (.invokestatic 91, 3) := dk_184 0 91 (dk_at dksX1_player_0 5 rfl rfl)
theorem dX1_player_8 : decode cX1_player 8 = .ok (.pop, 1) := dk_87 (dk_at dksX1_player_0 8 rfl rfl)
theorem dX1_player_9 : decode cX1_player 9 = .ok (.iload_n 2, 1) := dk_28 (dk_at dksX1_player_0 9 rfl rfl)
theorem dX1_player_10 : decode cX1_player 10 = .ok (.bipush 6, 2) := dk_16 6 (dk_at dksX1_player_0 10 rfl rfl)
theorem dX1_player_12 : decode cX1_player 12 = .ok (.invokestatic 25, 3) := dk_184 0 25 (dk_at dksX1_player_0 12 rfl rfl)
theorem dX1_player_15 : decode cX1_player 15 = .ok (.aload_n 0, 1) := dk_42 (dk_at dksX1_player_0 15 rfl rfl)
theorem dX1_player_16 : decode cX1_player 16 = .ok (.iload_n 1, 1) := dk_27 (dk_at dksX1_player_0 16 rfl rfl)
theorem dX1_player_17 : decode cX1_player 17 = .ok (.iload_n 2, 1) := dk_28 (dk_at dksX1_player_0 17 rfl rfl)
theorem dX1_player_18 : decode cX1_player 18 = .ok (.invokevirtual 185, 3) := dk_182 0 185 (dk_at dksX1_player_0 18 rfl rfl)
theorem dX1_player_21 : decode cX1_player 21 = .ok (.ireturn, 1) := dk_172 (dk_at dksX1_player_0 21 rfl rfl)
abbrev cX1_setSkill : ByteArray := prog_1_method_24_code
def yX1_setSkill : MethodName := ⟨RX1, "setSkill", "(I)I"⟩
def dkwX1_setSkill_0 : List UInt8 := [3, 8, 27, 184, 0, 72, 42, 180, 0, 188, 61, 42, 27, 181, 0, 188, 28, 172]
abbrev dktX1_setSkill_0 : List UInt8 := dkwX1_setSkill_0 ++ []
theorem dksX1_setSkill_0 : cX1_setSkill.data.toList.drop 0 = dktX1_setSkill_0 := by decide +kernel
theorem dX1_setSkill_0 : decode cX1_setSkill 0 = .ok (.iconst 0, 1) := dk_3 (dk_at dksX1_setSkill_0 0 rfl rfl)
theorem dX1_setSkill_1 : decode cX1_setSkill 1 = .ok (.iconst 5, 1) := dk_8 (dk_at dksX1_setSkill_0 1 rfl rfl)
theorem dX1_setSkill_2 : decode cX1_setSkill 2 = .ok (.iload_n 1, 1) := dk_27 (dk_at dksX1_setSkill_0 2 rfl rfl)
theorem dX1_setSkill_3 : decode cX1_setSkill 3 = .ok (.invokestatic 72, 3) := dk_184 0 72 (dk_at dksX1_setSkill_0 3 rfl rfl)
theorem dX1_setSkill_6 : decode cX1_setSkill 6 = .ok (.aload_n 0, 1) := dk_42 (dk_at dksX1_setSkill_0 6 rfl rfl)
theorem dX1_setSkill_7 : decode cX1_setSkill 7 = .ok (.getfield 188, 3) := dk_180 0 188 (dk_at dksX1_setSkill_0 7 rfl rfl)
theorem dX1_setSkill_10 : decode cX1_setSkill 10 = .ok (.istore_n 2, 1) := dk_61 (dk_at dksX1_setSkill_0 10 rfl rfl)
theorem dX1_setSkill_11 : decode cX1_setSkill 11 = .ok (.aload_n 0, 1) := dk_42 (dk_at dksX1_setSkill_0 11 rfl rfl)
theorem dX1_setSkill_12 : decode cX1_setSkill 12 = .ok (.iload_n 1, 1) := dk_27 (dk_at dksX1_setSkill_0 12 rfl rfl)
theorem dX1_setSkill_13 : decode cX1_setSkill 13 = .ok (.putfield 188, 3) := dk_181 0 188 (dk_at dksX1_setSkill_0 13 rfl rfl)
theorem dX1_setSkill_16 : decode cX1_setSkill 16 = .ok (.iload_n 2, 1) := dk_28 (dk_at dksX1_setSkill_0 16 rfl rfl)
theorem dX1_setSkill_17 : decode cX1_setSkill 17 = .ok (.ireturn, 1) := dk_172 (dk_at dksX1_setSkill_0 17 rfl rfl)
abbrev cX1_call : ByteArray := prog_1_method_25_code
def yX1_call : MethodName := ⟨RX1, "call", "(I)I"⟩
def dkwX1_call_1 : List UInt8 := [167, 0, 4, 3, 184, 0, 77, 42, 180, 0, 51, 27, 182, 0, 194, 42, 180, 0, 51, 180, 0, 197, 172]
abbrev dktX1_call_1 : List UInt8 := dkwX1_call_1 ++ []
def dkwX1_call_0 : List UInt8 := [42, 180, 0, 39, 27, 184, 0, 91, 87, 42, 180, 0, 51, 27, 182, 0, 191, 2, 160, 0, 7, 4]
abbrev dktX1_call_0 : List UInt8 := dkwX1_call_0 ++ dktX1_call_1
theorem dksX1_call_0 : cX1_call.data.toList.drop 0 = dktX1_call_0 := by decide +kernel
theorem dksX1_call_1 : cX1_call.data.toList.drop 22 = dktX1_call_1 := dk_seg dksX1_call_0 22 rfl rfl
theorem dX1_call_0 : decode cX1_call 0 = .ok (.aload_n 0, 1) := dk_42 (dk_at dksX1_call_0 0 rfl rfl)
theorem dX1_call_1 : decode cX1_call 1 = .ok (.getfield 39, 3) := dk_180 0 39 (dk_at dksX1_call_0 1 rfl rfl)
theorem dX1_call_4 : decode cX1_call 4 = .ok (.iload_n 1, 1) := dk_27 (dk_at dksX1_call_0 4 rfl rfl)
theorem dX1_call_5 : decode cX1_call 5 = .ok (.invokestatic 91, 3) := dk_184 0 91 (dk_at dksX1_call_0 5 rfl rfl)
theorem dX1_call_8 : decode cX1_call 8 = .ok (.pop, 1) := dk_87 (dk_at dksX1_call_0 8 rfl rfl)
theorem dX1_call_9 : decode cX1_call 9 = .ok (.aload_n 0, 1) := dk_42 (dk_at dksX1_call_0 9 rfl rfl)
theorem dX1_call_10 : decode cX1_call 10 = .ok (.getfield 51, 3) := dk_180 0 51 (dk_at dksX1_call_0 10 rfl rfl)
theorem dX1_call_13 : decode cX1_call 13 = .ok (.iload_n 1, 1) := dk_27 (dk_at dksX1_call_0 13 rfl rfl)
theorem dX1_call_14 : decode cX1_call 14 = .ok (.invokevirtual 191, 3) := dk_182 0 191 (dk_at dksX1_call_0 14 rfl rfl)
theorem dX1_call_17 : decode cX1_call 17 = .ok (.iconst (-1), 1) := dk_2 (dk_at dksX1_call_0 17 rfl rfl)
theorem dX1_call_18 : decode cX1_call 18 = .ok (.if_icmp .ne 7, 3) := dk_160 0 7 (dk_at dksX1_call_0 18 rfl rfl)
theorem dX1_call_21 : decode cX1_call 21 = .ok (.iconst 1, 1) := dk_4 (dk_at dksX1_call_0 21 rfl rfl)
theorem dX1_call_22 : decode cX1_call 22 = .ok (.goto 4, 3) := dk_167 0 4 (dk_at dksX1_call_1 0 rfl rfl)
theorem dX1_call_25 : decode cX1_call 25 = .ok (.iconst 0, 1) := dk_3 (dk_at dksX1_call_1 3 rfl rfl)
theorem dX1_call_26 : decode cX1_call 26 = .ok (.invokestatic 77, 3) := dk_184 0 77 (dk_at dksX1_call_1 4 rfl rfl)
theorem dX1_call_29 : decode cX1_call 29 = .ok (.aload_n 0, 1) := dk_42 (dk_at dksX1_call_1 7 rfl rfl)
theorem dX1_call_30 : decode cX1_call 30 = .ok (.getfield 51, 3) := dk_180 0 51 (dk_at dksX1_call_1 8 rfl rfl)
theorem dX1_call_33 : decode cX1_call 33 = .ok (.iload_n 1, 1) := dk_27 (dk_at dksX1_call_1 11 rfl rfl)
theorem dX1_call_34 : decode cX1_call 34 = .ok (.invokevirtual 194, 3) := dk_182 0 194 (dk_at dksX1_call_1 12 rfl rfl)
theorem dX1_call_37 : decode cX1_call 37 = .ok (.aload_n 0, 1) := dk_42 (dk_at dksX1_call_1 15 rfl rfl)
theorem dX1_call_38 : decode cX1_call 38 = .ok (.getfield 51, 3) := dk_180 0 51 (dk_at dksX1_call_1 16 rfl rfl)
theorem dX1_call_41 : decode cX1_call 41 = .ok (.getfield 197, 3) := dk_180 0 197 (dk_at dksX1_call_1 19 rfl rfl)
theorem dX1_call_44 : decode cX1_call 44 = .ok (.ireturn, 1) := dk_172 (dk_at dksX1_call_1 22 rfl rfl)
abbrev cX1_repair : ByteArray := prog_1_method_26_code
def yX1_repair : MethodName := ⟨RX1, "repair", "(I)I"⟩
def dkwX1_repair_0 : List UInt8 := [27, 42, 180, 0, 51, 180, 0, 197, 184, 0, 25, 42, 180, 0, 51, 180, 0, 200, 27, 46, 172]
abbrev dktX1_repair_0 : List UInt8 := dkwX1_repair_0 ++ []
theorem dksX1_repair_0 : cX1_repair.data.toList.drop 0 = dktX1_repair_0 := by decide +kernel
theorem dX1_repair_0 : decode cX1_repair 0 = .ok (.iload_n 1, 1) := dk_27 (dk_at dksX1_repair_0 0 rfl rfl)
theorem dX1_repair_1 : decode cX1_repair 1 = .ok (.aload_n 0, 1) := dk_42 (dk_at dksX1_repair_0 1 rfl rfl)
theorem dX1_repair_2 : decode cX1_repair 2 = .ok (.getfield 51, 3) := dk_180 0 51 (dk_at dksX1_repair_0 2 rfl rfl)
theorem dX1_repair_5 : decode cX1_repair 5 = .ok (.getfield 197, 3) := dk_180 0 197 (dk_at dksX1_repair_0 5 rfl rfl)
theorem dX1_repair_8 : decode cX1_repair 8 = .ok (.invokestatic 25, 3) := dk_184 0 25 (dk_at dksX1_repair_0 8 rfl rfl)
theorem dX1_repair_11 : decode cX1_repair 11 = .ok (.aload_n 0, 1) := dk_42 (dk_at dksX1_repair_0 11 rfl rfl)
theorem dX1_repair_12 : decode cX1_repair 12 = .ok (.getfield 51, 3) := dk_180 0 51 (dk_at dksX1_repair_0 12 rfl rfl)
theorem dX1_repair_15 : decode cX1_repair 15 = .ok (.getfield 200, 3) := dk_180 0 200 (dk_at dksX1_repair_0 15 rfl rfl)
theorem dX1_repair_18 : decode cX1_repair 18 = .ok (.iload_n 1, 1) := dk_27 (dk_at dksX1_repair_0 18 rfl rfl)
theorem dX1_repair_19 : decode cX1_repair 19 = .ok (.iaload, 1) := dk_46 (dk_at dksX1_repair_0 19 rfl rfl)
theorem dX1_repair_20 : decode cX1_repair 20 = .ok (.ireturn, 1) := dk_172 (dk_at dksX1_repair_0 20 rfl rfl)
abbrev cX1_pass : ByteArray := prog_1_method_28_code
def yX1_pass : MethodName := ⟨RX1, "pass", "(I)I"⟩
def dkwX1_pass_0 : List UInt8 := [4, 17, 0, 200, 27, 184, 0, 72, 42, 180, 0, 51, 27, 184, 0, 206, 172]
abbrev dktX1_pass_0 : List UInt8 := dkwX1_pass_0 ++ []
theorem dksX1_pass_0 : cX1_pass.data.toList.drop 0 = dktX1_pass_0 := by decide +kernel
theorem dX1_pass_0 : decode cX1_pass 0 = .ok (.iconst 1, 1) := dk_4 (dk_at dksX1_pass_0 0 rfl rfl)
theorem dX1_pass_1 : decode cX1_pass 1 = .ok (.sipush 200, 3) := dk_17 0 200 (dk_at dksX1_pass_0 1 rfl rfl)
theorem dX1_pass_4 : decode cX1_pass 4 = .ok (.iload_n 1, 1) := dk_27 (dk_at dksX1_pass_0 4 rfl rfl)
theorem dX1_pass_5 : decode cX1_pass 5 = .ok (.invokestatic 72, 3) := dk_184 0 72 (dk_at dksX1_pass_0 5 rfl rfl)
theorem dX1_pass_8 : decode cX1_pass 8 = .ok (.aload_n 0, 1) := dk_42 (dk_at dksX1_pass_0 8 rfl rfl)
theorem dX1_pass_9 : decode cX1_pass 9 = .ok (.getfield 51, 3) := dk_180 0 51 (dk_at dksX1_pass_0 9 rfl rfl)
theorem dX1_pass_12 : decode cX1_pass 12 = .ok (.iload_n 1, 1) := dk_27 (dk_at dksX1_pass_0 12 rfl rfl)
theorem dX1_pass_13 : decode cX1_pass 13 = .ok (.invokestatic 206, 3) := dk_184 0 206 (dk_at dksX1_pass_0 13 rfl rfl)
theorem dX1_pass_16 : decode cX1_pass 16 = .ok (.ireturn, 1) := dk_172 (dk_at dksX1_pass_0 16 rfl rfl)
abbrev cX1_pass_2 : ByteArray := prog_1_method_27_code
def yX1_pass_2 : MethodName := ⟨RX1, "pass", "(LPennyArcade$Hall;I)I"⟩
def dkwX1_pass_2_0 : List UInt8 := [3, 61, 3, 62, 29, 27, 162, 0, 16, 28, 42, 182, 0, 203, 96, 61, 132, 3, 1, 167, 255, 241, 28, 172]
abbrev dktX1_pass_2_0 : List UInt8 := dkwX1_pass_2_0 ++ []
theorem dksX1_pass_2_0 : cX1_pass_2.data.toList.drop 0 = dktX1_pass_2_0 := by decide +kernel
theorem dX1_pass_2_0 : decode cX1_pass_2 0 = .ok (.iconst 0, 1) := dk_3 (dk_at dksX1_pass_2_0 0 rfl rfl)
theorem dX1_pass_2_1 : decode cX1_pass_2 1 = .ok (.istore_n 2, 1) := dk_61 (dk_at dksX1_pass_2_0 1 rfl rfl)
theorem dX1_pass_2_2 : decode cX1_pass_2 2 = .ok (.iconst 0, 1) := dk_3 (dk_at dksX1_pass_2_0 2 rfl rfl)
theorem dX1_pass_2_3 : decode cX1_pass_2 3 = .ok (.istore_n 3, 1) := dk_62 (dk_at dksX1_pass_2_0 3 rfl rfl)
theorem dX1_pass_2_4 : decode cX1_pass_2 4 = .ok (.iload_n 3, 1) := dk_29 (dk_at dksX1_pass_2_0 4 rfl rfl)
theorem dX1_pass_2_5 : decode cX1_pass_2 5 = .ok (.iload_n 1, 1) := dk_27 (dk_at dksX1_pass_2_0 5 rfl rfl)
theorem dX1_pass_2_6 : decode cX1_pass_2 6 = .ok (.if_icmp .ge 16, 3) := dk_162 0 16 (dk_at dksX1_pass_2_0 6 rfl rfl)
theorem dX1_pass_2_9 : decode cX1_pass_2 9 = .ok (.iload_n 2, 1) := dk_28 (dk_at dksX1_pass_2_0 9 rfl rfl)
theorem dX1_pass_2_10 : decode cX1_pass_2 10 = .ok (.aload_n 0, 1) := dk_42 (dk_at dksX1_pass_2_0 10 rfl rfl)
theorem dX1_pass_2_11 : decode cX1_pass_2 11 = .ok (.invokevirtual 203, 3) := dk_182 0 203 (dk_at dksX1_pass_2_0 11 rfl rfl)
theorem dX1_pass_2_14 : decode cX1_pass_2 14 = .ok (.iadd, 1) := dk_96 (dk_at dksX1_pass_2_0 14 rfl rfl)
theorem dX1_pass_2_15 : decode cX1_pass_2 15 = .ok (.istore_n 2, 1) := dk_61 (dk_at dksX1_pass_2_0 15 rfl rfl)
theorem dX1_pass_2_16 : decode cX1_pass_2 16 = .ok (.iinc 3 1, 3) := dk_132 3 1 (dk_at dksX1_pass_2_0 16 rfl rfl)
theorem dX1_pass_2_19 : decode cX1_pass_2 19 = .ok (.goto (-15), 3) := dk_167 255 241 (dk_at dksX1_pass_2_0 19 rfl rfl)
theorem dX1_pass_2_22 : decode cX1_pass_2 22 = .ok (.iload_n 2, 1) := dk_28 (dk_at dksX1_pass_2_0 22 rfl rfl)
theorem dX1_pass_2_23 : decode cX1_pass_2 23 = .ok (.ireturn, 1) := dk_172 (dk_at dksX1_pass_2_0 23 rfl rfl)
abbrev cX1_count : ByteArray := prog_1_method_30_code
def yX1_count : MethodName := ⟨RX1, "count", "(I)I"⟩
def dkwX1_count_0 : List UInt8 := [27, 16, 10, 184, 0, 25, 42, 27, 182, 0, 225, 172]
abbrev dktX1_count_0 : List UInt8 := dkwX1_count_0 ++ []
theorem dksX1_count_0 : cX1_count.data.toList.drop 0 = dktX1_count_0 := by decide +kernel
theorem dX1_count_0 : decode cX1_count 0 = .ok (.iload_n 1, 1) := dk_27 (dk_at dksX1_count_0 0 rfl rfl)
theorem dX1_count_1 : decode cX1_count 1 = .ok (.bipush 10, 2) := dk_16 10 (dk_at dksX1_count_0 1 rfl rfl)
theorem dX1_count_3 : decode cX1_count 3 = .ok (.invokestatic 25, 3) := dk_184 0 25 (dk_at dksX1_count_0 3 rfl rfl)
theorem dX1_count_6 : decode cX1_count 6 = .ok (.aload_n 0, 1) := dk_42 (dk_at dksX1_count_0 6 rfl rfl)
theorem dX1_count_7 : decode cX1_count 7 = .ok (.iload_n 1, 1) := dk_27 (dk_at dksX1_count_0 7 rfl rfl)
theorem dX1_count_8 : decode cX1_count 8 = .ok (.invokevirtual 225, 3) := dk_182 0 225 (dk_at dksX1_count_0 8 rfl rfl)
theorem dX1_count_11 : decode cX1_count 11 = .ok (.ireturn, 1) := dk_172 (dk_at dksX1_count_0 11 rfl rfl)
abbrev cX1_foresee : ByteArray := prog_1_method_31_code
def yX1_foresee : MethodName := ⟨RX1, "foresee", "(II)I"⟩
def dkwX1_foresee_2 : List UInt8 := [180, 0, 55, 182, 0, 219, 167, 0, 10, 42, 180, 0, 55, 182, 0, 212, 172]
abbrev dktX1_foresee_2 : List UInt8 := dkwX1_foresee_2 ++ []
def dkwX1_foresee_1 : List UInt8 := [42, 180, 0, 55, 27, 184, 0, 206, 62, 28, 154, 0, 7, 29, 167, 0, 25, 28, 4, 160, 0, 13, 42]
abbrev dktX1_foresee_1 : List UInt8 := dkwX1_foresee_1 ++ dktX1_foresee_2
def dkwX1_foresee_0 : List UInt8 := [4, 17, 0, 200, 27, 184, 0, 72, 28, 6, 184, 0, 25, 42, 180, 0, 55, 42, 180, 0, 51, 182, 0, 228]
abbrev dktX1_foresee_0 : List UInt8 := dkwX1_foresee_0 ++ dktX1_foresee_1
theorem dksX1_foresee_0 : cX1_foresee.data.toList.drop 0 = dktX1_foresee_0 := by decide +kernel
theorem dksX1_foresee_1 : cX1_foresee.data.toList.drop 24 = dktX1_foresee_1 := dk_seg dksX1_foresee_0 24 rfl rfl
theorem dksX1_foresee_2 : cX1_foresee.data.toList.drop 47 = dktX1_foresee_2 := dk_seg dksX1_foresee_1 23 rfl rfl
theorem dX1_foresee_0 : decode cX1_foresee 0 = .ok (.iconst 1, 1) := dk_4 (dk_at dksX1_foresee_0 0 rfl rfl)
theorem dX1_foresee_1 : decode cX1_foresee 1 = .ok (.sipush 200, 3) := dk_17 0 200 (dk_at dksX1_foresee_0 1 rfl rfl)
theorem dX1_foresee_4 : decode cX1_foresee 4 = .ok (.iload_n 1, 1) := dk_27 (dk_at dksX1_foresee_0 4 rfl rfl)
theorem dX1_foresee_5 : decode cX1_foresee 5 = .ok (.invokestatic 72, 3) := dk_184 0 72 (dk_at dksX1_foresee_0 5 rfl rfl)
theorem dX1_foresee_8 : decode cX1_foresee 8 = .ok (.iload_n 2, 1) := dk_28 (dk_at dksX1_foresee_0 8 rfl rfl)
theorem dX1_foresee_9 : decode cX1_foresee 9 = .ok (.iconst 3, 1) := dk_6 (dk_at dksX1_foresee_0 9 rfl rfl)
theorem dX1_foresee_10 : decode cX1_foresee 10 = .ok (.invokestatic 25, 3) := dk_184 0 25 (dk_at dksX1_foresee_0 10 rfl rfl)
theorem dX1_foresee_13 : decode cX1_foresee 13 = .ok (.aload_n 0, 1) := dk_42 (dk_at dksX1_foresee_0 13 rfl rfl)
theorem dX1_foresee_14 : decode cX1_foresee 14 = .ok (.getfield 55, 3) := dk_180 0 55 (dk_at dksX1_foresee_0 14 rfl rfl)
theorem dX1_foresee_17 : decode cX1_foresee 17 = .ok (.aload_n 0, 1) := dk_42 (dk_at dksX1_foresee_0 17 rfl rfl)
theorem dX1_foresee_18 : decode cX1_foresee 18 = .ok (.getfield 51, 3) := dk_180 0 51 (dk_at dksX1_foresee_0 18 rfl rfl)
theorem dX1_foresee_21 : decode cX1_foresee 21 = .ok (.invokevirtual 228, 3) := dk_182 0 228 (dk_at dksX1_foresee_0 21 rfl rfl)
theorem dX1_foresee_24 : decode cX1_foresee 24 = .ok (.aload_n 0, 1) := dk_42 (dk_at dksX1_foresee_1 0 rfl rfl)
theorem dX1_foresee_25 : decode cX1_foresee 25 = .ok (.getfield 55, 3) := dk_180 0 55 (dk_at dksX1_foresee_1 1 rfl rfl)
theorem dX1_foresee_28 : decode cX1_foresee 28 = .ok (.iload_n 1, 1) := dk_27 (dk_at dksX1_foresee_1 4 rfl rfl)
theorem dX1_foresee_29 : decode cX1_foresee 29 = .ok (.invokestatic 206, 3) := dk_184 0 206 (dk_at dksX1_foresee_1 5 rfl rfl)
theorem dX1_foresee_32 : decode cX1_foresee 32 = .ok (.istore_n 3, 1) := dk_62 (dk_at dksX1_foresee_1 8 rfl rfl)
theorem dX1_foresee_33 : decode cX1_foresee 33 = .ok (.iload_n 2, 1) := dk_28 (dk_at dksX1_foresee_1 9 rfl rfl)
theorem dX1_foresee_34 : decode cX1_foresee 34 = .ok (.ifCond .ne 7, 3) := dk_154 0 7 (dk_at dksX1_foresee_1 10 rfl rfl)
theorem dX1_foresee_37 : decode cX1_foresee 37 = .ok (.iload_n 3, 1) := dk_29 (dk_at dksX1_foresee_1 13 rfl rfl)
theorem dX1_foresee_38 : decode cX1_foresee 38 = .ok (.goto 25, 3) := dk_167 0 25 (dk_at dksX1_foresee_1 14 rfl rfl)
theorem dX1_foresee_41 : decode cX1_foresee 41 = .ok (.iload_n 2, 1) := dk_28 (dk_at dksX1_foresee_1 17 rfl rfl)
theorem dX1_foresee_42 : decode cX1_foresee 42 = .ok (.iconst 1, 1) := dk_4 (dk_at dksX1_foresee_1 18 rfl rfl)
theorem dX1_foresee_43 : decode cX1_foresee 43 = .ok (.if_icmp .ne 13, 3) := dk_160 0 13 (dk_at dksX1_foresee_1 19 rfl rfl)
theorem dX1_foresee_46 : decode cX1_foresee 46 = .ok (.aload_n 0, 1) := dk_42 (dk_at dksX1_foresee_1 22 rfl rfl)
theorem dX1_foresee_47 : decode cX1_foresee 47 = .ok (.getfield 55, 3) := dk_180 0 55 (dk_at dksX1_foresee_2 0 rfl rfl)
theorem dX1_foresee_50 : decode cX1_foresee 50 = .ok (.invokevirtual 219, 3) := dk_182 0 219 (dk_at dksX1_foresee_2 3 rfl rfl)
theorem dX1_foresee_53 : decode cX1_foresee 53 = .ok (.goto 10, 3) := dk_167 0 10 (dk_at dksX1_foresee_2 6 rfl rfl)
theorem dX1_foresee_56 : decode cX1_foresee 56 = .ok (.aload_n 0, 1) := dk_42 (dk_at dksX1_foresee_2 9 rfl rfl)
theorem dX1_foresee_57 : decode cX1_foresee 57 = .ok (.getfield 55, 3) := dk_180 0 55 (dk_at dksX1_foresee_2 10 rfl rfl)
theorem dX1_foresee_60 : decode cX1_foresee 60 = .ok (.invokevirtual 212, 3) := dk_182 0 212 (dk_at dksX1_foresee_2 13 rfl rfl)
theorem dX1_foresee_63 : decode cX1_foresee 63 = .ok (.ireturn, 1) := dk_172 (dk_at dksX1_foresee_2 16 rfl rfl)
abbrev cX1_advise : ByteArray := prog_1_method_32_code
def yX1_advise : MethodName := ⟨RX1, "advise", "(I)I"⟩
def dkwX1_advise_5 : List UInt8 := [180, 0, 55, 182, 0, 219, 62, 132, 4, 1, 167, 255, 171, 28, 172]
abbrev dktX1_advise_5 : List UInt8 := dkwX1_advise_5 ++ []
def dkwX1_advise_4 : List UInt8 := [184, 0, 206, 87, 42, 180, 0, 55, 182, 0, 219, 29, 163, 0, 6, 167, 0, 14, 21, 4, 61, 42]
abbrev dktX1_advise_4 : List UInt8 := dkwX1_advise_4 ++ dktX1_advise_5
def dkwX1_advise_3 : List UInt8 := [180, 0, 55, 42, 180, 0, 51, 182, 0, 228, 42, 180, 0, 55, 21, 4, 182, 0, 194, 42, 180, 0, 55, 27]
abbrev dktX1_advise_3 : List UInt8 := dkwX1_advise_3 ++ dktX1_advise_4
def dkwX1_advise_2 : List UInt8 := [182, 0, 76, 162, 0, 79, 42, 180, 0, 51, 21, 4, 182, 0, 191, 2, 159, 0, 6, 167, 0, 57, 42]
abbrev dktX1_advise_2 : List UInt8 := dkwX1_advise_2 ++ dktX1_advise_3
def dkwX1_advise_1 : List UInt8 := [184, 0, 206, 87, 2, 61, 42, 180, 0, 55, 182, 0, 219, 62, 3, 54, 4, 21, 4, 42, 180, 0, 39]
abbrev dktX1_advise_1 : List UInt8 := dkwX1_advise_1 ++ dktX1_advise_2
def dkwX1_advise_0 : List UInt8 := [4, 16, 60, 27, 184, 0, 72, 42, 180, 0, 55, 42, 180, 0, 51, 182, 0, 228, 42, 180, 0, 55, 27]
abbrev dktX1_advise_0 : List UInt8 := dkwX1_advise_0 ++ dktX1_advise_1
theorem dksX1_advise_0 : cX1_advise.data.toList.drop 0 = dktX1_advise_0 := by decide +kernel
theorem dksX1_advise_1 : cX1_advise.data.toList.drop 23 = dktX1_advise_1 := dk_seg dksX1_advise_0 23 rfl rfl
theorem dksX1_advise_2 : cX1_advise.data.toList.drop 46 = dktX1_advise_2 := dk_seg dksX1_advise_1 23 rfl rfl
theorem dksX1_advise_3 : cX1_advise.data.toList.drop 69 = dktX1_advise_3 := dk_seg dksX1_advise_2 23 rfl rfl
theorem dksX1_advise_4 : cX1_advise.data.toList.drop 93 = dktX1_advise_4 := dk_seg dksX1_advise_3 24 rfl rfl
theorem dksX1_advise_5 : cX1_advise.data.toList.drop 115 = dktX1_advise_5 := dk_seg dksX1_advise_4 22 rfl rfl
theorem dX1_advise_0 : decode cX1_advise 0 = .ok (.iconst 1, 1) := dk_4 (dk_at dksX1_advise_0 0 rfl rfl)
theorem dX1_advise_1 : decode cX1_advise 1 = .ok (.bipush 60, 2) := dk_16 60 (dk_at dksX1_advise_0 1 rfl rfl)
theorem dX1_advise_3 : decode cX1_advise 3 = .ok (.iload_n 1, 1) := dk_27 (dk_at dksX1_advise_0 3 rfl rfl)
theorem dX1_advise_4 : decode cX1_advise 4 = .ok (.invokestatic 72, 3) := dk_184 0 72 (dk_at dksX1_advise_0 4 rfl rfl)
theorem dX1_advise_7 : decode cX1_advise 7 = .ok (.aload_n 0, 1) := dk_42 (dk_at dksX1_advise_0 7 rfl rfl)
theorem dX1_advise_8 : decode cX1_advise 8 = .ok (.getfield 55, 3) := dk_180 0 55 (dk_at dksX1_advise_0 8 rfl rfl)
theorem dX1_advise_11 : decode cX1_advise 11 = .ok (.aload_n 0, 1) := dk_42 (dk_at dksX1_advise_0 11 rfl rfl)
theorem dX1_advise_12 : decode cX1_advise 12 = .ok (.getfield 51, 3) := dk_180 0 51 (dk_at dksX1_advise_0 12 rfl rfl)
theorem dX1_advise_15 : decode cX1_advise 15 = .ok (.invokevirtual 228, 3) := dk_182 0 228 (dk_at dksX1_advise_0 15 rfl rfl)
theorem dX1_advise_18 : decode cX1_advise 18 = .ok (.aload_n 0, 1) := dk_42 (dk_at dksX1_advise_0 18 rfl rfl)
theorem dX1_advise_19 : decode cX1_advise 19 = .ok (.getfield 55, 3) := dk_180 0 55 (dk_at dksX1_advise_0 19 rfl rfl)
theorem dX1_advise_22 : decode cX1_advise 22 = .ok (.iload_n 1, 1) := dk_27 (dk_at dksX1_advise_0 22 rfl rfl)
theorem dX1_advise_23 : decode cX1_advise 23 = .ok (.invokestatic 206, 3) := dk_184 0 206 (dk_at dksX1_advise_1 0 rfl rfl)
theorem dX1_advise_26 : decode cX1_advise 26 = .ok (.pop, 1) := dk_87 (dk_at dksX1_advise_1 3 rfl rfl)
theorem dX1_advise_27 : decode cX1_advise 27 = .ok (.iconst (-1), 1) := dk_2 (dk_at dksX1_advise_1 4 rfl rfl)
theorem dX1_advise_28 : decode cX1_advise 28 = .ok (.istore_n 2, 1) := dk_61 (dk_at dksX1_advise_1 5 rfl rfl)
theorem dX1_advise_29 : decode cX1_advise 29 = .ok (.aload_n 0, 1) := dk_42 (dk_at dksX1_advise_1 6 rfl rfl)
theorem dX1_advise_30 : decode cX1_advise 30 = .ok (.getfield 55, 3) := dk_180 0 55 (dk_at dksX1_advise_1 7 rfl rfl)
theorem dX1_advise_33 : decode cX1_advise 33 = .ok (.invokevirtual 219, 3) := dk_182 0 219 (dk_at dksX1_advise_1 10 rfl rfl)
theorem dX1_advise_36 : decode cX1_advise 36 = .ok (.istore_n 3, 1) := dk_62 (dk_at dksX1_advise_1 13 rfl rfl)
theorem dX1_advise_37 : decode cX1_advise 37 = .ok (.iconst 0, 1) := dk_3 (dk_at dksX1_advise_1 14 rfl rfl)
theorem dX1_advise_38 : decode cX1_advise 38 = .ok (.istore 4, 2) := dk_54 4 (dk_at dksX1_advise_1 15 rfl rfl)
theorem dX1_advise_40 : decode cX1_advise 40 = .ok (.iload 4, 2) := dk_21 4 (dk_at dksX1_advise_1 17 rfl rfl)
theorem dX1_advise_42 : decode cX1_advise 42 = .ok (.aload_n 0, 1) := dk_42 (dk_at dksX1_advise_1 19 rfl rfl)
theorem dX1_advise_43 : decode cX1_advise 43 = .ok (.getfield 39, 3) := dk_180 0 39 (dk_at dksX1_advise_1 20 rfl rfl)
theorem dX1_advise_46 : decode cX1_advise 46 = .ok (.invokevirtual 76, 3) := dk_182 0 76 (dk_at dksX1_advise_2 0 rfl rfl)
theorem dX1_advise_49 : decode cX1_advise 49 = .ok (.if_icmp .ge 79, 3) := dk_162 0 79 (dk_at dksX1_advise_2 3 rfl rfl)
theorem dX1_advise_52 : decode cX1_advise 52 = .ok (.aload_n 0, 1) := dk_42 (dk_at dksX1_advise_2 6 rfl rfl)
theorem dX1_advise_53 : decode cX1_advise 53 = .ok (.getfield 51, 3) := dk_180 0 51 (dk_at dksX1_advise_2 7 rfl rfl)
theorem dX1_advise_56 : decode cX1_advise 56 = .ok (.iload 4, 2) := dk_21 4 (dk_at dksX1_advise_2 10 rfl rfl)
theorem dX1_advise_58 : decode cX1_advise 58 = .ok (.invokevirtual 191, 3) := dk_182 0 191 (dk_at dksX1_advise_2 12 rfl rfl)
theorem dX1_advise_61 : decode cX1_advise 61 = .ok (.iconst (-1), 1) := dk_2 (dk_at dksX1_advise_2 15 rfl rfl)
theorem dX1_advise_62 : decode cX1_advise 62 = .ok (.if_icmp .eq 6, 3) := dk_159 0 6 (dk_at dksX1_advise_2 16 rfl rfl)
theorem dX1_advise_65 : decode cX1_advise 65 = .ok (.goto 57, 3) := dk_167 0 57 (dk_at dksX1_advise_2 19 rfl rfl)
theorem dX1_advise_68 : decode cX1_advise 68 = .ok (.aload_n 0, 1) := dk_42 (dk_at dksX1_advise_2 22 rfl rfl)
theorem dX1_advise_69 : decode cX1_advise 69 = .ok (.getfield 55, 3) := dk_180 0 55 (dk_at dksX1_advise_3 0 rfl rfl)
theorem dX1_advise_72 : decode cX1_advise 72 = .ok (.aload_n 0, 1) := dk_42 (dk_at dksX1_advise_3 3 rfl rfl)
theorem dX1_advise_73 : decode cX1_advise 73 = .ok (.getfield 51, 3) := dk_180 0 51 (dk_at dksX1_advise_3 4 rfl rfl)
theorem dX1_advise_76 : decode cX1_advise 76 = .ok (.invokevirtual 228, 3) := dk_182 0 228 (dk_at dksX1_advise_3 7 rfl rfl)
theorem dX1_advise_79 : decode cX1_advise 79 = .ok (.aload_n 0, 1) := dk_42 (dk_at dksX1_advise_3 10 rfl rfl)
theorem dX1_advise_80 : decode cX1_advise 80 = .ok (.getfield 55, 3) := dk_180 0 55 (dk_at dksX1_advise_3 11 rfl rfl)
theorem dX1_advise_83 : decode cX1_advise 83 = .ok (.iload 4, 2) := dk_21 4 (dk_at dksX1_advise_3 14 rfl rfl)
theorem dX1_advise_85 : decode cX1_advise 85 = .ok (.invokevirtual 194, 3) := dk_182 0 194 (dk_at dksX1_advise_3 16 rfl rfl)
theorem dX1_advise_88 : decode cX1_advise 88 = .ok (.aload_n 0, 1) := dk_42 (dk_at dksX1_advise_3 19 rfl rfl)
theorem dX1_advise_89 : decode cX1_advise 89 = .ok (.getfield 55, 3) := dk_180 0 55 (dk_at dksX1_advise_3 20 rfl rfl)
theorem dX1_advise_92 : decode cX1_advise 92 = .ok (.iload_n 1, 1) := dk_27 (dk_at dksX1_advise_3 23 rfl rfl)
theorem dX1_advise_93 : decode cX1_advise 93 = .ok (.invokestatic 206, 3) := dk_184 0 206 (dk_at dksX1_advise_4 0 rfl rfl)
theorem dX1_advise_96 : decode cX1_advise 96 = .ok (.pop, 1) := dk_87 (dk_at dksX1_advise_4 3 rfl rfl)
theorem dX1_advise_97 : decode cX1_advise 97 = .ok (.aload_n 0, 1) := dk_42 (dk_at dksX1_advise_4 4 rfl rfl)
theorem dX1_advise_98 : decode cX1_advise 98 = .ok (.getfield 55, 3) := dk_180 0 55 (dk_at dksX1_advise_4 5 rfl rfl)
theorem dX1_advise_101 : decode cX1_advise 101 = .ok (.invokevirtual 219, 3) := dk_182 0 219 (dk_at dksX1_advise_4 8 rfl rfl)
theorem dX1_advise_104 : decode cX1_advise 104 = .ok (.iload_n 3, 1) := dk_29 (dk_at dksX1_advise_4 11 rfl rfl)
theorem dX1_advise_105 : decode cX1_advise 105 = .ok (.if_icmp .gt 6, 3) := dk_163 0 6 (dk_at dksX1_advise_4 12 rfl rfl)
theorem dX1_advise_108 : decode cX1_advise 108 = .ok (.goto 14, 3) := dk_167 0 14 (dk_at dksX1_advise_4 15 rfl rfl)
theorem dX1_advise_111 : decode cX1_advise 111 = .ok (.iload 4, 2) := dk_21 4 (dk_at dksX1_advise_4 18 rfl rfl)
theorem dX1_advise_113 : decode cX1_advise 113 = .ok (.istore_n 2, 1) := dk_61 (dk_at dksX1_advise_4 20 rfl rfl)
theorem dX1_advise_114 : decode cX1_advise 114 = .ok (.aload_n 0, 1) := dk_42 (dk_at dksX1_advise_4 21 rfl rfl)
theorem dX1_advise_115 : decode cX1_advise 115 = .ok (.getfield 55, 3) := dk_180 0 55 (dk_at dksX1_advise_5 0 rfl rfl)
theorem dX1_advise_118 : decode cX1_advise 118 = .ok (.invokevirtual 219, 3) := dk_182 0 219 (dk_at dksX1_advise_5 3 rfl rfl)
theorem dX1_advise_121 : decode cX1_advise 121 = .ok (.istore_n 3, 1) := dk_62 (dk_at dksX1_advise_5 6 rfl rfl)
theorem dX1_advise_122 : decode cX1_advise 122 = .ok (.iinc 4 1, 3) := dk_132 4 1 (dk_at dksX1_advise_5 7 rfl rfl)
theorem dX1_advise_125 : decode cX1_advise 125 = .ok (.goto (-85), 3) := dk_167 255 171 (dk_at dksX1_advise_5 10 rfl rfl)
theorem dX1_advise_128 : decode cX1_advise 128 = .ok (.iload_n 2, 1) := dk_28 (dk_at dksX1_advise_5 13 rfl rfl)
theorem dX1_advise_129 : decode cX1_advise 129 = .ok (.ireturn, 1) := dk_172 (dk_at dksX1_advise_5 14 rfl rfl)
theorem q43 : (Jvm.Cond.initialized "PennyArcade") ∈ lw_all := lw_g (lw_at lw_m1 1 rfl) rfl
theorem q69 : (Jvm.Cond.instantiable "PennyArcade" (5 : Nat)) ∈ lw_all := lw_g (lw_at lw_m1 27 rfl) rfl
theorem q71 : (Jvm.Cond.instanceMethod ({ cls := "PennyArcade", name := "<init>", desc := "()V" } : Jvm.MethodName)) ∈ lw_all := lw_g (lw_at lw_m1 29 rfl) rfl
theorem q72 : (Jvm.Cond.code ({ cls := "PennyArcade", name := "<init>", desc := "()V" } : Jvm.MethodName) prog_1_method_6_code (1 : Nat) (Option.none : Option Jvm.ClassFile.FieldType)) ∈ lw_all := lw_g (lw_at lw_m1 30 rfl) rfl
theorem q73 : (Jvm.Cond.methodLink "PennyArcade" (33 : Nat) ({ cls := "java/lang/Object", name := "<init>", desc := "()V" } : Jvm.MethodName)) ∈ lw_all := lw_g (lw_at lw_m1 31 rfl) rfl
theorem q76 : (Jvm.Cond.classLink "PennyArcade" (36 : Nat) "java/util/ArrayList") ∈ lw_all := lw_g (lw_at lw_m1 34 rfl) rfl
theorem q78 : (Jvm.Cond.methodLink "PennyArcade" (38 : Nat) ({ cls := "java/util/ArrayList", name := "<init>", desc := "()V" } : Jvm.MethodName)) ∈ lw_all := lw_g (lw_at lw_m1 36 rfl) rfl
theorem q102 : (Jvm.Cond.classLink "PennyArcade" (46 : Nat) "PennyArcade$Hall") ∈ lw_all := lw_g (lw_at lw_m1 60 rfl) rfl
theorem q104 : (Jvm.Cond.methodLinkNest "PennyArcade" (48 : Nat) ({ cls := "PennyArcade$Hall", name := "<init>", desc := "(LPennyArcade;)V" } : Jvm.MethodName) "PennyArcade") ∈ lw_tbl := lw_at lw_m1 62 rfl
theorem q109 : (Jvm.Cond.fieldLinkNest "PennyArcade" (209 : Nat) "PennyArcade$Hall" "round" "I" "PennyArcade") ∈ lw_tbl := lw_at lw_m1 67 rfl
theorem q111 : (Jvm.Cond.fieldLinkNest "PennyArcade" (58 : Nat) "PennyArcade$Hall" "boxes" "[I" "PennyArcade") ∈ lw_tbl := lw_at lw_m1 69 rfl
theorem q114 : (Jvm.Cond.fieldLinkNest "PennyArcade" (118 : Nat) "PennyArcade$Hall" "wears" "[I" "PennyArcade") ∈ lw_tbl := lw_at lw_m1 72 rfl
theorem q116 : (Jvm.Cond.fieldLinkNest "PennyArcade" (121 : Nat) "PennyArcade$Hall" "areJammed" "[Z" "PennyArcade") ∈ lw_tbl := lw_at lw_m1 74 rfl
theorem q118 : (Jvm.Cond.fieldLinkNest "PennyArcade" (128 : Nat) "PennyArcade$Hall" "letIn" "[I" "PennyArcade") ∈ lw_tbl := lw_at lw_m1 76 rfl
theorem q120 : (Jvm.Cond.fieldLinkNest "PennyArcade" (131 : Nat) "PennyArcade$Hall" "paid" "[I" "PennyArcade") ∈ lw_tbl := lw_at lw_m1 78 rfl
theorem q123 : (Jvm.Cond.fieldLinkNest "PennyArcade" (152 : Nat) "PennyArcade$Hall" "ledges" "[I" "PennyArcade") ∈ lw_tbl := lw_at lw_m1 81 rfl
theorem q125 : (Jvm.Cond.fieldLinkNest "PennyArcade" (159 : Nat) "PennyArcade$Hall" "purses" "[I" "PennyArcade") ∈ lw_tbl := lw_at lw_m1 83 rfl
theorem q127 : (Jvm.Cond.fieldLinkNest "PennyArcade" (162 : Nat) "PennyArcade$Hall" "at" "[I" "PennyArcade") ∈ lw_tbl := lw_at lw_m1 85 rfl
theorem q129 : (Jvm.Cond.fieldLinkNest "PennyArcade" (176 : Nat) "PennyArcade$Hall" "lost" "[I" "PennyArcade") ∈ lw_tbl := lw_at lw_m1 87 rfl
theorem q131 : (Jvm.Cond.fieldLinkNest "PennyArcade" (179 : Nat) "PennyArcade$Hall" "played" "[I" "PennyArcade") ∈ lw_tbl := lw_at lw_m1 89 rfl
theorem q133 : (Jvm.Cond.fieldLinkNest "PennyArcade" (182 : Nat) "PennyArcade$Hall" "won" "[I" "PennyArcade") ∈ lw_tbl := lw_at lw_m1 91 rfl
theorem q135 : (Jvm.Cond.fieldLinkNest "PennyArcade" (200 : Nat) "PennyArcade$Hall" "row" "[I" "PennyArcade") ∈ lw_tbl := lw_at lw_m1 93 rfl
theorem q137 : (Jvm.Cond.fieldLinkNest "PennyArcade" (197 : Nat) "PennyArcade$Hall" "calls" "I" "PennyArcade") ∈ lw_tbl := lw_at lw_m1 95 rfl
theorem q139 : (Jvm.Cond.fieldLinkNest "PennyArcade" (222 : Nat) "PennyArcade$Hall" "left" "I" "PennyArcade") ∈ lw_tbl := lw_at lw_m1 97 rfl
theorem q176 : (Jvm.Cond.fieldLink "PennyArcade" (39 : Nat) "PennyArcade" "machines" "Ljava/util/ArrayList;") ∈ lw_all := lw_g (lw_at lw_m1 134 rfl) rfl
theorem q178 : (Jvm.Cond.fieldLink "PennyArcade" (43 : Nat) "PennyArcade" "players" "Ljava/util/ArrayList;") ∈ lw_all := lw_g (lw_at lw_m1 136 rfl) rfl
theorem q180 : (Jvm.Cond.fieldLink "PennyArcade" (51 : Nat) "PennyArcade" "hall" "LPennyArcade$Hall;") ∈ lw_all := lw_g (lw_at lw_m1 138 rfl) rfl
theorem q181 : (Jvm.Cond.fieldLink "PennyArcade" (55 : Nat) "PennyArcade" "ahead" "LPennyArcade$Hall;") ∈ lw_all := lw_g (lw_at lw_m1 139 rfl) rfl
theorem q183 : (Jvm.Cond.fieldLink "PennyArcade" (188 : Nat) "PennyArcade" "skill" "I") ∈ lw_all := lw_g (lw_at lw_m1 141 rfl) rfl
theorem q184 : (Jvm.Cond.laysFinal "PennyArcade" "PennyArcade" "machines" "Ljava/util/ArrayList;") ∈ lw_all := lw_g (lw_at lw_m1 142 rfl) rfl
theorem q185 : (Jvm.Cond.soleField "PennyArcade" "machines") ∈ lw_all := lw_g (lw_at lw_m1 143 rfl) rfl
theorem q186 : (Jvm.Cond.laysFinal "PennyArcade" "PennyArcade" "players" "Ljava/util/ArrayList;") ∈ lw_all := lw_g (lw_at lw_m1 144 rfl) rfl
theorem q187 : (Jvm.Cond.soleField "PennyArcade" "players") ∈ lw_all := lw_g (lw_at lw_m1 145 rfl) rfl
theorem q188 : (Jvm.Cond.laysFinal "PennyArcade" "PennyArcade" "hall" "LPennyArcade$Hall;") ∈ lw_all := lw_g (lw_at lw_m1 146 rfl) rfl
theorem q189 : (Jvm.Cond.soleField "PennyArcade" "hall") ∈ lw_all := lw_g (lw_at lw_m1 147 rfl) rfl
theorem q190 : (Jvm.Cond.laysFinal "PennyArcade" "PennyArcade" "ahead" "LPennyArcade$Hall;") ∈ lw_all := lw_g (lw_at lw_m1 148 rfl) rfl
theorem q191 : (Jvm.Cond.soleField "PennyArcade" "ahead") ∈ lw_all := lw_g (lw_at lw_m1 149 rfl) rfl
theorem q192 : (Jvm.Cond.lays "PennyArcade" "PennyArcade" "skill" "I") ∈ lw_all := lw_g (lw_at lw_m1 150 rfl) rfl
theorem q193 : (Jvm.Cond.soleField "PennyArcade" "skill") ∈ lw_all := lw_g (lw_at lw_m1 151 rfl) rfl
theorem q194 : (Jvm.Cond.superclass "PennyArcade" "java/lang/Object") ∈ lw_all := lw_g (lw_at lw_m1 152 rfl) rfl
theorem q196 : (Jvm.Cond.instanceMethod ({ cls := "PennyArcade", name := "back", desc := "()D" } : Jvm.MethodName)) ∈ lw_all := lw_g (lw_at lw_m1 154 rfl) rfl
theorem q197 : (Jvm.Cond.selects "PennyArcade" ({ cls := "PennyArcade", name := "back", desc := "()D" } : Jvm.MethodName) ({ cls := "PennyArcade", name := "back", desc := "()D" } : Jvm.MethodName)) ∈ lw_all := lw_g (lw_at lw_m1 155 rfl) rfl
theorem q198 : (Jvm.Cond.code ({ cls := "PennyArcade", name := "back", desc := "()D" } : Jvm.MethodName) prog_1_method_33_code (2 : Nat) (Option.some Jvm.ClassFile.FieldType.double)) ∈ lw_all := lw_g (lw_at lw_m1 156 rfl) rfl
theorem q199 : (Jvm.Cond.methodLink "PennyArcade" (76 : Nat) ({ cls := "java/util/ArrayList", name := "size", desc := "()I" } : Jvm.MethodName)) ∈ lw_all := lw_g (lw_at lw_m1 157 rfl) rfl
theorem q203 : (Jvm.Cond.methodLink "PennyArcade" (215 : Nat) ({ cls := "PennyArcade$Hall", name := "over", desc := "([II)I" } : Jvm.MethodName)) ∈ lw_all := lw_g (lw_at lw_m1 161 rfl) rfl
theorem q208 : (Jvm.Cond.instanceMethod ({ cls := "PennyArcade", name := "digest", desc := "()J" } : Jvm.MethodName)) ∈ lw_all := lw_g (lw_at lw_m1 166 rfl) rfl
theorem q209 : (Jvm.Cond.selects "PennyArcade" ({ cls := "PennyArcade", name := "digest", desc := "()J" } : Jvm.MethodName) ({ cls := "PennyArcade", name := "digest", desc := "()J" } : Jvm.MethodName)) ∈ lw_all := lw_g (lw_at lw_m1 167 rfl) rfl
theorem q210 : (Jvm.Cond.code ({ cls := "PennyArcade", name := "digest", desc := "()J" } : Jvm.MethodName) prog_1_method_34_code (10 : Nat) (Option.some Jvm.ClassFile.FieldType.long)) ∈ lw_all := lw_g (lw_at lw_m1 168 rfl) rfl
theorem q211 : (Jvm.Cond.constantLong "PennyArcade" (232 : Nat) (631 : Int64)) ∈ lw_all := lw_g (lw_at lw_m1 169 rfl) rfl
theorem q212 : (Jvm.Cond.constantLong "PennyArcade" (234 : Nat) (31 : Int64)) ∈ lw_all := lw_g (lw_at lw_m1 170 rfl) rfl
theorem q213 : (Jvm.Cond.methodLink "PennyArcade" (225 : Nat) ({ cls := "PennyArcade", name := "counted", desc := "(I)I" } : Jvm.MethodName)) ∈ lw_all := lw_g (lw_at lw_m1 171 rfl) rfl
theorem q214 : (Jvm.Cond.privateMethod ({ cls := "PennyArcade", name := "counted", desc := "(I)I" } : Jvm.MethodName)) ∈ lw_tbl := lw_at lw_m1 172 rfl
theorem q215 : (Jvm.Cond.instanceMethod ({ cls := "PennyArcade", name := "counted", desc := "(I)I" } : Jvm.MethodName)) ∈ lw_all := lw_g (lw_at lw_m1 173 rfl) rfl
theorem q216 : (Jvm.Cond.code ({ cls := "PennyArcade", name := "counted", desc := "(I)I" } : Jvm.MethodName) prog_1_method_29_code (2 : Nat) (Option.some Jvm.ClassFile.FieldType.int)) ∈ lw_all := lw_g (lw_at lw_m1 174 rfl) rfl
theorem q217 : (Jvm.Cond.methodLink "PennyArcade" (212 : Nat) ({ cls := "PennyArcade$Hall", name := "jammed", desc := "()I" } : Jvm.MethodName)) ∈ lw_all := lw_g (lw_at lw_m1 175 rfl) rfl
theorem q222 : (Jvm.Cond.methodLink "PennyArcade" (125 : Nat) ({ cls := "PennyArcade$Hall", name := "playersAt", desc := "(I)I" } : Jvm.MethodName)) ∈ lw_all := lw_g (lw_at lw_m1 180 rfl) rfl
theorem q226 : (Jvm.Cond.methodLink "PennyArcade" (219 : Nat) ({ cls := "PennyArcade$Hall", name := "inBoxes", desc := "()I" } : Jvm.MethodName)) ∈ lw_all := lw_g (lw_at lw_m1 184 rfl) rfl
theorem q231 : (Jvm.Cond.methodLink "PennyArcade" (137 : Nat) ({ cls := "PennyArcade", name := "machineTold", desc := "(II)I" } : Jvm.MethodName)) ∈ lw_all := lw_g (lw_at lw_m1 189 rfl) rfl
theorem q232 : (Jvm.Cond.privateMethod ({ cls := "PennyArcade", name := "machineTold", desc := "(II)I" } : Jvm.MethodName)) ∈ lw_tbl := lw_at lw_m1 190 rfl
theorem q233 : (Jvm.Cond.instanceMethod ({ cls := "PennyArcade", name := "machineTold", desc := "(II)I" } : Jvm.MethodName)) ∈ lw_all := lw_g (lw_at lw_m1 191 rfl) rfl
theorem q234 : (Jvm.Cond.code ({ cls := "PennyArcade", name := "machineTold", desc := "(II)I" } : Jvm.MethodName) prog_1_method_13_code (3 : Nat) (Option.some Jvm.ClassFile.FieldType.int)) ∈ lw_all := lw_g (lw_at lw_m1 192 rfl) rfl
theorem q235 : (Jvm.Cond.methodLink "PennyArcade" (113 : Nat) ({ cls := "java/util/ArrayList", name := "get", desc := "(I)Ljava/lang/Object;" } : Jvm.MethodName)) ∈ lw_all := lw_g (lw_at lw_m1 193 rfl) rfl
theorem q249 : (Jvm.Cond.classLink "PennyArcade" (63 : Nat) "PennyArcade$Machine") ∈ lw_all := lw_g (lw_at lw_m1 207 rfl) rfl
theorem q250 : (Jvm.Cond.methodLink "PennyArcade" (114 : Nat) ({ cls := "PennyArcade$Machine", name := "told", desc := "(I)I" } : Jvm.MethodName)) ∈ lw_all := lw_g (lw_at lw_m1 208 rfl) rfl
theorem q259 : (Jvm.Cond.methodLink "PennyArcade" (134 : Nat) ({ cls := "PennyArcade$Hall", name := "onLedge", desc := "(I)I" } : Jvm.MethodName)) ∈ lw_all := lw_g (lw_at lw_m1 217 rfl) rfl
theorem q263 : (Jvm.Cond.classLink "PennyArcade" (80 : Nat) "PennyArcade$Table") ∈ lw_all := lw_g (lw_at lw_m1 221 rfl) rfl
theorem q264 : (Jvm.Cond.methodLink "PennyArcade" (185 : Nat) ({ cls := "PennyArcade", name := "playerTold", desc := "(II)I" } : Jvm.MethodName)) ∈ lw_all := lw_g (lw_at lw_m1 222 rfl) rfl
theorem q265 : (Jvm.Cond.privateMethod ({ cls := "PennyArcade", name := "playerTold", desc := "(II)I" } : Jvm.MethodName)) ∈ lw_tbl := lw_at lw_m1 223 rfl
theorem q266 : (Jvm.Cond.instanceMethod ({ cls := "PennyArcade", name := "playerTold", desc := "(II)I" } : Jvm.MethodName)) ∈ lw_all := lw_g (lw_at lw_m1 224 rfl) rfl
theorem q267 : (Jvm.Cond.code ({ cls := "PennyArcade", name := "playerTold", desc := "(II)I" } : Jvm.MethodName) prog_1_method_22_code (3 : Nat) (Option.some Jvm.ClassFile.FieldType.int)) ∈ lw_all := lw_g (lw_at lw_m1 225 rfl) rfl
theorem q268 : (Jvm.Cond.classLink "PennyArcade" (155 : Nat) "PennyArcade$Player") ∈ lw_all := lw_g (lw_at lw_m1 226 rfl) rfl
theorem q275 : (Jvm.Cond.instanceMethod ({ cls := "PennyArcade", name := "addTable", desc := "(III)I" } : Jvm.MethodName)) ∈ lw_all := lw_g (lw_at lw_m1 233 rfl) rfl
theorem q276 : (Jvm.Cond.selects "PennyArcade" ({ cls := "PennyArcade", name := "addTable", desc := "(III)I" } : Jvm.MethodName) ({ cls := "PennyArcade", name := "addTable", desc := "(III)I" } : Jvm.MethodName)) ∈ lw_all := lw_g (lw_at lw_m1 234 rfl) rfl
theorem q277 : (Jvm.Cond.code ({ cls := "PennyArcade", name := "addTable", desc := "(III)I" } : Jvm.MethodName) prog_1_method_8_code (4 : Nat) (Option.some Jvm.ClassFile.FieldType.int)) ∈ lw_all := lw_g (lw_at lw_m1 235 rfl) rfl
theorem q278 : (Jvm.Cond.methodLink "PennyArcade" (72 : Nat) ({ cls := "PennyArcade", name := "requireFrom", desc := "(III)V" } : Jvm.MethodName)) ∈ lw_all := lw_g (lw_at lw_m1 236 rfl) rfl
theorem q279 : (Jvm.Cond.static ({ cls := "PennyArcade", name := "requireFrom", desc := "(III)V" } : Jvm.MethodName)) ∈ lw_all := lw_g (lw_at lw_m1 237 rfl) rfl
theorem q280 : (Jvm.Cond.code ({ cls := "PennyArcade", name := "requireFrom", desc := "(III)V" } : Jvm.MethodName) prog_1_method_4_code (3 : Nat) (Option.none : Option Jvm.ClassFile.FieldType)) ∈ lw_all := lw_g (lw_at lw_m1 238 rfl) rfl
theorem q281 : (Jvm.Cond.methodLink "PennyArcade" (13 : Nat) ({ cls := "PennyArcade", name := "require", desc := "(Z)V" } : Jvm.MethodName)) ∈ lw_all := lw_g (lw_at lw_m1 239 rfl) rfl
theorem q282 : (Jvm.Cond.static ({ cls := "PennyArcade", name := "require", desc := "(Z)V" } : Jvm.MethodName)) ∈ lw_all := lw_g (lw_at lw_m2 0 rfl) rfl
theorem q283 : (Jvm.Cond.code ({ cls := "PennyArcade", name := "require", desc := "(Z)V" } : Jvm.MethodName) prog_1_method_1_code (1 : Nat) (Option.none : Option Jvm.ClassFile.FieldType)) ∈ lw_all := lw_g (lw_at lw_m2 1 rfl) rfl
theorem q284 : (Jvm.Cond.classLink "PennyArcade" (1 : Nat) "java/lang/IllegalArgumentException") ∈ lw_all := lw_g (lw_at lw_m2 2 rfl) rfl
theorem q326 : (Jvm.Cond.methodLink "PennyArcade" (3 : Nat) ({ cls := "java/lang/IllegalArgumentException", name := "<init>", desc := "()V" } : Jvm.MethodName)) ∈ lw_all := lw_g (lw_at lw_m2 44 rfl) rfl
theorem q349 : (Jvm.Cond.methodLink "PennyArcade" (77 : Nat) ({ cls := "PennyArcade", name := "requireState", desc := "(Z)V" } : Jvm.MethodName)) ∈ lw_all := lw_g (lw_at lw_m2 67 rfl) rfl
theorem q350 : (Jvm.Cond.static ({ cls := "PennyArcade", name := "requireState", desc := "(Z)V" } : Jvm.MethodName)) ∈ lw_all := lw_g (lw_at lw_m2 68 rfl) rfl
theorem q351 : (Jvm.Cond.code ({ cls := "PennyArcade", name := "requireState", desc := "(Z)V" } : Jvm.MethodName) prog_1_method_2_code (1 : Nat) (Option.none : Option Jvm.ClassFile.FieldType)) ∈ lw_all := lw_g (lw_at lw_m2 69 rfl) rfl
theorem q352 : (Jvm.Cond.classLink "PennyArcade" (7 : Nat) "java/lang/IllegalStateException") ∈ lw_all := lw_g (lw_at lw_m2 70 rfl) rfl
theorem q361 : (Jvm.Cond.methodLink "PennyArcade" (9 : Nat) ({ cls := "java/lang/IllegalStateException", name := "<init>", desc := "()V" } : Jvm.MethodName)) ∈ lw_all := lw_g (lw_at lw_m2 79 rfl) rfl
theorem q368 : (Jvm.Cond.methodLink "PennyArcade" (82 : Nat) ({ cls := "PennyArcade$Table", name := "<init>", desc := "(III)V" } : Jvm.MethodName)) ∈ lw_all := lw_g (lw_at lw_m2 86 rfl) rfl
theorem q378 : (Jvm.Cond.fieldLinkNest "PennyArcade" (103 : Nat) "PennyArcade$Table" "sides" "[I" "PennyArcade") ∈ lw_tbl := lw_at lw_m2 96 rfl
theorem q380 : (Jvm.Cond.fieldLinkNest "PennyArcade" (110 : Nat) "PennyArcade$Table" "cups" "[I" "PennyArcade") ∈ lw_tbl := lw_at lw_m2 98 rfl
theorem q385 : (Jvm.Cond.fieldLink "PennyArcade" (62 : Nat) "PennyArcade$Machine" "number" "I") ∈ lw_all := lw_g (lw_at lw_m2 103 rfl) rfl
theorem q399 : (Jvm.Cond.methodLink "PennyArcade" (84 : Nat) ({ cls := "PennyArcade", name := "add", desc := "(LPennyArcade$Machine;I)I" } : Jvm.MethodName)) ∈ lw_all := lw_g (lw_at lw_m2 117 rfl) rfl
theorem q400 : (Jvm.Cond.privateMethod ({ cls := "PennyArcade", name := "add", desc := "(LPennyArcade$Machine;I)I" } : Jvm.MethodName)) ∈ lw_tbl := lw_at lw_m2 118 rfl
theorem q401 : (Jvm.Cond.instanceMethod ({ cls := "PennyArcade", name := "add", desc := "(LPennyArcade$Machine;I)I" } : Jvm.MethodName)) ∈ lw_all := lw_g (lw_at lw_m2 119 rfl) rfl
theorem q402 : (Jvm.Cond.code ({ cls := "PennyArcade", name := "add", desc := "(LPennyArcade$Machine;I)I" } : Jvm.MethodName) prog_1_method_7_code (3 : Nat) (Option.some Jvm.ClassFile.FieldType.int)) ∈ lw_all := lw_g (lw_at lw_m2 120 rfl) rfl
theorem q403 : (Jvm.Cond.methodLink "PennyArcade" (68 : Nat) ({ cls := "java/util/ArrayList", name := "add", desc := "(Ljava/lang/Object;)Z" } : Jvm.MethodName)) ∈ lw_all := lw_g (lw_at lw_m2 121 rfl) rfl
theorem q435 : (Jvm.Cond.selects "PennyArcade" ({ cls := "java/lang/Object", name := "getClass", desc := "()Ljava/lang/Class;" } : Jvm.MethodName) ({ cls := "java/lang/Object", name := "getClass", desc := "()Ljava/lang/Class;" } : Jvm.MethodName)) ∈ lw_all := lw_g (lw_at lw_m2 153 rfl) rfl
theorem q465 : (Jvm.Cond.instanceMethod ({ cls := "PennyArcade", name := "addPusher", desc := "(II)I" } : Jvm.MethodName)) ∈ lw_all := lw_g (lw_at lw_m2 183 rfl) rfl
theorem q466 : (Jvm.Cond.selects "PennyArcade" ({ cls := "PennyArcade", name := "addPusher", desc := "(II)I" } : Jvm.MethodName) ({ cls := "PennyArcade", name := "addPusher", desc := "(II)I" } : Jvm.MethodName)) ∈ lw_all := lw_g (lw_at lw_m2 184 rfl) rfl
theorem q467 : (Jvm.Cond.code ({ cls := "PennyArcade", name := "addPusher", desc := "(II)I" } : Jvm.MethodName) prog_1_method_9_code (3 : Nat) (Option.some Jvm.ClassFile.FieldType.int)) ∈ lw_all := lw_g (lw_at lw_m2 185 rfl) rfl
theorem q468 : (Jvm.Cond.classLink "PennyArcade" (87 : Nat) "PennyArcade$Pusher") ∈ lw_all := lw_g (lw_at lw_m2 186 rfl) rfl
theorem q470 : (Jvm.Cond.methodLink "PennyArcade" (89 : Nat) ({ cls := "PennyArcade$Pusher", name := "<init>", desc := "(II)V" } : Jvm.MethodName)) ∈ lw_all := lw_g (lw_at lw_m2 188 rfl) rfl
theorem q516 : (Jvm.Cond.instanceMethod ({ cls := "PennyArcade", name := "bend", desc := "(IIII)I" } : Jvm.MethodName)) ∈ lw_all := lw_g (lw_at lw_m2 234 rfl) rfl
theorem q517 : (Jvm.Cond.selects "PennyArcade" ({ cls := "PennyArcade", name := "bend", desc := "(IIII)I" } : Jvm.MethodName) ({ cls := "PennyArcade", name := "bend", desc := "(IIII)I" } : Jvm.MethodName)) ∈ lw_all := lw_g (lw_at lw_m2 235 rfl) rfl
theorem q518 : (Jvm.Cond.code ({ cls := "PennyArcade", name := "bend", desc := "(IIII)I" } : Jvm.MethodName) prog_1_method_11_code (8 : Nat) (Option.some Jvm.ClassFile.FieldType.int)) ∈ lw_all := lw_g (lw_at lw_m2 236 rfl) rfl
theorem q519 : (Jvm.Cond.methodLink "PennyArcade" (95 : Nat) ({ cls := "PennyArcade", name := "tableAt", desc := "(I)LPennyArcade$Table;" } : Jvm.MethodName)) ∈ lw_all := lw_g (lw_at lw_m2 237 rfl) rfl
theorem q520 : (Jvm.Cond.privateMethod ({ cls := "PennyArcade", name := "tableAt", desc := "(I)LPennyArcade$Table;" } : Jvm.MethodName)) ∈ lw_tbl := lw_at lw_m2 238 rfl
theorem q521 : (Jvm.Cond.instanceMethod ({ cls := "PennyArcade", name := "tableAt", desc := "(I)LPennyArcade$Table;" } : Jvm.MethodName)) ∈ lw_all := lw_g (lw_at lw_m2 239 rfl) rfl
theorem q522 : (Jvm.Cond.code ({ cls := "PennyArcade", name := "tableAt", desc := "(I)LPennyArcade$Table;" } : Jvm.MethodName) prog_1_method_10_code (3 : Nat) (Option.some (Jvm.ClassFile.FieldType.object "PennyArcade$Table"))) ∈ lw_all := lw_g (lw_at lw_m3 0 rfl) rfl
theorem q523 : (Jvm.Cond.methodLink "PennyArcade" (91 : Nat) ({ cls := "PennyArcade", name := "known", desc := "(Ljava/util/List;I)Ljava/lang/Object;" } : Jvm.MethodName)) ∈ lw_all := lw_g (lw_at lw_m3 1 rfl) rfl
theorem q524 : (Jvm.Cond.static ({ cls := "PennyArcade", name := "known", desc := "(Ljava/util/List;I)Ljava/lang/Object;" } : Jvm.MethodName)) ∈ lw_all := lw_g (lw_at lw_m3 2 rfl) rfl
theorem q525 : (Jvm.Cond.code ({ cls := "PennyArcade", name := "known", desc := "(Ljava/util/List;I)Ljava/lang/Object;" } : Jvm.MethodName) prog_1_method_5_code (2 : Nat) (Option.some (Jvm.ClassFile.FieldType.object "java/lang/Object"))) ∈ lw_all := lw_g (lw_at lw_m3 3 rfl) rfl
theorem q526 : (Jvm.Cond.interfaceEntry "PennyArcade" (19 : Nat)) ∈ lw_tbl := lw_at lw_m3 4 rfl
theorem q527 : (Jvm.Cond.methodLink "PennyArcade" (19 : Nat) ({ cls := "java/util/List", name := "size", desc := "()I" } : Jvm.MethodName)) ∈ lw_all := lw_g (lw_at lw_m3 5 rfl) rfl
theorem q534 : (Jvm.Cond.methodLink "PennyArcade" (25 : Nat) ({ cls := "PennyArcade", name := "requireIndex", desc := "(II)V" } : Jvm.MethodName)) ∈ lw_all := lw_g (lw_at lw_m3 12 rfl) rfl
theorem q535 : (Jvm.Cond.static ({ cls := "PennyArcade", name := "requireIndex", desc := "(II)V" } : Jvm.MethodName)) ∈ lw_all := lw_g (lw_at lw_m3 13 rfl) rfl
theorem q536 : (Jvm.Cond.code ({ cls := "PennyArcade", name := "requireIndex", desc := "(II)V" } : Jvm.MethodName) prog_1_method_3_code (2 : Nat) (Option.none : Option Jvm.ClassFile.FieldType)) ∈ lw_all := lw_g (lw_at lw_m3 14 rfl) rfl
theorem q537 : (Jvm.Cond.classLink "PennyArcade" (10 : Nat) "java/lang/IndexOutOfBoundsException") ∈ lw_all := lw_g (lw_at lw_m3 15 rfl) rfl
theorem q546 : (Jvm.Cond.methodLink "PennyArcade" (12 : Nat) ({ cls := "java/lang/IndexOutOfBoundsException", name := "<init>", desc := "()V" } : Jvm.MethodName)) ∈ lw_all := lw_g (lw_at lw_m3 24 rfl) rfl
theorem q552 : (Jvm.Cond.interfaceEntry "PennyArcade" (29 : Nat)) ∈ lw_tbl := lw_at lw_m3 30 rfl
theorem q553 : (Jvm.Cond.methodLink "PennyArcade" (29 : Nat) ({ cls := "java/util/List", name := "get", desc := "(I)Ljava/lang/Object;" } : Jvm.MethodName)) ∈ lw_all := lw_g (lw_at lw_m3 31 rfl) rfl
theorem q559 : (Jvm.Cond.methodLink "PennyArcade" (99 : Nat) ({ cls := "PennyArcade$Table", name := "pinAt", desc := "(II)I" } : Jvm.MethodName)) ∈ lw_all := lw_g (lw_at lw_m3 37 rfl) rfl
theorem q572 : (Jvm.Cond.instanceMethod ({ cls := "PennyArcade", name := "setCup", desc := "(III)I" } : Jvm.MethodName)) ∈ lw_all := lw_g (lw_at lw_m3 50 rfl) rfl
theorem q573 : (Jvm.Cond.selects "PennyArcade" ({ cls := "PennyArcade", name := "setCup", desc := "(III)I" } : Jvm.MethodName) ({ cls := "PennyArcade", name := "setCup", desc := "(III)I" } : Jvm.MethodName)) ∈ lw_all := lw_g (lw_at lw_m3 51 rfl) rfl
theorem q574 : (Jvm.Cond.code ({ cls := "PennyArcade", name := "setCup", desc := "(III)I" } : Jvm.MethodName) prog_1_method_12_code (6 : Nat) (Option.some Jvm.ClassFile.FieldType.int)) ∈ lw_all := lw_g (lw_at lw_m3 52 rfl) rfl
theorem q575 : (Jvm.Cond.methodLink "PennyArcade" (106 : Nat) ({ cls := "PennyArcade$Table", name := "requireColumn", desc := "(I)V" } : Jvm.MethodName)) ∈ lw_all := lw_g (lw_at lw_m3 53 rfl) rfl
theorem q580 : (Jvm.Cond.instanceMethod ({ cls := "PennyArcade", name := "machine", desc := "(II)I" } : Jvm.MethodName)) ∈ lw_all := lw_g (lw_at lw_m3 58 rfl) rfl
theorem q581 : (Jvm.Cond.selects "PennyArcade" ({ cls := "PennyArcade", name := "machine", desc := "(II)I" } : Jvm.MethodName) ({ cls := "PennyArcade", name := "machine", desc := "(II)I" } : Jvm.MethodName)) ∈ lw_all := lw_g (lw_at lw_m3 59 rfl) rfl
theorem q582 : (Jvm.Cond.code ({ cls := "PennyArcade", name := "machine", desc := "(II)I" } : Jvm.MethodName) prog_1_method_14_code (3 : Nat) (Option.some Jvm.ClassFile.FieldType.int)) ∈ lw_all := lw_g (lw_at lw_m3 60 rfl) rfl
theorem q587 : (Jvm.Cond.instanceMethod ({ cls := "PennyArcade", name := "ends", desc := "(III)I" } : Jvm.MethodName)) ∈ lw_all := lw_g (lw_at lw_m3 65 rfl) rfl
theorem q588 : (Jvm.Cond.selects "PennyArcade" ({ cls := "PennyArcade", name := "ends", desc := "(III)I" } : Jvm.MethodName) ({ cls := "PennyArcade", name := "ends", desc := "(III)I" } : Jvm.MethodName)) ∈ lw_all := lw_g (lw_at lw_m3 66 rfl) rfl
theorem q589 : (Jvm.Cond.code ({ cls := "PennyArcade", name := "ends", desc := "(III)I" } : Jvm.MethodName) prog_1_method_15_code (5 : Nat) (Option.some Jvm.ClassFile.FieldType.int)) ∈ lw_all := lw_g (lw_at lw_m3 67 rfl) rfl
theorem q590 : (Jvm.Cond.methodLink "PennyArcade" (140 : Nat) ({ cls := "PennyArcade$Table", name := "requirePlay", desc := "(II)V" } : Jvm.MethodName)) ∈ lw_all := lw_g (lw_at lw_m3 68 rfl) rfl
theorem q594 : (Jvm.Cond.methodLink "PennyArcade" (143 : Nat) ({ cls := "PennyArcade$Table", name := "ends", desc := "(II)I" } : Jvm.MethodName)) ∈ lw_all := lw_g (lw_at lw_m3 72 rfl) rfl
theorem q604 : (Jvm.Cond.instanceMethod ({ cls := "PennyArcade", name := "bestTilt", desc := "(II)I" } : Jvm.MethodName)) ∈ lw_all := lw_g (lw_at lw_m3 82 rfl) rfl
theorem q605 : (Jvm.Cond.selects "PennyArcade" ({ cls := "PennyArcade", name := "bestTilt", desc := "(II)I" } : Jvm.MethodName) ({ cls := "PennyArcade", name := "bestTilt", desc := "(II)I" } : Jvm.MethodName)) ∈ lw_all := lw_g (lw_at lw_m3 83 rfl) rfl
theorem q606 : (Jvm.Cond.code ({ cls := "PennyArcade", name := "bestTilt", desc := "(II)I" } : Jvm.MethodName) prog_1_method_16_code (4 : Nat) (Option.some Jvm.ClassFile.FieldType.int)) ∈ lw_all := lw_g (lw_at lw_m3 84 rfl) rfl
theorem q607 : (Jvm.Cond.methodLink "PennyArcade" (146 : Nat) ({ cls := "PennyArcade$Table", name := "tiltAt", desc := "(I)I" } : Jvm.MethodName)) ∈ lw_all := lw_g (lw_at lw_m3 85 rfl) rfl
theorem q616 : (Jvm.Cond.instanceMethod ({ cls := "PennyArcade", name := "dead", desc := "(I)I" } : Jvm.MethodName)) ∈ lw_all := lw_g (lw_at lw_m3 94 rfl) rfl
theorem q617 : (Jvm.Cond.selects "PennyArcade" ({ cls := "PennyArcade", name := "dead", desc := "(I)I" } : Jvm.MethodName) ({ cls := "PennyArcade", name := "dead", desc := "(I)I" } : Jvm.MethodName)) ∈ lw_all := lw_g (lw_at lw_m3 95 rfl) rfl
theorem q618 : (Jvm.Cond.code ({ cls := "PennyArcade", name := "dead", desc := "(I)I" } : Jvm.MethodName) prog_1_method_17_code (2 : Nat) (Option.some Jvm.ClassFile.FieldType.int)) ∈ lw_all := lw_g (lw_at lw_m3 96 rfl) rfl
theorem q619 : (Jvm.Cond.methodLink "PennyArcade" (149 : Nat) ({ cls := "PennyArcade$Table", name := "dead", desc := "()I" } : Jvm.MethodName)) ∈ lw_all := lw_g (lw_at lw_m3 97 rfl) rfl
theorem q633 : (Jvm.Cond.instanceMethod ({ cls := "PennyArcade", name := "ledge", desc := "(II)I" } : Jvm.MethodName)) ∈ lw_all := lw_g (lw_at lw_m3 111 rfl) rfl
theorem q634 : (Jvm.Cond.selects "PennyArcade" ({ cls := "PennyArcade", name := "ledge", desc := "(II)I" } : Jvm.MethodName) ({ cls := "PennyArcade", name := "ledge", desc := "(II)I" } : Jvm.MethodName)) ∈ lw_all := lw_g (lw_at lw_m3 112 rfl) rfl
theorem q635 : (Jvm.Cond.code ({ cls := "PennyArcade", name := "ledge", desc := "(II)I" } : Jvm.MethodName) prog_1_method_18_code (3 : Nat) (Option.some Jvm.ClassFile.FieldType.int)) ∈ lw_all := lw_g (lw_at lw_m3 113 rfl) rfl
theorem q640 : (Jvm.Cond.instanceMethod ({ cls := "PennyArcade", name := "come", desc := "(II)I" } : Jvm.MethodName)) ∈ lw_all := lw_g (lw_at lw_m3 118 rfl) rfl
theorem q641 : (Jvm.Cond.selects "PennyArcade" ({ cls := "PennyArcade", name := "come", desc := "(II)I" } : Jvm.MethodName) ({ cls := "PennyArcade", name := "come", desc := "(II)I" } : Jvm.MethodName)) ∈ lw_all := lw_g (lw_at lw_m3 119 rfl) rfl
theorem q642 : (Jvm.Cond.code ({ cls := "PennyArcade", name := "come", desc := "(II)I" } : Jvm.MethodName) prog_1_method_19_code (4 : Nat) (Option.some Jvm.ClassFile.FieldType.int)) ∈ lw_all := lw_g (lw_at lw_m3 120 rfl) rfl
theorem q644 : (Jvm.Cond.methodLink "PennyArcade" (157 : Nat) ({ cls := "PennyArcade$Player", name := "<init>", desc := "(I)V" } : Jvm.MethodName)) ∈ lw_all := lw_g (lw_at lw_m3 122 rfl) rfl
theorem q650 : (Jvm.Cond.fieldLink "PennyArcade" (173 : Nat) "PennyArcade$Player" "temper" "I") ∈ lw_all := lw_g (lw_at lw_m3 128 rfl) rfl
theorem q658 : (Jvm.Cond.instanceMethod ({ cls := "PennyArcade", name := "go", desc := "(II)I" } : Jvm.MethodName)) ∈ lw_all := lw_g (lw_at lw_m3 136 rfl) rfl
theorem q659 : (Jvm.Cond.selects "PennyArcade" ({ cls := "PennyArcade", name := "go", desc := "(II)I" } : Jvm.MethodName) ({ cls := "PennyArcade", name := "go", desc := "(II)I" } : Jvm.MethodName)) ∈ lw_all := lw_g (lw_at lw_m3 137 rfl) rfl
theorem q660 : (Jvm.Cond.code ({ cls := "PennyArcade", name := "go", desc := "(II)I" } : Jvm.MethodName) prog_1_method_20_code (4 : Nat) (Option.some Jvm.ClassFile.FieldType.int)) ∈ lw_all := lw_g (lw_at lw_m3 138 rfl) rfl
theorem q661 : (Jvm.Cond.methodLink "PennyArcade" (165 : Nat) ({ cls := "PennyArcade$Hall", name := "send", desc := "(II)V" } : Jvm.MethodName)) ∈ lw_all := lw_g (lw_at lw_m3 139 rfl) rfl
theorem q669 : (Jvm.Cond.instanceMethod ({ cls := "PennyArcade", name := "play", desc := "(IIII)I" } : Jvm.MethodName)) ∈ lw_all := lw_g (lw_at lw_m3 147 rfl) rfl
theorem q670 : (Jvm.Cond.selects "PennyArcade" ({ cls := "PennyArcade", name := "play", desc := "(IIII)I" } : Jvm.MethodName) ({ cls := "PennyArcade", name := "play", desc := "(IIII)I" } : Jvm.MethodName)) ∈ lw_all := lw_g (lw_at lw_m3 148 rfl) rfl
theorem q671 : (Jvm.Cond.code ({ cls := "PennyArcade", name := "play", desc := "(IIII)I" } : Jvm.MethodName) prog_1_method_21_code (6 : Nat) (Option.some Jvm.ClassFile.FieldType.int)) ∈ lw_all := lw_g (lw_at lw_m3 149 rfl) rfl
theorem q672 : (Jvm.Cond.methodLink "PennyArcade" (168 : Nat) ({ cls := "PennyArcade$Machine", name := "requirePlay", desc := "(II)V" } : Jvm.MethodName)) ∈ lw_all := lw_g (lw_at lw_m3 150 rfl) rfl
theorem q679 : (Jvm.Cond.methodLink "PennyArcade" (169 : Nat) ({ cls := "PennyArcade$Hall", name := "play", desc := "(ILPennyArcade$Machine;II)I" } : Jvm.MethodName)) ∈ lw_all := lw_g (lw_at lw_m3 157 rfl) rfl
theorem q697 : (Jvm.Cond.instanceMethod ({ cls := "PennyArcade", name := "player", desc := "(II)I" } : Jvm.MethodName)) ∈ lw_all := lw_g (lw_at lw_m3 175 rfl) rfl
theorem q698 : (Jvm.Cond.selects "PennyArcade" ({ cls := "PennyArcade", name := "player", desc := "(II)I" } : Jvm.MethodName) ({ cls := "PennyArcade", name := "player", desc := "(II)I" } : Jvm.MethodName)) ∈ lw_all := lw_g (lw_at lw_m3 176 rfl) rfl
theorem q699 : (Jvm.Cond.code ({ cls := "PennyArcade", name := "player", desc := "(II)I" } : Jvm.MethodName) prog_1_method_23_code (3 : Nat) (Option.some Jvm.ClassFile.FieldType.int)) ∈ lw_all := lw_g (lw_at lw_m3 177 rfl) rfl
theorem q704 : (Jvm.Cond.instanceMethod ({ cls := "PennyArcade", name := "setSkill", desc := "(I)I" } : Jvm.MethodName)) ∈ lw_all := lw_g (lw_at lw_m3 182 rfl) rfl
theorem q705 : (Jvm.Cond.selects "PennyArcade" ({ cls := "PennyArcade", name := "setSkill", desc := "(I)I" } : Jvm.MethodName) ({ cls := "PennyArcade", name := "setSkill", desc := "(I)I" } : Jvm.MethodName)) ∈ lw_all := lw_g (lw_at lw_m3 183 rfl) rfl
theorem q706 : (Jvm.Cond.code ({ cls := "PennyArcade", name := "setSkill", desc := "(I)I" } : Jvm.MethodName) prog_1_method_24_code (3 : Nat) (Option.some Jvm.ClassFile.FieldType.int)) ∈ lw_all := lw_g (lw_at lw_m3 184 rfl) rfl
theorem q711 : (Jvm.Cond.instanceMethod ({ cls := "PennyArcade", name := "call", desc := "(I)I" } : Jvm.MethodName)) ∈ lw_all := lw_g (lw_at lw_m3 189 rfl) rfl
theorem q712 : (Jvm.Cond.selects "PennyArcade" ({ cls := "PennyArcade", name := "call", desc := "(I)I" } : Jvm.MethodName) ({ cls := "PennyArcade", name := "call", desc := "(I)I" } : Jvm.MethodName)) ∈ lw_all := lw_g (lw_at lw_m3 190 rfl) rfl
theorem q713 : (Jvm.Cond.code ({ cls := "PennyArcade", name := "call", desc := "(I)I" } : Jvm.MethodName) prog_1_method_25_code (2 : Nat) (Option.some Jvm.ClassFile.FieldType.int)) ∈ lw_all := lw_g (lw_at lw_m3 191 rfl) rfl
theorem q714 : (Jvm.Cond.methodLink "PennyArcade" (191 : Nat) ({ cls := "PennyArcade$Hall", name := "placeOf", desc := "(I)I" } : Jvm.MethodName)) ∈ lw_all := lw_g (lw_at lw_m3 192 rfl) rfl
theorem q718 : (Jvm.Cond.methodLink "PennyArcade" (194 : Nat) ({ cls := "PennyArcade$Hall", name := "call", desc := "(I)V" } : Jvm.MethodName)) ∈ lw_all := lw_g (lw_at lw_m3 196 rfl) rfl
theorem q726 : (Jvm.Cond.instanceMethod ({ cls := "PennyArcade", name := "repair", desc := "(I)I" } : Jvm.MethodName)) ∈ lw_all := lw_g (lw_at lw_m3 204 rfl) rfl
theorem q727 : (Jvm.Cond.selects "PennyArcade" ({ cls := "PennyArcade", name := "repair", desc := "(I)I" } : Jvm.MethodName) ({ cls := "PennyArcade", name := "repair", desc := "(I)I" } : Jvm.MethodName)) ∈ lw_all := lw_g (lw_at lw_m3 205 rfl) rfl
theorem q728 : (Jvm.Cond.code ({ cls := "PennyArcade", name := "repair", desc := "(I)I" } : Jvm.MethodName) prog_1_method_26_code (2 : Nat) (Option.some Jvm.ClassFile.FieldType.int)) ∈ lw_all := lw_g (lw_at lw_m3 206 rfl) rfl
theorem q733 : (Jvm.Cond.instanceMethod ({ cls := "PennyArcade", name := "pass", desc := "(I)I" } : Jvm.MethodName)) ∈ lw_all := lw_g (lw_at lw_m3 211 rfl) rfl
theorem q734 : (Jvm.Cond.selects "PennyArcade" ({ cls := "PennyArcade", name := "pass", desc := "(I)I" } : Jvm.MethodName) ({ cls := "PennyArcade", name := "pass", desc := "(I)I" } : Jvm.MethodName)) ∈ lw_all := lw_g (lw_at lw_m3 212 rfl) rfl
theorem q735 : (Jvm.Cond.code ({ cls := "PennyArcade", name := "pass", desc := "(I)I" } : Jvm.MethodName) prog_1_method_28_code (2 : Nat) (Option.some Jvm.ClassFile.FieldType.int)) ∈ lw_all := lw_g (lw_at lw_m3 213 rfl) rfl
theorem q736 : (Jvm.Cond.methodLink "PennyArcade" (206 : Nat) ({ cls := "PennyArcade", name := "pass", desc := "(LPennyArcade$Hall;I)I" } : Jvm.MethodName)) ∈ lw_all := lw_g (lw_at lw_m3 214 rfl) rfl
theorem q737 : (Jvm.Cond.static ({ cls := "PennyArcade", name := "pass", desc := "(LPennyArcade$Hall;I)I" } : Jvm.MethodName)) ∈ lw_all := lw_g (lw_at lw_m3 215 rfl) rfl
theorem q738 : (Jvm.Cond.code ({ cls := "PennyArcade", name := "pass", desc := "(LPennyArcade$Hall;I)I" } : Jvm.MethodName) prog_1_method_27_code (4 : Nat) (Option.some Jvm.ClassFile.FieldType.int)) ∈ lw_all := lw_g (lw_at lw_m3 216 rfl) rfl
theorem q739 : (Jvm.Cond.methodLink "PennyArcade" (203 : Nat) ({ cls := "PennyArcade$Hall", name := "pass", desc := "()I" } : Jvm.MethodName)) ∈ lw_all := lw_g (lw_at lw_m3 217 rfl) rfl
theorem q783 : (Jvm.Cond.instanceMethod ({ cls := "PennyArcade", name := "count", desc := "(I)I" } : Jvm.MethodName)) ∈ lw_all := lw_g (lw_at lw_m4 21 rfl) rfl
theorem q784 : (Jvm.Cond.selects "PennyArcade" ({ cls := "PennyArcade", name := "count", desc := "(I)I" } : Jvm.MethodName) ({ cls := "PennyArcade", name := "count", desc := "(I)I" } : Jvm.MethodName)) ∈ lw_all := lw_g (lw_at lw_m4 22 rfl) rfl
theorem q785 : (Jvm.Cond.code ({ cls := "PennyArcade", name := "count", desc := "(I)I" } : Jvm.MethodName) prog_1_method_30_code (2 : Nat) (Option.some Jvm.ClassFile.FieldType.int)) ∈ lw_all := lw_g (lw_at lw_m4 23 rfl) rfl
theorem q790 : (Jvm.Cond.instanceMethod ({ cls := "PennyArcade", name := "foresee", desc := "(II)I" } : Jvm.MethodName)) ∈ lw_all := lw_g (lw_at lw_m4 28 rfl) rfl
theorem q791 : (Jvm.Cond.selects "PennyArcade" ({ cls := "PennyArcade", name := "foresee", desc := "(II)I" } : Jvm.MethodName) ({ cls := "PennyArcade", name := "foresee", desc := "(II)I" } : Jvm.MethodName)) ∈ lw_all := lw_g (lw_at lw_m4 29 rfl) rfl
theorem q792 : (Jvm.Cond.code ({ cls := "PennyArcade", name := "foresee", desc := "(II)I" } : Jvm.MethodName) prog_1_method_31_code (4 : Nat) (Option.some Jvm.ClassFile.FieldType.int)) ∈ lw_all := lw_g (lw_at lw_m4 30 rfl) rfl
theorem q793 : (Jvm.Cond.methodLink "PennyArcade" (228 : Nat) ({ cls := "PennyArcade$Hall", name := "become", desc := "(LPennyArcade$Hall;)V" } : Jvm.MethodName)) ∈ lw_all := lw_g (lw_at lw_m4 31 rfl) rfl
theorem q801 : (Jvm.Cond.instanceMethod ({ cls := "PennyArcade", name := "advise", desc := "(I)I" } : Jvm.MethodName)) ∈ lw_all := lw_g (lw_at lw_m4 39 rfl) rfl
theorem q802 : (Jvm.Cond.selects "PennyArcade" ({ cls := "PennyArcade", name := "advise", desc := "(I)I" } : Jvm.MethodName) ({ cls := "PennyArcade", name := "advise", desc := "(I)I" } : Jvm.MethodName)) ∈ lw_all := lw_g (lw_at lw_m4 40 rfl) rfl
theorem q803 : (Jvm.Cond.code ({ cls := "PennyArcade", name := "advise", desc := "(I)I" } : Jvm.MethodName) prog_1_method_32_code (5 : Nat) (Option.some Jvm.ClassFile.FieldType.int)) ∈ lw_all := lw_g (lw_at lw_m4 41 rfl) rfl
theorem q1082 : (Jvm.Cond.castable "PennyArcade" "java/lang/Object") ∈ lw_tbl := lw_at lw_m5 80 rfl
theorem in_X1 : ∀ w ∈ wsX10, w ∈ lw_all := lw_in wsX10 [184, 186, 188, 190, 192] (by decide +kernel) (by decide +kernel)

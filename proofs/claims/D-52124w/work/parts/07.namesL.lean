/-! PennyArcadeLaw -/
set_option maxRecDepth 100000
def RX0 : String := "PennyArcadeLaw"
abbrev cX0_addTable : ByteArray := method_3_code
def yX0_addTable : MethodName := ⟨RX0, "addTable", "(LPennyArcade;III[J)I"⟩
def dkwX0_addTable_1 : List UInt8 := [172]
abbrev dktX0_addTable_1 : List UInt8 := dkwX0_addTable_1 ++ []
def dkwX0_addTable_0 : List UInt8 := [25, 4, 3, 42, 27, 28, 29, 182, 0, 7, 133, 80, 167, 0, 11, 58, 5, 4, 172, 58, 5, 5, 172, 3]
abbrev dktX0_addTable_0 : List UInt8 := dkwX0_addTable_0 ++ dktX0_addTable_1
theorem dksX0_addTable_0 : cX0_addTable.data.toList.drop 0 = dktX0_addTable_0 := by decide +kernel
theorem dksX0_addTable_1 : cX0_addTable.data.toList.drop 24 = dktX0_addTable_1 := dk_seg dksX0_addTable_0 24 rfl rfl
theorem dX0_addTable_0 : decode cX0_addTable 0 = .ok (.aload 4, 2) := dk_25 4 (dk_at dksX0_addTable_0 0 rfl rfl)
theorem dX0_addTable_2 : decode cX0_addTable 2 = .ok (.iconst 0, 1) := dk_3 (dk_at dksX0_addTable_0 2 rfl rfl)
theorem dX0_addTable_3 : decode cX0_addTable 3 = .ok (.aload_n 0, 1) := dk_42 (dk_at dksX0_addTable_0 3 rfl rfl)
theorem dX0_addTable_4 : decode cX0_addTable 4 = .ok (.iload_n 1, 1) := dk_27 (dk_at dksX0_addTable_0 4 rfl rfl)
theorem dX0_addTable_5 : decode cX0_addTable 5 = .ok (.iload_n 2, 1) := dk_28 (dk_at dksX0_addTable_0 5 rfl rfl)
theorem dX0_addTable_6 : decode cX0_addTable 6 = .ok (.iload_n 3, 1) := dk_29 (dk_at dksX0_addTable_0 6 rfl rfl)
theorem dX0_addTable_7 : decode cX0_addTable 7 = .ok (.invokevirtual 7, 3) := dk_182 0 7 (dk_at dksX0_addTable_0 7 rfl rfl)
theorem dX0_addTable_10 : decode cX0_addTable 10 = .ok (.i2l, 1) := dk_133 (dk_at dksX0_addTable_0 10 rfl rfl)
theorem dX0_addTable_11 : decode cX0_addTable 11 = .ok (.lastore, 1) := dk_80 (dk_at dksX0_addTable_0 11 rfl rfl)
theorem dX0_addTable_12 : decode cX0_addTable 12 = .ok (.goto 11, 3) := dk_167 0 11 (dk_at dksX0_addTable_0 12 rfl rfl)
theorem dX0_addTable_15 : decode cX0_addTable 15 = .ok (.astore 5, 2) := dk_58 5 (dk_at dksX0_addTable_0 15 rfl rfl)
theorem dX0_addTable_17 : decode cX0_addTable 17 = .ok (.iconst 1, 1) := dk_4 (dk_at dksX0_addTable_0 17 rfl rfl)
theorem dX0_addTable_18 : decode cX0_addTable 18 = .ok (.ireturn, 1) := dk_172 (dk_at dksX0_addTable_0 18 rfl rfl)
theorem dX0_addTable_19 : decode cX0_addTable 19 = .ok (.astore 5, 2) := dk_58 5 (dk_at dksX0_addTable_0 19 rfl rfl)
theorem dX0_addTable_21 : decode cX0_addTable 21 = .ok (.iconst 2, 1) := dk_5 (dk_at dksX0_addTable_0 21 rfl rfl)
theorem dX0_addTable_22 : decode cX0_addTable 22 = .ok (.ireturn, 1) := dk_172 (dk_at dksX0_addTable_0 22 rfl rfl)
theorem dX0_addTable_23 : decode cX0_addTable 23 = .ok (.iconst 0, 1) := dk_3 (dk_at dksX0_addTable_0 23 rfl rfl)
theorem dX0_addTable_24 : decode cX0_addTable 24 = .ok (.ireturn, 1) := dk_172 (dk_at dksX0_addTable_1 0 rfl rfl)
abbrev cX0_addPusher : ByteArray := method_4_code
def yX0_addPusher : MethodName := ⟨RX0, "addPusher", "(LPennyArcade;II[J)I"⟩
def dkwX0_addPusher_0 : List UInt8 := [45, 3, 42, 27, 28, 182, 0, 17, 133, 80, 167, 0, 11, 58, 4, 4, 172, 58, 4, 5, 172, 3, 172]
abbrev dktX0_addPusher_0 : List UInt8 := dkwX0_addPusher_0 ++ []
theorem dksX0_addPusher_0 : cX0_addPusher.data.toList.drop 0 = dktX0_addPusher_0 := by decide +kernel
theorem dX0_addPusher_0 : decode cX0_addPusher 0 = .ok (.aload_n 3, 1) := dk_45 (dk_at dksX0_addPusher_0 0 rfl rfl)
theorem dX0_addPusher_1 : decode cX0_addPusher 1 = .ok (.iconst 0, 1) := dk_3 (dk_at dksX0_addPusher_0 1 rfl rfl)
theorem dX0_addPusher_2 : decode cX0_addPusher 2 = .ok (.aload_n 0, 1) := dk_42 (dk_at dksX0_addPusher_0 2 rfl rfl)
theorem dX0_addPusher_3 : decode cX0_addPusher 3 = .ok (.iload_n 1, 1) := dk_27 (dk_at dksX0_addPusher_0 3 rfl rfl)
theorem dX0_addPusher_4 : decode cX0_addPusher 4 = .ok (.iload_n 2, 1) := dk_28 (dk_at dksX0_addPusher_0 4 rfl rfl)
theorem dX0_addPusher_5 : decode cX0_addPusher 5 = .ok (.invokevirtual 17, 3) := dk_182 0 17 (dk_at dksX0_addPusher_0 5 rfl rfl)
theorem dX0_addPusher_8 : decode cX0_addPusher 8 = .ok (.i2l, 1) := dk_133 (dk_at dksX0_addPusher_0 8 rfl rfl)
theorem dX0_addPusher_9 : decode cX0_addPusher 9 = .ok (.lastore, 1) := dk_80 (dk_at dksX0_addPusher_0 9 rfl rfl)
theorem dX0_addPusher_10 : decode cX0_addPusher 10 = .ok (.goto 11, 3) := dk_167 0 11 (dk_at dksX0_addPusher_0 10 rfl rfl)
theorem dX0_addPusher_13 : decode cX0_addPusher 13 = .ok (.astore 4, 2) := dk_58 4 (dk_at dksX0_addPusher_0 13 rfl rfl)
theorem dX0_addPusher_15 : decode cX0_addPusher 15 = .ok (.iconst 1, 1) := dk_4 (dk_at dksX0_addPusher_0 15 rfl rfl)
theorem dX0_addPusher_16 : decode cX0_addPusher 16 = .ok (.ireturn, 1) := dk_172 (dk_at dksX0_addPusher_0 16 rfl rfl)
theorem dX0_addPusher_17 : decode cX0_addPusher 17 = .ok (.astore 4, 2) := dk_58 4 (dk_at dksX0_addPusher_0 17 rfl rfl)
theorem dX0_addPusher_19 : decode cX0_addPusher 19 = .ok (.iconst 2, 1) := dk_5 (dk_at dksX0_addPusher_0 19 rfl rfl)
theorem dX0_addPusher_20 : decode cX0_addPusher 20 = .ok (.ireturn, 1) := dk_172 (dk_at dksX0_addPusher_0 20 rfl rfl)
theorem dX0_addPusher_21 : decode cX0_addPusher 21 = .ok (.iconst 0, 1) := dk_3 (dk_at dksX0_addPusher_0 21 rfl rfl)
theorem dX0_addPusher_22 : decode cX0_addPusher 22 = .ok (.ireturn, 1) := dk_172 (dk_at dksX0_addPusher_0 22 rfl rfl)
abbrev cX0_bend : ByteArray := method_5_code
def yX0_bend : MethodName := ⟨RX0, "bend", "(LPennyArcade;IIII[J)I"⟩
def dkwX0_bend_1 : List UInt8 := [172, 3, 172]
abbrev dktX0_bend_1 : List UInt8 := dkwX0_bend_1 ++ []
def dkwX0_bend_0 : List UInt8 := [25, 5, 3, 42, 27, 28, 29, 21, 4, 182, 0, 21, 133, 80, 167, 0, 11, 58, 6, 4, 172, 58, 6, 5]
abbrev dktX0_bend_0 : List UInt8 := dkwX0_bend_0 ++ dktX0_bend_1
theorem dksX0_bend_0 : cX0_bend.data.toList.drop 0 = dktX0_bend_0 := by decide +kernel
theorem dksX0_bend_1 : cX0_bend.data.toList.drop 24 = dktX0_bend_1 := dk_seg dksX0_bend_0 24 rfl rfl
theorem dX0_bend_0 : decode cX0_bend 0 = .ok (.aload 5, 2) := dk_25 5 (dk_at dksX0_bend_0 0 rfl rfl)
theorem dX0_bend_2 : decode cX0_bend 2 = .ok (.iconst 0, 1) := dk_3 (dk_at dksX0_bend_0 2 rfl rfl)
theorem dX0_bend_3 : decode cX0_bend 3 = .ok (.aload_n 0, 1) := dk_42 (dk_at dksX0_bend_0 3 rfl rfl)
theorem dX0_bend_4 : decode cX0_bend 4 = .ok (.iload_n 1, 1) := dk_27 (dk_at dksX0_bend_0 4 rfl rfl)
theorem dX0_bend_5 : decode cX0_bend 5 = .ok (.iload_n 2, 1) := dk_28 (dk_at dksX0_bend_0 5 rfl rfl)
theorem dX0_bend_6 : decode cX0_bend 6 = .ok (.iload_n 3, 1) := dk_29 (dk_at dksX0_bend_0 6 rfl rfl)
theorem dX0_bend_7 : decode cX0_bend 7 = .ok (.iload 4, 2) := dk_21 4 (dk_at dksX0_bend_0 7 rfl rfl)
theorem dX0_bend_9 : decode cX0_bend 9 = .ok (.invokevirtual 21, 3) := dk_182 0 21 (dk_at dksX0_bend_0 9 rfl rfl)
theorem dX0_bend_12 : decode cX0_bend 12 = .ok (.i2l, 1) := dk_133 (dk_at dksX0_bend_0 12 rfl rfl)
theorem dX0_bend_13 : decode cX0_bend 13 = .ok (.lastore, 1) := dk_80 (dk_at dksX0_bend_0 13 rfl rfl)
theorem dX0_bend_14 : decode cX0_bend 14 = .ok (.goto 11, 3) := dk_167 0 11 (dk_at dksX0_bend_0 14 rfl rfl)
theorem dX0_bend_17 : decode cX0_bend 17 = .ok (.astore 6, 2) := dk_58 6 (dk_at dksX0_bend_0 17 rfl rfl)
theorem dX0_bend_19 : decode cX0_bend 19 = .ok (.iconst 1, 1) := dk_4 (dk_at dksX0_bend_0 19 rfl rfl)
theorem dX0_bend_20 : decode cX0_bend 20 = .ok (.ireturn, 1) := dk_172 (dk_at dksX0_bend_0 20 rfl rfl)
theorem dX0_bend_21 : decode cX0_bend 21 = .ok (.astore 6, 2) := dk_58 6 (dk_at dksX0_bend_0 21 rfl rfl)
theorem dX0_bend_23 : decode cX0_bend 23 = .ok (.iconst 2, 1) := dk_5 (dk_at dksX0_bend_0 23 rfl rfl)
theorem dX0_bend_24 : decode cX0_bend 24 = .ok (.ireturn, 1) := dk_172 (dk_at dksX0_bend_1 0 rfl rfl)
theorem dX0_bend_25 : decode cX0_bend 25 = .ok (.iconst 0, 1) := dk_3 (dk_at dksX0_bend_1 1 rfl rfl)
theorem dX0_bend_26 : decode cX0_bend 26 = .ok (.ireturn, 1) := dk_172 (dk_at dksX0_bend_1 2 rfl rfl)
abbrev cX0_setCup : ByteArray := method_6_code
def yX0_setCup : MethodName := ⟨RX0, "setCup", "(LPennyArcade;III[J)I"⟩
def dkwX0_setCup_1 : List UInt8 := [172]
abbrev dktX0_setCup_1 : List UInt8 := dkwX0_setCup_1 ++ []
def dkwX0_setCup_0 : List UInt8 := [25, 4, 3, 42, 27, 28, 29, 182, 0, 27, 133, 80, 167, 0, 11, 58, 5, 4, 172, 58, 5, 5, 172, 3]
abbrev dktX0_setCup_0 : List UInt8 := dkwX0_setCup_0 ++ dktX0_setCup_1
theorem dksX0_setCup_0 : cX0_setCup.data.toList.drop 0 = dktX0_setCup_0 := by decide +kernel
theorem dksX0_setCup_1 : cX0_setCup.data.toList.drop 24 = dktX0_setCup_1 := dk_seg dksX0_setCup_0 24 rfl rfl
theorem dX0_setCup_0 : decode cX0_setCup 0 = .ok (.aload 4, 2) := dk_25 4 (dk_at dksX0_setCup_0 0 rfl rfl)
theorem dX0_setCup_2 : decode cX0_setCup 2 = .ok (.iconst 0, 1) := dk_3 (dk_at dksX0_setCup_0 2 rfl rfl)
theorem dX0_setCup_3 : decode cX0_setCup 3 = .ok (.aload_n 0, 1) := dk_42 (dk_at dksX0_setCup_0 3 rfl rfl)
theorem dX0_setCup_4 : decode cX0_setCup 4 = .ok (.iload_n 1, 1) := dk_27 (dk_at dksX0_setCup_0 4 rfl rfl)
theorem dX0_setCup_5 : decode cX0_setCup 5 = .ok (.iload_n 2, 1) := dk_28 (dk_at dksX0_setCup_0 5 rfl rfl)
theorem dX0_setCup_6 : decode cX0_setCup 6 = .ok (.iload_n 3, 1) := dk_29 (dk_at dksX0_setCup_0 6 rfl rfl)
theorem dX0_setCup_7 : decode cX0_setCup 7 = .ok (.invokevirtual 27, 3) := dk_182 0 27 (dk_at dksX0_setCup_0 7 rfl rfl)
theorem dX0_setCup_10 : decode cX0_setCup 10 = .ok (.i2l, 1) := dk_133 (dk_at dksX0_setCup_0 10 rfl rfl)
theorem dX0_setCup_11 : decode cX0_setCup 11 = .ok (.lastore, 1) := dk_80 (dk_at dksX0_setCup_0 11 rfl rfl)
theorem dX0_setCup_12 : decode cX0_setCup 12 = .ok (.goto 11, 3) := dk_167 0 11 (dk_at dksX0_setCup_0 12 rfl rfl)
theorem dX0_setCup_15 : decode cX0_setCup 15 = .ok (.astore 5, 2) := dk_58 5 (dk_at dksX0_setCup_0 15 rfl rfl)
theorem dX0_setCup_17 : decode cX0_setCup 17 = .ok (.iconst 1, 1) := dk_4 (dk_at dksX0_setCup_0 17 rfl rfl)
theorem dX0_setCup_18 : decode cX0_setCup 18 = .ok (.ireturn, 1) := dk_172 (dk_at dksX0_setCup_0 18 rfl rfl)
theorem dX0_setCup_19 : decode cX0_setCup 19 = .ok (.astore 5, 2) := dk_58 5 (dk_at dksX0_setCup_0 19 rfl rfl)
theorem dX0_setCup_21 : decode cX0_setCup 21 = .ok (.iconst 2, 1) := dk_5 (dk_at dksX0_setCup_0 21 rfl rfl)
theorem dX0_setCup_22 : decode cX0_setCup 22 = .ok (.ireturn, 1) := dk_172 (dk_at dksX0_setCup_0 22 rfl rfl)
theorem dX0_setCup_23 : decode cX0_setCup 23 = .ok (.iconst 0, 1) := dk_3 (dk_at dksX0_setCup_0 23 rfl rfl)
theorem dX0_setCup_24 : decode cX0_setCup 24 = .ok (.ireturn, 1) := dk_172 (dk_at dksX0_setCup_1 0 rfl rfl)
abbrev cX0_machine : ByteArray := method_7_code
def yX0_machine : MethodName := ⟨RX0, "machine", "(LPennyArcade;II[J)I"⟩
def dkwX0_machine_0 : List UInt8 := [45, 3, 42, 27, 28, 182, 0, 30, 133, 80, 167, 0, 7, 58, 4, 4, 172, 3, 172]
abbrev dktX0_machine_0 : List UInt8 := dkwX0_machine_0 ++ []
theorem dksX0_machine_0 : cX0_machine.data.toList.drop 0 = dktX0_machine_0 := by decide +kernel
theorem dX0_machine_0 : decode cX0_machine 0 = .ok (.aload_n 3, 1) := dk_45 (dk_at dksX0_machine_0 0 rfl rfl)
theorem dX0_machine_1 : decode cX0_machine 1 = .ok (.iconst 0, 1) := dk_3 (dk_at dksX0_machine_0 1 rfl rfl)
theorem dX0_machine_2 : decode cX0_machine 2 = .ok (.aload_n 0, 1) := dk_42 (dk_at dksX0_machine_0 2 rfl rfl)
theorem dX0_machine_3 : decode cX0_machine 3 = .ok (.iload_n 1, 1) := dk_27 (dk_at dksX0_machine_0 3 rfl rfl)
theorem dX0_machine_4 : decode cX0_machine 4 = .ok (.iload_n 2, 1) := dk_28 (dk_at dksX0_machine_0 4 rfl rfl)
theorem dX0_machine_5 : decode cX0_machine 5 = .ok (.invokevirtual 30, 3) := dk_182 0 30 (dk_at dksX0_machine_0 5 rfl rfl)
theorem dX0_machine_8 : decode cX0_machine 8 = .ok (.i2l, 1) := dk_133 (dk_at dksX0_machine_0 8 rfl rfl)
theorem dX0_machine_9 : decode cX0_machine 9 = .ok (.lastore, 1) := dk_80 (dk_at dksX0_machine_0 9 rfl rfl)
theorem dX0_machine_10 : decode cX0_machine 10 = .ok (.goto 7, 3) := dk_167 0 7 (dk_at dksX0_machine_0 10 rfl rfl)
theorem dX0_machine_13 : decode cX0_machine 13 = .ok (.astore 4, 2) := dk_58 4 (dk_at dksX0_machine_0 13 rfl rfl)
theorem dX0_machine_15 : decode cX0_machine 15 = .ok (.iconst 1, 1) := dk_4 (dk_at dksX0_machine_0 15 rfl rfl)
theorem dX0_machine_16 : decode cX0_machine 16 = .ok (.ireturn, 1) := dk_172 (dk_at dksX0_machine_0 16 rfl rfl)
theorem dX0_machine_17 : decode cX0_machine 17 = .ok (.iconst 0, 1) := dk_3 (dk_at dksX0_machine_0 17 rfl rfl)
theorem dX0_machine_18 : decode cX0_machine 18 = .ok (.ireturn, 1) := dk_172 (dk_at dksX0_machine_0 18 rfl rfl)
abbrev cX0_ends : ByteArray := method_8_code
def yX0_ends : MethodName := ⟨RX0, "ends", "(LPennyArcade;III[J)I"⟩
def dkwX0_ends_1 : List UInt8 := [172]
abbrev dktX0_ends_1 : List UInt8 := dkwX0_ends_1 ++ []
def dkwX0_ends_0 : List UInt8 := [25, 4, 3, 42, 27, 28, 29, 182, 0, 33, 133, 80, 167, 0, 11, 58, 5, 4, 172, 58, 5, 5, 172, 3]
abbrev dktX0_ends_0 : List UInt8 := dkwX0_ends_0 ++ dktX0_ends_1
theorem dksX0_ends_0 : cX0_ends.data.toList.drop 0 = dktX0_ends_0 := by decide +kernel
theorem dksX0_ends_1 : cX0_ends.data.toList.drop 24 = dktX0_ends_1 := dk_seg dksX0_ends_0 24 rfl rfl
theorem dX0_ends_0 : decode cX0_ends 0 = .ok (.aload 4, 2) := dk_25 4 (dk_at dksX0_ends_0 0 rfl rfl)
theorem dX0_ends_2 : decode cX0_ends 2 = .ok (.iconst 0, 1) := dk_3 (dk_at dksX0_ends_0 2 rfl rfl)
theorem dX0_ends_3 : decode cX0_ends 3 = .ok (.aload_n 0, 1) := dk_42 (dk_at dksX0_ends_0 3 rfl rfl)
theorem dX0_ends_4 : decode cX0_ends 4 = .ok (.iload_n 1, 1) := dk_27 (dk_at dksX0_ends_0 4 rfl rfl)
theorem dX0_ends_5 : decode cX0_ends 5 = .ok (.iload_n 2, 1) := dk_28 (dk_at dksX0_ends_0 5 rfl rfl)
theorem dX0_ends_6 : decode cX0_ends 6 = .ok (.iload_n 3, 1) := dk_29 (dk_at dksX0_ends_0 6 rfl rfl)
theorem dX0_ends_7 : decode cX0_ends 7 = .ok (.invokevirtual 33, 3) := dk_182 0 33 (dk_at dksX0_ends_0 7 rfl rfl)
theorem dX0_ends_10 : decode cX0_ends 10 = .ok (.i2l, 1) := dk_133 (dk_at dksX0_ends_0 10 rfl rfl)
theorem dX0_ends_11 : decode cX0_ends 11 = .ok (.lastore, 1) := dk_80 (dk_at dksX0_ends_0 11 rfl rfl)
theorem dX0_ends_12 : decode cX0_ends 12 = .ok (.goto 11, 3) := dk_167 0 11 (dk_at dksX0_ends_0 12 rfl rfl)
theorem dX0_ends_15 : decode cX0_ends 15 = .ok (.astore 5, 2) := dk_58 5 (dk_at dksX0_ends_0 15 rfl rfl)
theorem dX0_ends_17 : decode cX0_ends 17 = .ok (.iconst 1, 1) := dk_4 (dk_at dksX0_ends_0 17 rfl rfl)
theorem dX0_ends_18 : decode cX0_ends 18 = .ok (.ireturn, 1) := dk_172 (dk_at dksX0_ends_0 18 rfl rfl)
theorem dX0_ends_19 : decode cX0_ends 19 = .ok (.astore 5, 2) := dk_58 5 (dk_at dksX0_ends_0 19 rfl rfl)
theorem dX0_ends_21 : decode cX0_ends 21 = .ok (.iconst 2, 1) := dk_5 (dk_at dksX0_ends_0 21 rfl rfl)
theorem dX0_ends_22 : decode cX0_ends 22 = .ok (.ireturn, 1) := dk_172 (dk_at dksX0_ends_0 22 rfl rfl)
theorem dX0_ends_23 : decode cX0_ends 23 = .ok (.iconst 0, 1) := dk_3 (dk_at dksX0_ends_0 23 rfl rfl)
theorem dX0_ends_24 : decode cX0_ends 24 = .ok (.ireturn, 1) := dk_172 (dk_at dksX0_ends_1 0 rfl rfl)
abbrev cX0_bestTilt : ByteArray := method_9_code
def yX0_bestTilt : MethodName := ⟨RX0, "bestTilt", "(LPennyArcade;II[J)I"⟩
def dkwX0_bestTilt_0 : List UInt8 := [45, 3, 42, 27, 28, 182, 0, 36, 133, 80, 167, 0, 11, 58, 4, 4, 172, 58, 4, 5, 172, 3, 172]
abbrev dktX0_bestTilt_0 : List UInt8 := dkwX0_bestTilt_0 ++ []
theorem dksX0_bestTilt_0 : cX0_bestTilt.data.toList.drop 0 = dktX0_bestTilt_0 := by decide +kernel
theorem dX0_bestTilt_0 : decode cX0_bestTilt 0 = .ok (.aload_n 3, 1) := dk_45 (dk_at dksX0_bestTilt_0 0 rfl rfl)
theorem dX0_bestTilt_1 : decode cX0_bestTilt 1 = .ok (.iconst 0, 1) := dk_3 (dk_at dksX0_bestTilt_0 1 rfl rfl)
theorem dX0_bestTilt_2 : decode cX0_bestTilt 2 = .ok (.aload_n 0, 1) := dk_42 (dk_at dksX0_bestTilt_0 2 rfl rfl)
theorem dX0_bestTilt_3 : decode cX0_bestTilt 3 = .ok (.iload_n 1, 1) := dk_27 (dk_at dksX0_bestTilt_0 3 rfl rfl)
theorem dX0_bestTilt_4 : decode cX0_bestTilt 4 = .ok (.iload_n 2, 1) := dk_28 (dk_at dksX0_bestTilt_0 4 rfl rfl)
theorem dX0_bestTilt_5 : decode cX0_bestTilt 5 = .ok (.invokevirtual 36, 3) := dk_182 0 36 (dk_at dksX0_bestTilt_0 5 rfl rfl)
theorem dX0_bestTilt_8 : decode cX0_bestTilt 8 = .ok (.i2l, 1) := dk_133 (dk_at dksX0_bestTilt_0 8 rfl rfl)
theorem dX0_bestTilt_9 : decode cX0_bestTilt 9 = .ok (.lastore, 1) := dk_80 (dk_at dksX0_bestTilt_0 9 rfl rfl)
theorem dX0_bestTilt_10 : decode cX0_bestTilt 10 = .ok (.goto 11, 3) := dk_167 0 11 (dk_at dksX0_bestTilt_0 10 rfl rfl)
theorem dX0_bestTilt_13 : decode cX0_bestTilt 13 = .ok (.astore 4, 2) := dk_58 4 (dk_at dksX0_bestTilt_0 13 rfl rfl)
theorem dX0_bestTilt_15 : decode cX0_bestTilt 15 = .ok (.iconst 1, 1) := dk_4 (dk_at dksX0_bestTilt_0 15 rfl rfl)
theorem dX0_bestTilt_16 : decode cX0_bestTilt 16 = .ok (.ireturn, 1) := dk_172 (dk_at dksX0_bestTilt_0 16 rfl rfl)
theorem dX0_bestTilt_17 : decode cX0_bestTilt 17 = .ok (.astore 4, 2) := dk_58 4 (dk_at dksX0_bestTilt_0 17 rfl rfl)
theorem dX0_bestTilt_19 : decode cX0_bestTilt 19 = .ok (.iconst 2, 1) := dk_5 (dk_at dksX0_bestTilt_0 19 rfl rfl)
theorem dX0_bestTilt_20 : decode cX0_bestTilt 20 = .ok (.ireturn, 1) := dk_172 (dk_at dksX0_bestTilt_0 20 rfl rfl)
theorem dX0_bestTilt_21 : decode cX0_bestTilt 21 = .ok (.iconst 0, 1) := dk_3 (dk_at dksX0_bestTilt_0 21 rfl rfl)
theorem dX0_bestTilt_22 : decode cX0_bestTilt 22 = .ok (.ireturn, 1) := dk_172 (dk_at dksX0_bestTilt_0 22 rfl rfl)
abbrev cX0_dead : ByteArray := method_10_code
def yX0_dead : MethodName := ⟨RX0, "dead", "(LPennyArcade;I[J)I"⟩
def dkwX0_dead_0 : List UInt8 := [44, 3, 42, 27, 182, 0, 39, 133, 80, 167, 0, 9, 78, 4, 172, 78, 5, 172, 3, 172]
abbrev dktX0_dead_0 : List UInt8 := dkwX0_dead_0 ++ []
theorem dksX0_dead_0 : cX0_dead.data.toList.drop 0 = dktX0_dead_0 := by decide +kernel
theorem dX0_dead_0 : decode cX0_dead 0 = .ok (.aload_n 2, 1) := dk_44 (dk_at dksX0_dead_0 0 rfl rfl)
theorem dX0_dead_1 : decode cX0_dead 1 = .ok (.iconst 0, 1) := dk_3 (dk_at dksX0_dead_0 1 rfl rfl)
theorem dX0_dead_2 : decode cX0_dead 2 = .ok (.aload_n 0, 1) := dk_42 (dk_at dksX0_dead_0 2 rfl rfl)
theorem dX0_dead_3 : decode cX0_dead 3 = .ok (.iload_n 1, 1) := dk_27 (dk_at dksX0_dead_0 3 rfl rfl)
theorem dX0_dead_4 : decode cX0_dead 4 = .ok (.invokevirtual 39, 3) := dk_182 0 39 (dk_at dksX0_dead_0 4 rfl rfl)
theorem dX0_dead_7 : decode cX0_dead 7 = .ok (.i2l, 1) := dk_133 (dk_at dksX0_dead_0 7 rfl rfl)
theorem dX0_dead_8 : decode cX0_dead 8 = .ok (.lastore, 1) := dk_80 (dk_at dksX0_dead_0 8 rfl rfl)
theorem dX0_dead_9 : decode cX0_dead 9 = .ok (.goto 9, 3) := dk_167 0 9 (dk_at dksX0_dead_0 9 rfl rfl)
theorem dX0_dead_12 : decode cX0_dead 12 = .ok (.astore_n 3, 1) := dk_78 (dk_at dksX0_dead_0 12 rfl rfl)
theorem dX0_dead_13 : decode cX0_dead 13 = .ok (.iconst 1, 1) := dk_4 (dk_at dksX0_dead_0 13 rfl rfl)
theorem dX0_dead_14 : decode cX0_dead 14 = .ok (.ireturn, 1) := dk_172 (dk_at dksX0_dead_0 14 rfl rfl)
theorem dX0_dead_15 : decode cX0_dead 15 = .ok (.astore_n 3, 1) := dk_78 (dk_at dksX0_dead_0 15 rfl rfl)
theorem dX0_dead_16 : decode cX0_dead 16 = .ok (.iconst 2, 1) := dk_5 (dk_at dksX0_dead_0 16 rfl rfl)
theorem dX0_dead_17 : decode cX0_dead 17 = .ok (.ireturn, 1) := dk_172 (dk_at dksX0_dead_0 17 rfl rfl)
theorem dX0_dead_18 : decode cX0_dead 18 = .ok (.iconst 0, 1) := dk_3 (dk_at dksX0_dead_0 18 rfl rfl)
theorem dX0_dead_19 : decode cX0_dead 19 = .ok (.ireturn, 1) := dk_172 (dk_at dksX0_dead_0 19 rfl rfl)
abbrev cX0_ledge : ByteArray := method_11_code
def yX0_ledge : MethodName := ⟨RX0, "ledge", "(LPennyArcade;II[J)I"⟩
def dkwX0_ledge_0 : List UInt8 := [45, 3, 42, 27, 28, 182, 0, 43, 133, 80, 167, 0, 11, 58, 4, 4, 172, 58, 4, 5, 172, 3, 172]
abbrev dktX0_ledge_0 : List UInt8 := dkwX0_ledge_0 ++ []
theorem dksX0_ledge_0 : cX0_ledge.data.toList.drop 0 = dktX0_ledge_0 := by decide +kernel
theorem dX0_ledge_0 : decode cX0_ledge 0 = .ok (.aload_n 3, 1) := dk_45 (dk_at dksX0_ledge_0 0 rfl rfl)
theorem dX0_ledge_1 : decode cX0_ledge 1 = .ok (.iconst 0, 1) := dk_3 (dk_at dksX0_ledge_0 1 rfl rfl)
theorem dX0_ledge_2 : decode cX0_ledge 2 = .ok (.aload_n 0, 1) := dk_42 (dk_at dksX0_ledge_0 2 rfl rfl)
theorem dX0_ledge_3 : decode cX0_ledge 3 = .ok (.iload_n 1, 1) := dk_27 (dk_at dksX0_ledge_0 3 rfl rfl)
theorem dX0_ledge_4 : decode cX0_ledge 4 = .ok (.iload_n 2, 1) := dk_28 (dk_at dksX0_ledge_0 4 rfl rfl)
theorem dX0_ledge_5 : decode cX0_ledge 5 = .ok (.invokevirtual 43, 3) := dk_182 0 43 (dk_at dksX0_ledge_0 5 rfl rfl)
theorem dX0_ledge_8 : decode cX0_ledge 8 = .ok (.i2l, 1) := dk_133 (dk_at dksX0_ledge_0 8 rfl rfl)
theorem dX0_ledge_9 : decode cX0_ledge 9 = .ok (.lastore, 1) := dk_80 (dk_at dksX0_ledge_0 9 rfl rfl)
theorem dX0_ledge_10 : decode cX0_ledge 10 = .ok (.goto 11, 3) := dk_167 0 11 (dk_at dksX0_ledge_0 10 rfl rfl)
theorem dX0_ledge_13 : decode cX0_ledge 13 = .ok (.astore 4, 2) := dk_58 4 (dk_at dksX0_ledge_0 13 rfl rfl)
theorem dX0_ledge_15 : decode cX0_ledge 15 = .ok (.iconst 1, 1) := dk_4 (dk_at dksX0_ledge_0 15 rfl rfl)
theorem dX0_ledge_16 : decode cX0_ledge 16 = .ok (.ireturn, 1) := dk_172 (dk_at dksX0_ledge_0 16 rfl rfl)
theorem dX0_ledge_17 : decode cX0_ledge 17 = .ok (.astore 4, 2) := dk_58 4 (dk_at dksX0_ledge_0 17 rfl rfl)
theorem dX0_ledge_19 : decode cX0_ledge 19 = .ok (.iconst 2, 1) := dk_5 (dk_at dksX0_ledge_0 19 rfl rfl)
theorem dX0_ledge_20 : decode cX0_ledge 20 = .ok (.ireturn, 1) := dk_172 (dk_at dksX0_ledge_0 20 rfl rfl)
theorem dX0_ledge_21 : decode cX0_ledge 21 = .ok (.iconst 0, 1) := dk_3 (dk_at dksX0_ledge_0 21 rfl rfl)
theorem dX0_ledge_22 : decode cX0_ledge 22 = .ok (.ireturn, 1) := dk_172 (dk_at dksX0_ledge_0 22 rfl rfl)
abbrev cX0_come : ByteArray := method_12_code
def yX0_come : MethodName := ⟨RX0, "come", "(LPennyArcade;II[J)I"⟩
def dkwX0_come_0 : List UInt8 := [45, 3, 42, 27, 28, 182, 0, 46, 133, 80, 167, 0, 11, 58, 4, 4, 172, 58, 4, 5, 172, 3, 172]
abbrev dktX0_come_0 : List UInt8 := dkwX0_come_0 ++ []
theorem dksX0_come_0 : cX0_come.data.toList.drop 0 = dktX0_come_0 := by decide +kernel
theorem dX0_come_0 : decode cX0_come 0 = .ok (.aload_n 3, 1) := dk_45 (dk_at dksX0_come_0 0 rfl rfl)
theorem dX0_come_1 : decode cX0_come 1 = .ok (.iconst 0, 1) := dk_3 (dk_at dksX0_come_0 1 rfl rfl)
theorem dX0_come_2 : decode cX0_come 2 = .ok (.aload_n 0, 1) := dk_42 (dk_at dksX0_come_0 2 rfl rfl)
theorem dX0_come_3 : decode cX0_come 3 = .ok (.iload_n 1, 1) := dk_27 (dk_at dksX0_come_0 3 rfl rfl)
theorem dX0_come_4 : decode cX0_come 4 = .ok (.iload_n 2, 1) := dk_28 (dk_at dksX0_come_0 4 rfl rfl)
theorem dX0_come_5 : decode cX0_come 5 = .ok (.invokevirtual 46, 3) := dk_182 0 46 (dk_at dksX0_come_0 5 rfl rfl)
theorem dX0_come_8 : decode cX0_come 8 = .ok (.i2l, 1) := dk_133 (dk_at dksX0_come_0 8 rfl rfl)
theorem dX0_come_9 : decode cX0_come 9 = .ok (.lastore, 1) := dk_80 (dk_at dksX0_come_0 9 rfl rfl)
theorem dX0_come_10 : decode cX0_come 10 = .ok (.goto 11, 3) := dk_167 0 11 (dk_at dksX0_come_0 10 rfl rfl)
theorem dX0_come_13 : decode cX0_come 13 = .ok (.astore 4, 2) := dk_58 4 (dk_at dksX0_come_0 13 rfl rfl)
theorem dX0_come_15 : decode cX0_come 15 = .ok (.iconst 1, 1) := dk_4 (dk_at dksX0_come_0 15 rfl rfl)
theorem dX0_come_16 : decode cX0_come 16 = .ok (.ireturn, 1) := dk_172 (dk_at dksX0_come_0 16 rfl rfl)
theorem dX0_come_17 : decode cX0_come 17 = .ok (.astore 4, 2) := dk_58 4 (dk_at dksX0_come_0 17 rfl rfl)
theorem dX0_come_19 : decode cX0_come 19 = .ok (.iconst 2, 1) := dk_5 (dk_at dksX0_come_0 19 rfl rfl)
theorem dX0_come_20 : decode cX0_come 20 = .ok (.ireturn, 1) := dk_172 (dk_at dksX0_come_0 20 rfl rfl)
theorem dX0_come_21 : decode cX0_come 21 = .ok (.iconst 0, 1) := dk_3 (dk_at dksX0_come_0 21 rfl rfl)
theorem dX0_come_22 : decode cX0_come 22 = .ok (.ireturn, 1) := dk_172 (dk_at dksX0_come_0 22 rfl rfl)
abbrev cX0_go : ByteArray := method_13_code
def yX0_go : MethodName := ⟨RX0, "go", "(LPennyArcade;II[J)I"⟩
def dkwX0_go_0 : List UInt8 := [45, 3, 42, 27, 28, 182, 0, 49, 133, 80, 167, 0, 7, 58, 4, 4, 172, 3, 172]
abbrev dktX0_go_0 : List UInt8 := dkwX0_go_0 ++ []
theorem dksX0_go_0 : cX0_go.data.toList.drop 0 = dktX0_go_0 := by decide +kernel
theorem dX0_go_0 : decode cX0_go 0 = .ok (.aload_n 3, 1) := dk_45 (dk_at dksX0_go_0 0 rfl rfl)
theorem dX0_go_1 : decode cX0_go 1 = .ok (.iconst 0, 1) := dk_3 (dk_at dksX0_go_0 1 rfl rfl)
theorem dX0_go_2 : decode cX0_go 2 = .ok (.aload_n 0, 1) := dk_42 (dk_at dksX0_go_0 2 rfl rfl)
theorem dX0_go_3 : decode cX0_go 3 = .ok (.iload_n 1, 1) := dk_27 (dk_at dksX0_go_0 3 rfl rfl)
theorem dX0_go_4 : decode cX0_go 4 = .ok (.iload_n 2, 1) := dk_28 (dk_at dksX0_go_0 4 rfl rfl)
theorem dX0_go_5 : decode cX0_go 5 = .ok (.invokevirtual 49, 3) := dk_182 0 49 (dk_at dksX0_go_0 5 rfl rfl)
theorem dX0_go_8 : decode cX0_go 8 = .ok (.i2l, 1) := dk_133 (dk_at dksX0_go_0 8 rfl rfl)
theorem dX0_go_9 : decode cX0_go 9 = .ok (.lastore, 1) := dk_80 (dk_at dksX0_go_0 9 rfl rfl)
theorem dX0_go_10 : decode cX0_go 10 = .ok (.goto 7, 3) := dk_167 0 7 (dk_at dksX0_go_0 10 rfl rfl)
theorem dX0_go_13 : decode cX0_go 13 = .ok (.astore 4, 2) := dk_58 4 (dk_at dksX0_go_0 13 rfl rfl)
theorem dX0_go_15 : decode cX0_go 15 = .ok (.iconst 1, 1) := dk_4 (dk_at dksX0_go_0 15 rfl rfl)
theorem dX0_go_16 : decode cX0_go 16 = .ok (.ireturn, 1) := dk_172 (dk_at dksX0_go_0 16 rfl rfl)
theorem dX0_go_17 : decode cX0_go 17 = .ok (.iconst 0, 1) := dk_3 (dk_at dksX0_go_0 17 rfl rfl)
theorem dX0_go_18 : decode cX0_go 18 = .ok (.ireturn, 1) := dk_172 (dk_at dksX0_go_0 18 rfl rfl)
abbrev cX0_play : ByteArray := method_14_code
def yX0_play : MethodName := ⟨RX0, "play", "(LPennyArcade;IIII[J)I"⟩
def dkwX0_play_1 : List UInt8 := [172, 58, 6, 6, 172, 3, 172]
abbrev dktX0_play_1 : List UInt8 := dkwX0_play_1 ++ []
def dkwX0_play_0 : List UInt8 := [25, 5, 3, 42, 27, 28, 29, 21, 4, 182, 0, 52, 133, 80, 167, 0, 15, 58, 6, 4, 172, 58, 6, 5]
abbrev dktX0_play_0 : List UInt8 := dkwX0_play_0 ++ dktX0_play_1
theorem dksX0_play_0 : cX0_play.data.toList.drop 0 = dktX0_play_0 := by decide +kernel
theorem dksX0_play_1 : cX0_play.data.toList.drop 24 = dktX0_play_1 := dk_seg dksX0_play_0 24 rfl rfl
theorem dX0_play_0 : decode cX0_play 0 = .ok (.aload 5, 2) := dk_25 5 (dk_at dksX0_play_0 0 rfl rfl)
theorem dX0_play_2 : decode cX0_play 2 = .ok (.iconst 0, 1) := dk_3 (dk_at dksX0_play_0 2 rfl rfl)
theorem dX0_play_3 : decode cX0_play 3 = .ok (.aload_n 0, 1) := dk_42 (dk_at dksX0_play_0 3 rfl rfl)
theorem dX0_play_4 : decode cX0_play 4 = .ok (.iload_n 1, 1) := dk_27 (dk_at dksX0_play_0 4 rfl rfl)
theorem dX0_play_5 : decode cX0_play 5 = .ok (.iload_n 2, 1) := dk_28 (dk_at dksX0_play_0 5 rfl rfl)
theorem dX0_play_6 : decode cX0_play 6 = .ok (.iload_n 3, 1) := dk_29 (dk_at dksX0_play_0 6 rfl rfl)
theorem dX0_play_7 : decode cX0_play 7 = .ok (.iload 4, 2) := dk_21 4 (dk_at dksX0_play_0 7 rfl rfl)
theorem dX0_play_9 : decode cX0_play 9 = .ok (.invokevirtual 52, 3) := dk_182 0 52 (dk_at dksX0_play_0 9 rfl rfl)
theorem dX0_play_12 : decode cX0_play 12 = .ok (.i2l, 1) := dk_133 (dk_at dksX0_play_0 12 rfl rfl)
theorem dX0_play_13 : decode cX0_play 13 = .ok (.lastore, 1) := dk_80 (dk_at dksX0_play_0 13 rfl rfl)
theorem dX0_play_14 : decode cX0_play 14 = .ok (.goto 15, 3) := dk_167 0 15 (dk_at dksX0_play_0 14 rfl rfl)
theorem dX0_play_17 : decode cX0_play 17 = .ok (.astore 6, 2) := dk_58 6 (dk_at dksX0_play_0 17 rfl rfl)
theorem dX0_play_19 : decode cX0_play 19 = .ok (.iconst 1, 1) := dk_4 (dk_at dksX0_play_0 19 rfl rfl)
theorem dX0_play_20 : decode cX0_play 20 = .ok (.ireturn, 1) := dk_172 (dk_at dksX0_play_0 20 rfl rfl)
theorem dX0_play_21 : decode cX0_play 21 = .ok (.astore 6, 2) := dk_58 6 (dk_at dksX0_play_0 21 rfl rfl)
theorem dX0_play_23 : decode cX0_play 23 = .ok (.iconst 2, 1) := dk_5 (dk_at dksX0_play_0 23 rfl rfl)
theorem dX0_play_24 : decode cX0_play 24 = .ok (.ireturn, 1) := dk_172 (dk_at dksX0_play_1 0 rfl rfl)
theorem dX0_play_25 : decode cX0_play 25 = .ok (.astore 6, 2) := dk_58 6 (dk_at dksX0_play_1 1 rfl rfl)
theorem dX0_play_27 : decode cX0_play 27 = .ok (.iconst 3, 1) := dk_6 (dk_at dksX0_play_1 3 rfl rfl)
theorem dX0_play_28 : decode cX0_play 28 = .ok (.ireturn, 1) := dk_172 (dk_at dksX0_play_1 4 rfl rfl)
theorem dX0_play_29 : decode cX0_play 29 = .ok (.iconst 0, 1) := dk_3 (dk_at dksX0_play_1 5 rfl rfl)
theorem dX0_play_30 : decode cX0_play 30 = .ok (.ireturn, 1) := dk_172 (dk_at dksX0_play_1 6 rfl rfl)
abbrev cX0_player : ByteArray := method_15_code
def yX0_player : MethodName := ⟨RX0, "player", "(LPennyArcade;II[J)I"⟩
def dkwX0_player_0 : List UInt8 := [45, 3, 42, 27, 28, 182, 0, 55, 133, 80, 167, 0, 7, 58, 4, 4, 172, 3, 172]
abbrev dktX0_player_0 : List UInt8 := dkwX0_player_0 ++ []
theorem dksX0_player_0 : cX0_player.data.toList.drop 0 = dktX0_player_0 := by decide +kernel
theorem dX0_player_0 : decode cX0_player 0 = .ok (.aload_n 3, 1) := dk_45 (dk_at dksX0_player_0 0 rfl rfl)
theorem dX0_player_1 : decode cX0_player 1 = .ok (.iconst 0, 1) := dk_3 (dk_at dksX0_player_0 1 rfl rfl)
theorem dX0_player_2 : decode cX0_player 2 = .ok (.aload_n 0, 1) := dk_42 (dk_at dksX0_player_0 2 rfl rfl)
theorem dX0_player_3 : decode cX0_player 3 = .ok (.iload_n 1, 1) := dk_27 (dk_at dksX0_player_0 3 rfl rfl)
theorem dX0_player_4 : decode cX0_player 4 = .ok (.iload_n 2, 1) := dk_28 (dk_at dksX0_player_0 4 rfl rfl)
theorem dX0_player_5 : decode cX0_player 5 = .ok (.invokevirtual 55, 3) := dk_182 0 55 (dk_at dksX0_player_0 5 rfl rfl)
theorem dX0_player_8 : decode cX0_player 8 = .ok (.i2l, 1) := dk_133 (dk_at dksX0_player_0 8 rfl rfl)
theorem dX0_player_9 : decode cX0_player 9 = .ok (.lastore, 1) := dk_80 (dk_at dksX0_player_0 9 rfl rfl)
theorem dX0_player_10 : decode cX0_player 10 = .ok (.goto 7, 3) := dk_167 0 7 (dk_at dksX0_player_0 10 rfl rfl)
theorem dX0_player_13 : decode cX0_player 13 = .ok (.astore 4, 2) := dk_58 4 (dk_at dksX0_player_0 13 rfl rfl)
theorem dX0_player_15 : decode cX0_player 15 = .ok (.iconst 1, 1) := dk_4 (dk_at dksX0_player_0 15 rfl rfl)
theorem dX0_player_16 : decode cX0_player 16 = .ok (.ireturn, 1) := dk_172 (dk_at dksX0_player_0 16 rfl rfl)
theorem dX0_player_17 : decode cX0_player 17 = .ok (.iconst 0, 1) := dk_3 (dk_at dksX0_player_0 17 rfl rfl)
theorem dX0_player_18 : decode cX0_player 18 = .ok (.ireturn, 1) := dk_172 (dk_at dksX0_player_0 18 rfl rfl)
abbrev cX0_setSkill : ByteArray := method_16_code
def yX0_setSkill : MethodName := ⟨RX0, "setSkill", "(LPennyArcade;I[J)I"⟩
def dkwX0_setSkill_0 : List UInt8 := [44, 3, 42, 27, 182, 0, 58, 133, 80, 167, 0, 6, 78, 4, 172, 3, 172]
abbrev dktX0_setSkill_0 : List UInt8 := dkwX0_setSkill_0 ++ []
theorem dksX0_setSkill_0 : cX0_setSkill.data.toList.drop 0 = dktX0_setSkill_0 := by decide +kernel
theorem dX0_setSkill_0 : decode cX0_setSkill 0 = .ok (.aload_n 2, 1) := dk_44 (dk_at dksX0_setSkill_0 0 rfl rfl)
theorem dX0_setSkill_1 : decode cX0_setSkill 1 = .ok (.iconst 0, 1) := dk_3 (dk_at dksX0_setSkill_0 1 rfl rfl)
theorem dX0_setSkill_2 : decode cX0_setSkill 2 = .ok (.aload_n 0, 1) := dk_42 (dk_at dksX0_setSkill_0 2 rfl rfl)
theorem dX0_setSkill_3 : decode cX0_setSkill 3 = .ok (.iload_n 1, 1) := dk_27 (dk_at dksX0_setSkill_0 3 rfl rfl)
theorem dX0_setSkill_4 : decode cX0_setSkill 4 = .ok (.invokevirtual 58, 3) := dk_182 0 58 (dk_at dksX0_setSkill_0 4 rfl rfl)
theorem dX0_setSkill_7 : decode cX0_setSkill 7 = .ok (.i2l, 1) := dk_133 (dk_at dksX0_setSkill_0 7 rfl rfl)
theorem dX0_setSkill_8 : decode cX0_setSkill 8 = .ok (.lastore, 1) := dk_80 (dk_at dksX0_setSkill_0 8 rfl rfl)
theorem dX0_setSkill_9 : decode cX0_setSkill 9 = .ok (.goto 6, 3) := dk_167 0 6 (dk_at dksX0_setSkill_0 9 rfl rfl)
theorem dX0_setSkill_12 : decode cX0_setSkill 12 = .ok (.astore_n 3, 1) := dk_78 (dk_at dksX0_setSkill_0 12 rfl rfl)
theorem dX0_setSkill_13 : decode cX0_setSkill 13 = .ok (.iconst 1, 1) := dk_4 (dk_at dksX0_setSkill_0 13 rfl rfl)
theorem dX0_setSkill_14 : decode cX0_setSkill 14 = .ok (.ireturn, 1) := dk_172 (dk_at dksX0_setSkill_0 14 rfl rfl)
theorem dX0_setSkill_15 : decode cX0_setSkill 15 = .ok (.iconst 0, 1) := dk_3 (dk_at dksX0_setSkill_0 15 rfl rfl)
theorem dX0_setSkill_16 : decode cX0_setSkill 16 = .ok (.ireturn, 1) := dk_172 (dk_at dksX0_setSkill_0 16 rfl rfl)
abbrev cX0_call : ByteArray := method_17_code
def yX0_call : MethodName := ⟨RX0, "call", "(LPennyArcade;I[J)I"⟩
def dkwX0_call_0 : List UInt8 := [44, 3, 42, 27, 182, 0, 61, 133, 80, 167, 0, 9, 78, 4, 172, 78, 5, 172, 3, 172]
abbrev dktX0_call_0 : List UInt8 := dkwX0_call_0 ++ []
theorem dksX0_call_0 : cX0_call.data.toList.drop 0 = dktX0_call_0 := by decide +kernel
theorem dX0_call_0 : decode cX0_call 0 = .ok (.aload_n 2, 1) := dk_44 (dk_at dksX0_call_0 0 rfl rfl)
theorem dX0_call_1 : decode cX0_call 1 = .ok (.iconst 0, 1) := dk_3 (dk_at dksX0_call_0 1 rfl rfl)
theorem dX0_call_2 : decode cX0_call 2 = .ok (.aload_n 0, 1) := dk_42 (dk_at dksX0_call_0 2 rfl rfl)
theorem dX0_call_3 : decode cX0_call 3 = .ok (.iload_n 1, 1) := dk_27 (dk_at dksX0_call_0 3 rfl rfl)
theorem dX0_call_4 : decode cX0_call 4 = .ok (.invokevirtual 61, 3) := dk_182 0 61 (dk_at dksX0_call_0 4 rfl rfl)
theorem dX0_call_7 : decode cX0_call 7 = .ok (.i2l, 1) := dk_133 (dk_at dksX0_call_0 7 rfl rfl)
theorem dX0_call_8 : decode cX0_call 8 = .ok (.lastore, 1) := dk_80 (dk_at dksX0_call_0 8 rfl rfl)
theorem dX0_call_9 : decode cX0_call 9 = .ok (.goto 9, 3) := dk_167 0 9 (dk_at dksX0_call_0 9 rfl rfl)
theorem dX0_call_12 : decode cX0_call 12 = .ok (.astore_n 3, 1) := dk_78 (dk_at dksX0_call_0 12 rfl rfl)
theorem dX0_call_13 : decode cX0_call 13 = .ok (.iconst 1, 1) := dk_4 (dk_at dksX0_call_0 13 rfl rfl)
theorem dX0_call_14 : decode cX0_call 14 = .ok (.ireturn, 1) := dk_172 (dk_at dksX0_call_0 14 rfl rfl)
theorem dX0_call_15 : decode cX0_call 15 = .ok (.astore_n 3, 1) := dk_78 (dk_at dksX0_call_0 15 rfl rfl)
theorem dX0_call_16 : decode cX0_call 16 = .ok (.iconst 2, 1) := dk_5 (dk_at dksX0_call_0 16 rfl rfl)
theorem dX0_call_17 : decode cX0_call 17 = .ok (.ireturn, 1) := dk_172 (dk_at dksX0_call_0 17 rfl rfl)
theorem dX0_call_18 : decode cX0_call 18 = .ok (.iconst 0, 1) := dk_3 (dk_at dksX0_call_0 18 rfl rfl)
theorem dX0_call_19 : decode cX0_call 19 = .ok (.ireturn, 1) := dk_172 (dk_at dksX0_call_0 19 rfl rfl)
abbrev cX0_repair : ByteArray := method_18_code
def yX0_repair : MethodName := ⟨RX0, "repair", "(LPennyArcade;I[J)I"⟩
def dkwX0_repair_0 : List UInt8 := [44, 3, 42, 27, 182, 0, 64, 133, 80, 167, 0, 6, 78, 4, 172, 3, 172]
abbrev dktX0_repair_0 : List UInt8 := dkwX0_repair_0 ++ []
theorem dksX0_repair_0 : cX0_repair.data.toList.drop 0 = dktX0_repair_0 := by decide +kernel
theorem dX0_repair_0 : decode cX0_repair 0 = .ok (.aload_n 2, 1) := dk_44 (dk_at dksX0_repair_0 0 rfl rfl)
theorem dX0_repair_1 : decode cX0_repair 1 = .ok (.iconst 0, 1) := dk_3 (dk_at dksX0_repair_0 1 rfl rfl)
theorem dX0_repair_2 : decode cX0_repair 2 = .ok (.aload_n 0, 1) := dk_42 (dk_at dksX0_repair_0 2 rfl rfl)
theorem dX0_repair_3 : decode cX0_repair 3 = .ok (.iload_n 1, 1) := dk_27 (dk_at dksX0_repair_0 3 rfl rfl)
theorem dX0_repair_4 : decode cX0_repair 4 = .ok (.invokevirtual 64, 3) := dk_182 0 64 (dk_at dksX0_repair_0 4 rfl rfl)
theorem dX0_repair_7 : decode cX0_repair 7 = .ok (.i2l, 1) := dk_133 (dk_at dksX0_repair_0 7 rfl rfl)
theorem dX0_repair_8 : decode cX0_repair 8 = .ok (.lastore, 1) := dk_80 (dk_at dksX0_repair_0 8 rfl rfl)
theorem dX0_repair_9 : decode cX0_repair 9 = .ok (.goto 6, 3) := dk_167 0 6 (dk_at dksX0_repair_0 9 rfl rfl)
theorem dX0_repair_12 : decode cX0_repair 12 = .ok (.astore_n 3, 1) := dk_78 (dk_at dksX0_repair_0 12 rfl rfl)
theorem dX0_repair_13 : decode cX0_repair 13 = .ok (.iconst 1, 1) := dk_4 (dk_at dksX0_repair_0 13 rfl rfl)
theorem dX0_repair_14 : decode cX0_repair 14 = .ok (.ireturn, 1) := dk_172 (dk_at dksX0_repair_0 14 rfl rfl)
theorem dX0_repair_15 : decode cX0_repair 15 = .ok (.iconst 0, 1) := dk_3 (dk_at dksX0_repair_0 15 rfl rfl)
theorem dX0_repair_16 : decode cX0_repair 16 = .ok (.ireturn, 1) := dk_172 (dk_at dksX0_repair_0 16 rfl rfl)
abbrev cX0_pass : ByteArray := method_19_code
def yX0_pass : MethodName := ⟨RX0, "pass", "(LPennyArcade;I[J)I"⟩
def dkwX0_pass_0 : List UInt8 := [44, 3, 42, 27, 182, 0, 67, 133, 80, 167, 0, 6, 78, 4, 172, 3, 172]
abbrev dktX0_pass_0 : List UInt8 := dkwX0_pass_0 ++ []
theorem dksX0_pass_0 : cX0_pass.data.toList.drop 0 = dktX0_pass_0 := by decide +kernel
theorem dX0_pass_0 : decode cX0_pass 0 = .ok (.aload_n 2, 1) := dk_44 (dk_at dksX0_pass_0 0 rfl rfl)
theorem dX0_pass_1 : decode cX0_pass 1 = .ok (.iconst 0, 1) := dk_3 (dk_at dksX0_pass_0 1 rfl rfl)
theorem dX0_pass_2 : decode cX0_pass 2 = .ok (.aload_n 0, 1) := dk_42 (dk_at dksX0_pass_0 2 rfl rfl)
theorem dX0_pass_3 : decode cX0_pass 3 = .ok (.iload_n 1, 1) := dk_27 (dk_at dksX0_pass_0 3 rfl rfl)
theorem dX0_pass_4 : decode cX0_pass 4 = .ok (.invokevirtual 67, 3) := dk_182 0 67 (dk_at dksX0_pass_0 4 rfl rfl)
theorem dX0_pass_7 : decode cX0_pass 7 = .ok (.i2l, 1) := dk_133 (dk_at dksX0_pass_0 7 rfl rfl)
theorem dX0_pass_8 : decode cX0_pass 8 = .ok (.lastore, 1) := dk_80 (dk_at dksX0_pass_0 8 rfl rfl)
theorem dX0_pass_9 : decode cX0_pass 9 = .ok (.goto 6, 3) := dk_167 0 6 (dk_at dksX0_pass_0 9 rfl rfl)
theorem dX0_pass_12 : decode cX0_pass 12 = .ok (.astore_n 3, 1) := dk_78 (dk_at dksX0_pass_0 12 rfl rfl)
theorem dX0_pass_13 : decode cX0_pass 13 = .ok (.iconst 1, 1) := dk_4 (dk_at dksX0_pass_0 13 rfl rfl)
theorem dX0_pass_14 : decode cX0_pass 14 = .ok (.ireturn, 1) := dk_172 (dk_at dksX0_pass_0 14 rfl rfl)
theorem dX0_pass_15 : decode cX0_pass 15 = .ok (.iconst 0, 1) := dk_3 (dk_at dksX0_pass_0 15 rfl rfl)
theorem dX0_pass_16 : decode cX0_pass 16 = .ok (.ireturn, 1) := dk_172 (dk_at dksX0_pass_0 16 rfl rfl)
abbrev cX0_count : ByteArray := method_20_code
def yX0_count : MethodName := ⟨RX0, "count", "(LPennyArcade;I[J)I"⟩
def dkwX0_count_0 : List UInt8 := [44, 3, 42, 27, 182, 0, 70, 133, 80, 167, 0, 6, 78, 4, 172, 3, 172]
abbrev dktX0_count_0 : List UInt8 := dkwX0_count_0 ++ []
theorem dksX0_count_0 : cX0_count.data.toList.drop 0 = dktX0_count_0 := by decide +kernel
theorem dX0_count_0 : decode cX0_count 0 = .ok (.aload_n 2, 1) := dk_44 (dk_at dksX0_count_0 0 rfl rfl)
theorem dX0_count_1 : decode cX0_count 1 = .ok (.iconst 0, 1) := dk_3 (dk_at dksX0_count_0 1 rfl rfl)
theorem dX0_count_2 : decode cX0_count 2 = .ok (.aload_n 0, 1) := dk_42 (dk_at dksX0_count_0 2 rfl rfl)
theorem dX0_count_3 : decode cX0_count 3 = .ok (.iload_n 1, 1) := dk_27 (dk_at dksX0_count_0 3 rfl rfl)
theorem dX0_count_4 : decode cX0_count 4 = .ok (.invokevirtual 70, 3) := dk_182 0 70 (dk_at dksX0_count_0 4 rfl rfl)
theorem dX0_count_7 : decode cX0_count 7 = .ok (.i2l, 1) := dk_133 (dk_at dksX0_count_0 7 rfl rfl)
theorem dX0_count_8 : decode cX0_count 8 = .ok (.lastore, 1) := dk_80 (dk_at dksX0_count_0 8 rfl rfl)
theorem dX0_count_9 : decode cX0_count 9 = .ok (.goto 6, 3) := dk_167 0 6 (dk_at dksX0_count_0 9 rfl rfl)
theorem dX0_count_12 : decode cX0_count 12 = .ok (.astore_n 3, 1) := dk_78 (dk_at dksX0_count_0 12 rfl rfl)
theorem dX0_count_13 : decode cX0_count 13 = .ok (.iconst 1, 1) := dk_4 (dk_at dksX0_count_0 13 rfl rfl)
theorem dX0_count_14 : decode cX0_count 14 = .ok (.ireturn, 1) := dk_172 (dk_at dksX0_count_0 14 rfl rfl)
theorem dX0_count_15 : decode cX0_count 15 = .ok (.iconst 0, 1) := dk_3 (dk_at dksX0_count_0 15 rfl rfl)
theorem dX0_count_16 : decode cX0_count 16 = .ok (.ireturn, 1) := dk_172 (dk_at dksX0_count_0 16 rfl rfl)
abbrev cX0_foresee : ByteArray := method_21_code
def yX0_foresee : MethodName := ⟨RX0, "foresee", "(LPennyArcade;II[J)I"⟩
def dkwX0_foresee_0 : List UInt8 := [45, 3, 42, 27, 28, 182, 0, 73, 133, 80, 167, 0, 11, 58, 4, 4, 172, 58, 4, 5, 172, 3, 172]
abbrev dktX0_foresee_0 : List UInt8 := dkwX0_foresee_0 ++ []
theorem dksX0_foresee_0 : cX0_foresee.data.toList.drop 0 = dktX0_foresee_0 := by decide +kernel
theorem dX0_foresee_0 : decode cX0_foresee 0 = .ok (.aload_n 3, 1) := dk_45 (dk_at dksX0_foresee_0 0 rfl rfl)
theorem dX0_foresee_1 : decode cX0_foresee 1 = .ok (.iconst 0, 1) := dk_3 (dk_at dksX0_foresee_0 1 rfl rfl)
theorem dX0_foresee_2 : decode cX0_foresee 2 = .ok (.aload_n 0, 1) := dk_42 (dk_at dksX0_foresee_0 2 rfl rfl)
theorem dX0_foresee_3 : decode cX0_foresee 3 = .ok (.iload_n 1, 1) := dk_27 (dk_at dksX0_foresee_0 3 rfl rfl)
theorem dX0_foresee_4 : decode cX0_foresee 4 = .ok (.iload_n 2, 1) := dk_28 (dk_at dksX0_foresee_0 4 rfl rfl)
theorem dX0_foresee_5 : decode cX0_foresee 5 = .ok (.invokevirtual 73, 3) := dk_182 0 73 (dk_at dksX0_foresee_0 5 rfl rfl)
theorem dX0_foresee_8 : decode cX0_foresee 8 = .ok (.i2l, 1) := dk_133 (dk_at dksX0_foresee_0 8 rfl rfl)
theorem dX0_foresee_9 : decode cX0_foresee 9 = .ok (.lastore, 1) := dk_80 (dk_at dksX0_foresee_0 9 rfl rfl)
theorem dX0_foresee_10 : decode cX0_foresee 10 = .ok (.goto 11, 3) := dk_167 0 11 (dk_at dksX0_foresee_0 10 rfl rfl)
theorem dX0_foresee_13 : decode cX0_foresee 13 = .ok (.astore 4, 2) := dk_58 4 (dk_at dksX0_foresee_0 13 rfl rfl)
theorem dX0_foresee_15 : decode cX0_foresee 15 = .ok (.iconst 1, 1) := dk_4 (dk_at dksX0_foresee_0 15 rfl rfl)
theorem dX0_foresee_16 : decode cX0_foresee 16 = .ok (.ireturn, 1) := dk_172 (dk_at dksX0_foresee_0 16 rfl rfl)
theorem dX0_foresee_17 : decode cX0_foresee 17 = .ok (.astore 4, 2) := dk_58 4 (dk_at dksX0_foresee_0 17 rfl rfl)
theorem dX0_foresee_19 : decode cX0_foresee 19 = .ok (.iconst 2, 1) := dk_5 (dk_at dksX0_foresee_0 19 rfl rfl)
theorem dX0_foresee_20 : decode cX0_foresee 20 = .ok (.ireturn, 1) := dk_172 (dk_at dksX0_foresee_0 20 rfl rfl)
theorem dX0_foresee_21 : decode cX0_foresee 21 = .ok (.iconst 0, 1) := dk_3 (dk_at dksX0_foresee_0 21 rfl rfl)
theorem dX0_foresee_22 : decode cX0_foresee 22 = .ok (.ireturn, 1) := dk_172 (dk_at dksX0_foresee_0 22 rfl rfl)
abbrev cX0_advise : ByteArray := method_22_code
def yX0_advise : MethodName := ⟨RX0, "advise", "(LPennyArcade;I[J)I"⟩
def dkwX0_advise_0 : List UInt8 := [44, 3, 42, 27, 182, 0, 76, 133, 80, 167, 0, 6, 78, 4, 172, 3, 172]
abbrev dktX0_advise_0 : List UInt8 := dkwX0_advise_0 ++ []
theorem dksX0_advise_0 : cX0_advise.data.toList.drop 0 = dktX0_advise_0 := by decide +kernel
theorem dX0_advise_0 : decode cX0_advise 0 = .ok (.aload_n 2, 1) := dk_44 (dk_at dksX0_advise_0 0 rfl rfl)
theorem dX0_advise_1 : decode cX0_advise 1 = .ok (.iconst 0, 1) := dk_3 (dk_at dksX0_advise_0 1 rfl rfl)
theorem dX0_advise_2 : decode cX0_advise 2 = .ok (.aload_n 0, 1) := dk_42 (dk_at dksX0_advise_0 2 rfl rfl)
theorem dX0_advise_3 : decode cX0_advise 3 = .ok (.iload_n 1, 1) := dk_27 (dk_at dksX0_advise_0 3 rfl rfl)
theorem dX0_advise_4 : decode cX0_advise 4 = .ok (.invokevirtual 76, 3) := dk_182 0 76 (dk_at dksX0_advise_0 4 rfl rfl)
theorem dX0_advise_7 : decode cX0_advise 7 = .ok (.i2l, 1) := dk_133 (dk_at dksX0_advise_0 7 rfl rfl)
theorem dX0_advise_8 : decode cX0_advise 8 = .ok (.lastore, 1) := dk_80 (dk_at dksX0_advise_0 8 rfl rfl)
theorem dX0_advise_9 : decode cX0_advise 9 = .ok (.goto 6, 3) := dk_167 0 6 (dk_at dksX0_advise_0 9 rfl rfl)
theorem dX0_advise_12 : decode cX0_advise 12 = .ok (.astore_n 3, 1) := dk_78 (dk_at dksX0_advise_0 12 rfl rfl)
theorem dX0_advise_13 : decode cX0_advise 13 = .ok (.iconst 1, 1) := dk_4 (dk_at dksX0_advise_0 13 rfl rfl)
theorem dX0_advise_14 : decode cX0_advise 14 = .ok (.ireturn, 1) := dk_172 (dk_at dksX0_advise_0 14 rfl rfl)
theorem dX0_advise_15 : decode cX0_advise 15 = .ok (.iconst 0, 1) := dk_3 (dk_at dksX0_advise_0 15 rfl rfl)
theorem dX0_advise_16 : decode cX0_advise 16 = .ok (.ireturn, 1) := dk_172 (dk_at dksX0_advise_0 16 rfl rfl)
theorem q42 : (Jvm.Cond.initialized "PennyArcadeLaw") ∈ lw_all := lw_g (lw_at lw_m1 0 rfl) rfl
theorem q68 : (Jvm.Cond.classLink "PennyArcadeLaw" (8 : Nat) "PennyArcade") ∈ lw_all := lw_g (lw_at lw_m1 26 rfl) rfl
theorem q70 : (Jvm.Cond.methodLink "PennyArcadeLaw" (79 : Nat) ({ cls := "PennyArcade", name := "<init>", desc := "()V" } : Jvm.MethodName)) ∈ lw_all := lw_g (lw_at lw_m1 28 rfl) rfl
theorem q195 : (Jvm.Cond.methodLink "PennyArcadeLaw" (153 : Nat) ({ cls := "PennyArcade", name := "back", desc := "()D" } : Jvm.MethodName)) ∈ lw_all := lw_g (lw_at lw_m1 153 rfl) rfl
theorem q207 : (Jvm.Cond.methodLink "PennyArcadeLaw" (158 : Nat) ({ cls := "PennyArcade", name := "digest", desc := "()J" } : Jvm.MethodName)) ∈ lw_all := lw_g (lw_at lw_m1 165 rfl) rfl
theorem q269 : (Jvm.Cond.methodLink "PennyArcadeLaw" (83 : Nat) ({ cls := "PennyArcadeLaw", name := "addTable", desc := "(LPennyArcade;III[J)I" } : Jvm.MethodName)) ∈ lw_all := lw_g (lw_at lw_m1 227 rfl) rfl
theorem q270 : (Jvm.Cond.static ({ cls := "PennyArcadeLaw", name := "addTable", desc := "(LPennyArcade;III[J)I" } : Jvm.MethodName)) ∈ lw_all := lw_g (lw_at lw_m1 228 rfl) rfl
theorem q271 : (Jvm.Cond.codeWith ({ cls := "PennyArcadeLaw", name := "addTable", desc := "(LPennyArcade;III[J)I" } : Jvm.MethodName) method_3_code (6 : Nat) (Option.some Jvm.ClassFile.FieldType.int) [((0 : Nat), (12 : Nat), (15 : Nat), (13 : Nat)), ((0 : Nat), (12 : Nat), (19 : Nat), (15 : Nat))]) ∈ lw_all := lw_g (lw_at lw_m1 229 rfl) rfl
theorem q272 : (Jvm.Cond.classLink "PennyArcadeLaw" (13 : Nat) "java/lang/IllegalArgumentException") ∈ lw_all := lw_g (lw_at lw_m1 230 rfl) rfl
theorem q273 : (Jvm.Cond.classLink "PennyArcadeLaw" (15 : Nat) "java/lang/IllegalStateException") ∈ lw_all := lw_g (lw_at lw_m1 231 rfl) rfl
theorem q274 : (Jvm.Cond.methodLink "PennyArcadeLaw" (7 : Nat) ({ cls := "PennyArcade", name := "addTable", desc := "(III)I" } : Jvm.MethodName)) ∈ lw_all := lw_g (lw_at lw_m1 232 rfl) rfl
theorem q461 : (Jvm.Cond.methodLink "PennyArcadeLaw" (93 : Nat) ({ cls := "PennyArcadeLaw", name := "addPusher", desc := "(LPennyArcade;II[J)I" } : Jvm.MethodName)) ∈ lw_all := lw_g (lw_at lw_m2 179 rfl) rfl
theorem q462 : (Jvm.Cond.static ({ cls := "PennyArcadeLaw", name := "addPusher", desc := "(LPennyArcade;II[J)I" } : Jvm.MethodName)) ∈ lw_all := lw_g (lw_at lw_m2 180 rfl) rfl
theorem q463 : (Jvm.Cond.codeWith ({ cls := "PennyArcadeLaw", name := "addPusher", desc := "(LPennyArcade;II[J)I" } : Jvm.MethodName) method_4_code (5 : Nat) (Option.some Jvm.ClassFile.FieldType.int) [((0 : Nat), (10 : Nat), (13 : Nat), (13 : Nat)), ((0 : Nat), (10 : Nat), (17 : Nat), (15 : Nat))]) ∈ lw_all := lw_g (lw_at lw_m2 181 rfl) rfl
theorem q464 : (Jvm.Cond.methodLink "PennyArcadeLaw" (17 : Nat) ({ cls := "PennyArcade", name := "addPusher", desc := "(II)I" } : Jvm.MethodName)) ∈ lw_all := lw_g (lw_at lw_m2 182 rfl) rfl
theorem q479 : (Jvm.Cond.methodLink "PennyArcadeLaw" (97 : Nat) ({ cls := "PennyArcadeLaw", name := "bend", desc := "(LPennyArcade;IIII[J)I" } : Jvm.MethodName)) ∈ lw_all := lw_g (lw_at lw_m2 197 rfl) rfl
theorem q480 : (Jvm.Cond.static ({ cls := "PennyArcadeLaw", name := "bend", desc := "(LPennyArcade;IIII[J)I" } : Jvm.MethodName)) ∈ lw_all := lw_g (lw_at lw_m2 198 rfl) rfl
theorem q481 : (Jvm.Cond.codeWith ({ cls := "PennyArcadeLaw", name := "bend", desc := "(LPennyArcade;IIII[J)I" } : Jvm.MethodName) method_5_code (7 : Nat) (Option.some Jvm.ClassFile.FieldType.int) [((0 : Nat), (14 : Nat), (17 : Nat), (25 : Nat)), ((0 : Nat), (14 : Nat), (21 : Nat), (13 : Nat))]) ∈ lw_all := lw_g (lw_at lw_m2 199 rfl) rfl
theorem q482 : (Jvm.Cond.classLink "PennyArcadeLaw" (25 : Nat) "java/lang/IndexOutOfBoundsException") ∈ lw_all := lw_g (lw_at lw_m2 200 rfl) rfl
theorem q515 : (Jvm.Cond.methodLink "PennyArcadeLaw" (21 : Nat) ({ cls := "PennyArcade", name := "bend", desc := "(IIII)I" } : Jvm.MethodName)) ∈ lw_all := lw_g (lw_at lw_m2 233 rfl) rfl
theorem q568 : (Jvm.Cond.methodLink "PennyArcadeLaw" (101 : Nat) ({ cls := "PennyArcadeLaw", name := "setCup", desc := "(LPennyArcade;III[J)I" } : Jvm.MethodName)) ∈ lw_all := lw_g (lw_at lw_m3 46 rfl) rfl
theorem q569 : (Jvm.Cond.static ({ cls := "PennyArcadeLaw", name := "setCup", desc := "(LPennyArcade;III[J)I" } : Jvm.MethodName)) ∈ lw_all := lw_g (lw_at lw_m3 47 rfl) rfl
theorem q570 : (Jvm.Cond.codeWith ({ cls := "PennyArcadeLaw", name := "setCup", desc := "(LPennyArcade;III[J)I" } : Jvm.MethodName) method_6_code (6 : Nat) (Option.some Jvm.ClassFile.FieldType.int) [((0 : Nat), (12 : Nat), (15 : Nat), (25 : Nat)), ((0 : Nat), (12 : Nat), (19 : Nat), (13 : Nat))]) ∈ lw_all := lw_g (lw_at lw_m3 48 rfl) rfl
theorem q571 : (Jvm.Cond.methodLink "PennyArcadeLaw" (27 : Nat) ({ cls := "PennyArcade", name := "setCup", desc := "(III)I" } : Jvm.MethodName)) ∈ lw_all := lw_g (lw_at lw_m3 49 rfl) rfl
theorem q576 : (Jvm.Cond.methodLink "PennyArcadeLaw" (104 : Nat) ({ cls := "PennyArcadeLaw", name := "machine", desc := "(LPennyArcade;II[J)I" } : Jvm.MethodName)) ∈ lw_all := lw_g (lw_at lw_m3 54 rfl) rfl
theorem q577 : (Jvm.Cond.static ({ cls := "PennyArcadeLaw", name := "machine", desc := "(LPennyArcade;II[J)I" } : Jvm.MethodName)) ∈ lw_all := lw_g (lw_at lw_m3 55 rfl) rfl
theorem q578 : (Jvm.Cond.codeWith ({ cls := "PennyArcadeLaw", name := "machine", desc := "(LPennyArcade;II[J)I" } : Jvm.MethodName) method_7_code (5 : Nat) (Option.some Jvm.ClassFile.FieldType.int) [((0 : Nat), (10 : Nat), (13 : Nat), (25 : Nat))]) ∈ lw_all := lw_g (lw_at lw_m3 56 rfl) rfl
theorem q579 : (Jvm.Cond.methodLink "PennyArcadeLaw" (30 : Nat) ({ cls := "PennyArcade", name := "machine", desc := "(II)I" } : Jvm.MethodName)) ∈ lw_all := lw_g (lw_at lw_m3 57 rfl) rfl
theorem q583 : (Jvm.Cond.methodLink "PennyArcadeLaw" (107 : Nat) ({ cls := "PennyArcadeLaw", name := "ends", desc := "(LPennyArcade;III[J)I" } : Jvm.MethodName)) ∈ lw_all := lw_g (lw_at lw_m3 61 rfl) rfl
theorem q584 : (Jvm.Cond.static ({ cls := "PennyArcadeLaw", name := "ends", desc := "(LPennyArcade;III[J)I" } : Jvm.MethodName)) ∈ lw_all := lw_g (lw_at lw_m3 62 rfl) rfl
theorem q585 : (Jvm.Cond.codeWith ({ cls := "PennyArcadeLaw", name := "ends", desc := "(LPennyArcade;III[J)I" } : Jvm.MethodName) method_8_code (6 : Nat) (Option.some Jvm.ClassFile.FieldType.int) [((0 : Nat), (12 : Nat), (15 : Nat), (25 : Nat)), ((0 : Nat), (12 : Nat), (19 : Nat), (13 : Nat))]) ∈ lw_all := lw_g (lw_at lw_m3 63 rfl) rfl
theorem q586 : (Jvm.Cond.methodLink "PennyArcadeLaw" (33 : Nat) ({ cls := "PennyArcade", name := "ends", desc := "(III)I" } : Jvm.MethodName)) ∈ lw_all := lw_g (lw_at lw_m3 64 rfl) rfl
theorem q600 : (Jvm.Cond.methodLink "PennyArcadeLaw" (110 : Nat) ({ cls := "PennyArcadeLaw", name := "bestTilt", desc := "(LPennyArcade;II[J)I" } : Jvm.MethodName)) ∈ lw_all := lw_g (lw_at lw_m3 78 rfl) rfl
theorem q601 : (Jvm.Cond.static ({ cls := "PennyArcadeLaw", name := "bestTilt", desc := "(LPennyArcade;II[J)I" } : Jvm.MethodName)) ∈ lw_all := lw_g (lw_at lw_m3 79 rfl) rfl
theorem q602 : (Jvm.Cond.codeWith ({ cls := "PennyArcadeLaw", name := "bestTilt", desc := "(LPennyArcade;II[J)I" } : Jvm.MethodName) method_9_code (5 : Nat) (Option.some Jvm.ClassFile.FieldType.int) [((0 : Nat), (10 : Nat), (13 : Nat), (25 : Nat)), ((0 : Nat), (10 : Nat), (17 : Nat), (13 : Nat))]) ∈ lw_all := lw_g (lw_at lw_m3 80 rfl) rfl
theorem q603 : (Jvm.Cond.methodLink "PennyArcadeLaw" (36 : Nat) ({ cls := "PennyArcade", name := "bestTilt", desc := "(II)I" } : Jvm.MethodName)) ∈ lw_all := lw_g (lw_at lw_m3 81 rfl) rfl
theorem q612 : (Jvm.Cond.methodLink "PennyArcadeLaw" (113 : Nat) ({ cls := "PennyArcadeLaw", name := "dead", desc := "(LPennyArcade;I[J)I" } : Jvm.MethodName)) ∈ lw_all := lw_g (lw_at lw_m3 90 rfl) rfl
theorem q613 : (Jvm.Cond.static ({ cls := "PennyArcadeLaw", name := "dead", desc := "(LPennyArcade;I[J)I" } : Jvm.MethodName)) ∈ lw_all := lw_g (lw_at lw_m3 91 rfl) rfl
theorem q614 : (Jvm.Cond.codeWith ({ cls := "PennyArcadeLaw", name := "dead", desc := "(LPennyArcade;I[J)I" } : Jvm.MethodName) method_10_code (4 : Nat) (Option.some Jvm.ClassFile.FieldType.int) [((0 : Nat), (9 : Nat), (12 : Nat), (25 : Nat)), ((0 : Nat), (9 : Nat), (15 : Nat), (13 : Nat))]) ∈ lw_all := lw_g (lw_at lw_m3 92 rfl) rfl
theorem q615 : (Jvm.Cond.methodLink "PennyArcadeLaw" (39 : Nat) ({ cls := "PennyArcade", name := "dead", desc := "(I)I" } : Jvm.MethodName)) ∈ lw_all := lw_g (lw_at lw_m3 93 rfl) rfl
theorem q629 : (Jvm.Cond.methodLink "PennyArcadeLaw" (117 : Nat) ({ cls := "PennyArcadeLaw", name := "ledge", desc := "(LPennyArcade;II[J)I" } : Jvm.MethodName)) ∈ lw_all := lw_g (lw_at lw_m3 107 rfl) rfl
theorem q630 : (Jvm.Cond.static ({ cls := "PennyArcadeLaw", name := "ledge", desc := "(LPennyArcade;II[J)I" } : Jvm.MethodName)) ∈ lw_all := lw_g (lw_at lw_m3 108 rfl) rfl
theorem q631 : (Jvm.Cond.codeWith ({ cls := "PennyArcadeLaw", name := "ledge", desc := "(LPennyArcade;II[J)I" } : Jvm.MethodName) method_11_code (5 : Nat) (Option.some Jvm.ClassFile.FieldType.int) [((0 : Nat), (10 : Nat), (13 : Nat), (25 : Nat)), ((0 : Nat), (10 : Nat), (17 : Nat), (13 : Nat))]) ∈ lw_all := lw_g (lw_at lw_m3 109 rfl) rfl
theorem q632 : (Jvm.Cond.methodLink "PennyArcadeLaw" (43 : Nat) ({ cls := "PennyArcade", name := "ledge", desc := "(II)I" } : Jvm.MethodName)) ∈ lw_all := lw_g (lw_at lw_m3 110 rfl) rfl
theorem q636 : (Jvm.Cond.methodLink "PennyArcadeLaw" (120 : Nat) ({ cls := "PennyArcadeLaw", name := "come", desc := "(LPennyArcade;II[J)I" } : Jvm.MethodName)) ∈ lw_all := lw_g (lw_at lw_m3 114 rfl) rfl
theorem q637 : (Jvm.Cond.static ({ cls := "PennyArcadeLaw", name := "come", desc := "(LPennyArcade;II[J)I" } : Jvm.MethodName)) ∈ lw_all := lw_g (lw_at lw_m3 115 rfl) rfl
theorem q638 : (Jvm.Cond.codeWith ({ cls := "PennyArcadeLaw", name := "come", desc := "(LPennyArcade;II[J)I" } : Jvm.MethodName) method_12_code (5 : Nat) (Option.some Jvm.ClassFile.FieldType.int) [((0 : Nat), (10 : Nat), (13 : Nat), (13 : Nat)), ((0 : Nat), (10 : Nat), (17 : Nat), (15 : Nat))]) ∈ lw_all := lw_g (lw_at lw_m3 116 rfl) rfl
theorem q639 : (Jvm.Cond.methodLink "PennyArcadeLaw" (46 : Nat) ({ cls := "PennyArcade", name := "come", desc := "(II)I" } : Jvm.MethodName)) ∈ lw_all := lw_g (lw_at lw_m3 117 rfl) rfl
theorem q654 : (Jvm.Cond.methodLink "PennyArcadeLaw" (123 : Nat) ({ cls := "PennyArcadeLaw", name := "go", desc := "(LPennyArcade;II[J)I" } : Jvm.MethodName)) ∈ lw_all := lw_g (lw_at lw_m3 132 rfl) rfl
theorem q655 : (Jvm.Cond.static ({ cls := "PennyArcadeLaw", name := "go", desc := "(LPennyArcade;II[J)I" } : Jvm.MethodName)) ∈ lw_all := lw_g (lw_at lw_m3 133 rfl) rfl
theorem q656 : (Jvm.Cond.codeWith ({ cls := "PennyArcadeLaw", name := "go", desc := "(LPennyArcade;II[J)I" } : Jvm.MethodName) method_13_code (5 : Nat) (Option.some Jvm.ClassFile.FieldType.int) [((0 : Nat), (10 : Nat), (13 : Nat), (25 : Nat))]) ∈ lw_all := lw_g (lw_at lw_m3 134 rfl) rfl
theorem q657 : (Jvm.Cond.methodLink "PennyArcadeLaw" (49 : Nat) ({ cls := "PennyArcade", name := "go", desc := "(II)I" } : Jvm.MethodName)) ∈ lw_all := lw_g (lw_at lw_m3 135 rfl) rfl
theorem q665 : (Jvm.Cond.methodLink "PennyArcadeLaw" (126 : Nat) ({ cls := "PennyArcadeLaw", name := "play", desc := "(LPennyArcade;IIII[J)I" } : Jvm.MethodName)) ∈ lw_all := lw_g (lw_at lw_m3 143 rfl) rfl
theorem q666 : (Jvm.Cond.static ({ cls := "PennyArcadeLaw", name := "play", desc := "(LPennyArcade;IIII[J)I" } : Jvm.MethodName)) ∈ lw_all := lw_g (lw_at lw_m3 144 rfl) rfl
theorem q667 : (Jvm.Cond.codeWith ({ cls := "PennyArcadeLaw", name := "play", desc := "(LPennyArcade;IIII[J)I" } : Jvm.MethodName) method_14_code (7 : Nat) (Option.some Jvm.ClassFile.FieldType.int) [((0 : Nat), (14 : Nat), (17 : Nat), (25 : Nat)), ((0 : Nat), (14 : Nat), (21 : Nat), (13 : Nat)), ((0 : Nat), (14 : Nat), (25 : Nat), (15 : Nat))]) ∈ lw_all := lw_g (lw_at lw_m3 145 rfl) rfl
theorem q668 : (Jvm.Cond.methodLink "PennyArcadeLaw" (52 : Nat) ({ cls := "PennyArcade", name := "play", desc := "(IIII)I" } : Jvm.MethodName)) ∈ lw_all := lw_g (lw_at lw_m3 146 rfl) rfl
theorem q693 : (Jvm.Cond.methodLink "PennyArcadeLaw" (129 : Nat) ({ cls := "PennyArcadeLaw", name := "player", desc := "(LPennyArcade;II[J)I" } : Jvm.MethodName)) ∈ lw_all := lw_g (lw_at lw_m3 171 rfl) rfl
theorem q694 : (Jvm.Cond.static ({ cls := "PennyArcadeLaw", name := "player", desc := "(LPennyArcade;II[J)I" } : Jvm.MethodName)) ∈ lw_all := lw_g (lw_at lw_m3 172 rfl) rfl
theorem q695 : (Jvm.Cond.codeWith ({ cls := "PennyArcadeLaw", name := "player", desc := "(LPennyArcade;II[J)I" } : Jvm.MethodName) method_15_code (5 : Nat) (Option.some Jvm.ClassFile.FieldType.int) [((0 : Nat), (10 : Nat), (13 : Nat), (25 : Nat))]) ∈ lw_all := lw_g (lw_at lw_m3 173 rfl) rfl
theorem q696 : (Jvm.Cond.methodLink "PennyArcadeLaw" (55 : Nat) ({ cls := "PennyArcade", name := "player", desc := "(II)I" } : Jvm.MethodName)) ∈ lw_all := lw_g (lw_at lw_m3 174 rfl) rfl
theorem q700 : (Jvm.Cond.methodLink "PennyArcadeLaw" (132 : Nat) ({ cls := "PennyArcadeLaw", name := "setSkill", desc := "(LPennyArcade;I[J)I" } : Jvm.MethodName)) ∈ lw_all := lw_g (lw_at lw_m3 178 rfl) rfl
theorem q701 : (Jvm.Cond.static ({ cls := "PennyArcadeLaw", name := "setSkill", desc := "(LPennyArcade;I[J)I" } : Jvm.MethodName)) ∈ lw_all := lw_g (lw_at lw_m3 179 rfl) rfl
theorem q702 : (Jvm.Cond.codeWith ({ cls := "PennyArcadeLaw", name := "setSkill", desc := "(LPennyArcade;I[J)I" } : Jvm.MethodName) method_16_code (4 : Nat) (Option.some Jvm.ClassFile.FieldType.int) [((0 : Nat), (9 : Nat), (12 : Nat), (13 : Nat))]) ∈ lw_all := lw_g (lw_at lw_m3 180 rfl) rfl
theorem q703 : (Jvm.Cond.methodLink "PennyArcadeLaw" (58 : Nat) ({ cls := "PennyArcade", name := "setSkill", desc := "(I)I" } : Jvm.MethodName)) ∈ lw_all := lw_g (lw_at lw_m3 181 rfl) rfl
theorem q707 : (Jvm.Cond.methodLink "PennyArcadeLaw" (135 : Nat) ({ cls := "PennyArcadeLaw", name := "call", desc := "(LPennyArcade;I[J)I" } : Jvm.MethodName)) ∈ lw_all := lw_g (lw_at lw_m3 185 rfl) rfl
theorem q708 : (Jvm.Cond.static ({ cls := "PennyArcadeLaw", name := "call", desc := "(LPennyArcade;I[J)I" } : Jvm.MethodName)) ∈ lw_all := lw_g (lw_at lw_m3 186 rfl) rfl
theorem q709 : (Jvm.Cond.codeWith ({ cls := "PennyArcadeLaw", name := "call", desc := "(LPennyArcade;I[J)I" } : Jvm.MethodName) method_17_code (4 : Nat) (Option.some Jvm.ClassFile.FieldType.int) [((0 : Nat), (9 : Nat), (12 : Nat), (25 : Nat)), ((0 : Nat), (9 : Nat), (15 : Nat), (15 : Nat))]) ∈ lw_all := lw_g (lw_at lw_m3 187 rfl) rfl
theorem q710 : (Jvm.Cond.methodLink "PennyArcadeLaw" (61 : Nat) ({ cls := "PennyArcade", name := "call", desc := "(I)I" } : Jvm.MethodName)) ∈ lw_all := lw_g (lw_at lw_m3 188 rfl) rfl
theorem q722 : (Jvm.Cond.methodLink "PennyArcadeLaw" (138 : Nat) ({ cls := "PennyArcadeLaw", name := "repair", desc := "(LPennyArcade;I[J)I" } : Jvm.MethodName)) ∈ lw_all := lw_g (lw_at lw_m3 200 rfl) rfl
theorem q723 : (Jvm.Cond.static ({ cls := "PennyArcadeLaw", name := "repair", desc := "(LPennyArcade;I[J)I" } : Jvm.MethodName)) ∈ lw_all := lw_g (lw_at lw_m3 201 rfl) rfl
theorem q724 : (Jvm.Cond.codeWith ({ cls := "PennyArcadeLaw", name := "repair", desc := "(LPennyArcade;I[J)I" } : Jvm.MethodName) method_18_code (4 : Nat) (Option.some Jvm.ClassFile.FieldType.int) [((0 : Nat), (9 : Nat), (12 : Nat), (25 : Nat))]) ∈ lw_all := lw_g (lw_at lw_m3 202 rfl) rfl
theorem q725 : (Jvm.Cond.methodLink "PennyArcadeLaw" (64 : Nat) ({ cls := "PennyArcade", name := "repair", desc := "(I)I" } : Jvm.MethodName)) ∈ lw_all := lw_g (lw_at lw_m3 203 rfl) rfl
theorem q729 : (Jvm.Cond.methodLink "PennyArcadeLaw" (141 : Nat) ({ cls := "PennyArcadeLaw", name := "pass", desc := "(LPennyArcade;I[J)I" } : Jvm.MethodName)) ∈ lw_all := lw_g (lw_at lw_m3 207 rfl) rfl
theorem q730 : (Jvm.Cond.static ({ cls := "PennyArcadeLaw", name := "pass", desc := "(LPennyArcade;I[J)I" } : Jvm.MethodName)) ∈ lw_all := lw_g (lw_at lw_m3 208 rfl) rfl
theorem q731 : (Jvm.Cond.codeWith ({ cls := "PennyArcadeLaw", name := "pass", desc := "(LPennyArcade;I[J)I" } : Jvm.MethodName) method_19_code (4 : Nat) (Option.some Jvm.ClassFile.FieldType.int) [((0 : Nat), (9 : Nat), (12 : Nat), (13 : Nat))]) ∈ lw_all := lw_g (lw_at lw_m3 209 rfl) rfl
theorem q732 : (Jvm.Cond.methodLink "PennyArcadeLaw" (67 : Nat) ({ cls := "PennyArcade", name := "pass", desc := "(I)I" } : Jvm.MethodName)) ∈ lw_all := lw_g (lw_at lw_m3 210 rfl) rfl
theorem q779 : (Jvm.Cond.methodLink "PennyArcadeLaw" (144 : Nat) ({ cls := "PennyArcadeLaw", name := "count", desc := "(LPennyArcade;I[J)I" } : Jvm.MethodName)) ∈ lw_all := lw_g (lw_at lw_m4 17 rfl) rfl
theorem q780 : (Jvm.Cond.static ({ cls := "PennyArcadeLaw", name := "count", desc := "(LPennyArcade;I[J)I" } : Jvm.MethodName)) ∈ lw_all := lw_g (lw_at lw_m4 18 rfl) rfl
theorem q781 : (Jvm.Cond.codeWith ({ cls := "PennyArcadeLaw", name := "count", desc := "(LPennyArcade;I[J)I" } : Jvm.MethodName) method_20_code (4 : Nat) (Option.some Jvm.ClassFile.FieldType.int) [((0 : Nat), (9 : Nat), (12 : Nat), (25 : Nat))]) ∈ lw_all := lw_g (lw_at lw_m4 19 rfl) rfl
theorem q782 : (Jvm.Cond.methodLink "PennyArcadeLaw" (70 : Nat) ({ cls := "PennyArcade", name := "count", desc := "(I)I" } : Jvm.MethodName)) ∈ lw_all := lw_g (lw_at lw_m4 20 rfl) rfl
theorem q786 : (Jvm.Cond.methodLink "PennyArcadeLaw" (147 : Nat) ({ cls := "PennyArcadeLaw", name := "foresee", desc := "(LPennyArcade;II[J)I" } : Jvm.MethodName)) ∈ lw_all := lw_g (lw_at lw_m4 24 rfl) rfl
theorem q787 : (Jvm.Cond.static ({ cls := "PennyArcadeLaw", name := "foresee", desc := "(LPennyArcade;II[J)I" } : Jvm.MethodName)) ∈ lw_all := lw_g (lw_at lw_m4 25 rfl) rfl
theorem q788 : (Jvm.Cond.codeWith ({ cls := "PennyArcadeLaw", name := "foresee", desc := "(LPennyArcade;II[J)I" } : Jvm.MethodName) method_21_code (5 : Nat) (Option.some Jvm.ClassFile.FieldType.int) [((0 : Nat), (10 : Nat), (13 : Nat), (13 : Nat)), ((0 : Nat), (10 : Nat), (17 : Nat), (25 : Nat))]) ∈ lw_all := lw_g (lw_at lw_m4 26 rfl) rfl
theorem q789 : (Jvm.Cond.methodLink "PennyArcadeLaw" (73 : Nat) ({ cls := "PennyArcade", name := "foresee", desc := "(II)I" } : Jvm.MethodName)) ∈ lw_all := lw_g (lw_at lw_m4 27 rfl) rfl
theorem q797 : (Jvm.Cond.methodLink "PennyArcadeLaw" (150 : Nat) ({ cls := "PennyArcadeLaw", name := "advise", desc := "(LPennyArcade;I[J)I" } : Jvm.MethodName)) ∈ lw_all := lw_g (lw_at lw_m4 35 rfl) rfl
theorem q798 : (Jvm.Cond.static ({ cls := "PennyArcadeLaw", name := "advise", desc := "(LPennyArcade;I[J)I" } : Jvm.MethodName)) ∈ lw_all := lw_g (lw_at lw_m4 36 rfl) rfl
theorem q799 : (Jvm.Cond.codeWith ({ cls := "PennyArcadeLaw", name := "advise", desc := "(LPennyArcade;I[J)I" } : Jvm.MethodName) method_22_code (4 : Nat) (Option.some Jvm.ClassFile.FieldType.int) [((0 : Nat), (9 : Nat), (12 : Nat), (13 : Nat))]) ∈ lw_all := lw_g (lw_at lw_m4 37 rfl) rfl
theorem q800 : (Jvm.Cond.methodLink "PennyArcadeLaw" (76 : Nat) ({ cls := "PennyArcade", name := "advise", desc := "(I)I" } : Jvm.MethodName)) ∈ lw_all := lw_g (lw_at lw_m4 38 rfl) rfl
theorem q804 : (Jvm.Cond.classLink "PennyArcadeLaw" (80 : Nat) "PennyArcadeModel") ∈ lw_all := lw_g (lw_at lw_m4 42 rfl) rfl
theorem q806 : (Jvm.Cond.methodLink "PennyArcadeLaw" (82 : Nat) ({ cls := "PennyArcadeModel", name := "<init>", desc := "()V" } : Jvm.MethodName)) ∈ lw_all := lw_g (lw_at lw_m4 44 rfl) rfl
theorem q844 : (Jvm.Cond.methodLink "PennyArcadeLaw" (89 : Nat) ({ cls := "PennyArcadeModel", name := "thrown", desc := "()I" } : Jvm.MethodName)) ∈ lw_all := lw_g (lw_at lw_m4 82 rfl) rfl
theorem q848 : (Jvm.Cond.methodLink "PennyArcadeLaw" (88 : Nat) ({ cls := "PennyArcadeModel", name := "addTable", desc := "(III)I" } : Jvm.MethodName)) ∈ lw_all := lw_g (lw_at lw_m4 86 rfl) rfl
theorem q864 : (Jvm.Cond.methodLink "PennyArcadeLaw" (96 : Nat) ({ cls := "PennyArcadeModel", name := "addPusher", desc := "(II)I" } : Jvm.MethodName)) ∈ lw_all := lw_g (lw_at lw_m4 102 rfl) rfl
theorem q868 : (Jvm.Cond.methodLink "PennyArcadeLaw" (100 : Nat) ({ cls := "PennyArcadeModel", name := "bend", desc := "(IIII)I" } : Jvm.MethodName)) ∈ lw_all := lw_g (lw_at lw_m4 106 rfl) rfl
theorem q891 : (Jvm.Cond.methodLink "PennyArcadeLaw" (103 : Nat) ({ cls := "PennyArcadeModel", name := "setCup", desc := "(III)I" } : Jvm.MethodName)) ∈ lw_all := lw_g (lw_at lw_m4 129 rfl) rfl
theorem q895 : (Jvm.Cond.methodLink "PennyArcadeLaw" (106 : Nat) ({ cls := "PennyArcadeModel", name := "machine", desc := "(II)I" } : Jvm.MethodName)) ∈ lw_all := lw_g (lw_at lw_m4 133 rfl) rfl
theorem q911 : (Jvm.Cond.methodLink "PennyArcadeLaw" (109 : Nat) ({ cls := "PennyArcadeModel", name := "ends", desc := "(III)I" } : Jvm.MethodName)) ∈ lw_all := lw_g (lw_at lw_m4 149 rfl) rfl
theorem q921 : (Jvm.Cond.methodLink "PennyArcadeLaw" (112 : Nat) ({ cls := "PennyArcadeModel", name := "bestTilt", desc := "(II)I" } : Jvm.MethodName)) ∈ lw_all := lw_g (lw_at lw_m4 159 rfl) rfl
theorem q933 : (Jvm.Cond.methodLink "PennyArcadeLaw" (116 : Nat) ({ cls := "PennyArcadeModel", name := "dead", desc := "(I)I" } : Jvm.MethodName)) ∈ lw_all := lw_g (lw_at lw_m4 171 rfl) rfl
theorem q938 : (Jvm.Cond.methodLink "PennyArcadeLaw" (119 : Nat) ({ cls := "PennyArcadeModel", name := "ledge", desc := "(II)I" } : Jvm.MethodName)) ∈ lw_all := lw_g (lw_at lw_m4 176 rfl) rfl
theorem q942 : (Jvm.Cond.methodLink "PennyArcadeLaw" (122 : Nat) ({ cls := "PennyArcadeModel", name := "come", desc := "(II)I" } : Jvm.MethodName)) ∈ lw_all := lw_g (lw_at lw_m4 180 rfl) rfl
theorem q946 : (Jvm.Cond.methodLink "PennyArcadeLaw" (125 : Nat) ({ cls := "PennyArcadeModel", name := "go", desc := "(II)I" } : Jvm.MethodName)) ∈ lw_all := lw_g (lw_at lw_m4 184 rfl) rfl
theorem q962 : (Jvm.Cond.methodLink "PennyArcadeLaw" (128 : Nat) ({ cls := "PennyArcadeModel", name := "play", desc := "(IIII)I" } : Jvm.MethodName)) ∈ lw_all := lw_g (lw_at lw_m4 200 rfl) rfl
theorem q982 : (Jvm.Cond.methodLink "PennyArcadeLaw" (131 : Nat) ({ cls := "PennyArcadeModel", name := "player", desc := "(II)I" } : Jvm.MethodName)) ∈ lw_all := lw_g (lw_at lw_m4 220 rfl) rfl
theorem q986 : (Jvm.Cond.methodLink "PennyArcadeLaw" (134 : Nat) ({ cls := "PennyArcadeModel", name := "setSkill", desc := "(I)I" } : Jvm.MethodName)) ∈ lw_all := lw_g (lw_at lw_m4 224 rfl) rfl
theorem q990 : (Jvm.Cond.methodLink "PennyArcadeLaw" (137 : Nat) ({ cls := "PennyArcadeModel", name := "call", desc := "(I)I" } : Jvm.MethodName)) ∈ lw_all := lw_g (lw_at lw_m4 228 rfl) rfl
theorem q1002 : (Jvm.Cond.methodLink "PennyArcadeLaw" (140 : Nat) ({ cls := "PennyArcadeModel", name := "repair", desc := "(I)I" } : Jvm.MethodName)) ∈ lw_all := lw_g (lw_at lw_m5 0 rfl) rfl
theorem q1006 : (Jvm.Cond.methodLink "PennyArcadeLaw" (143 : Nat) ({ cls := "PennyArcadeModel", name := "pass", desc := "(I)I" } : Jvm.MethodName)) ∈ lw_all := lw_g (lw_at lw_m5 4 rfl) rfl
theorem q1026 : (Jvm.Cond.methodLink "PennyArcadeLaw" (146 : Nat) ({ cls := "PennyArcadeModel", name := "count", desc := "(I)I" } : Jvm.MethodName)) ∈ lw_all := lw_g (lw_at lw_m5 24 rfl) rfl
theorem q1042 : (Jvm.Cond.methodLink "PennyArcadeLaw" (149 : Nat) ({ cls := "PennyArcadeModel", name := "foresee", desc := "(II)I" } : Jvm.MethodName)) ∈ lw_all := lw_g (lw_at lw_m5 40 rfl) rfl
theorem q1062 : (Jvm.Cond.methodLink "PennyArcadeLaw" (152 : Nat) ({ cls := "PennyArcadeModel", name := "advise", desc := "(I)I" } : Jvm.MethodName)) ∈ lw_all := lw_g (lw_at lw_m5 60 rfl) rfl
theorem q1066 : (Jvm.Cond.methodLink "PennyArcadeLaw" (157 : Nat) ({ cls := "PennyArcadeModel", name := "back", desc := "()D" } : Jvm.MethodName)) ∈ lw_all := lw_g (lw_at lw_m5 64 rfl) rfl
theorem q1070 : (Jvm.Cond.methodLink "PennyArcadeLaw" (162 : Nat) ({ cls := "PennyArcadeModel", name := "digest", desc := "()J" } : Jvm.MethodName)) ∈ lw_all := lw_g (lw_at lw_m5 68 rfl) rfl

/-! the law's own entry -/
set_option maxRecDepth 100000
abbrev cL_law : ByteArray := code
def dkwL_law_64 : List UInt8 := [172, 132, 4, 5, 167, 250, 1, 4, 172]
abbrev dktL_law_64 : List UInt8 := dkwL_law_64 ++ []
def dkwL_law_63 : List UInt8 := [24, 7, 151, 154, 0, 5, 3, 172, 167, 0, 17, 43, 182, 0, 158, 44, 182, 0, 162, 148, 153, 0, 5, 3]
abbrev dktL_law_63 : List UInt8 := dkwL_law_63 ++ dktL_law_64
def dkwL_law_62 : List UInt8 := [44, 182, 0, 157, 57, 7, 24, 5, 24, 7, 151, 153, 0, 21, 24, 5, 24, 5, 151, 153, 0, 11, 24, 7]
abbrev dktL_law_62 : List UInt8 := dkwL_law_62 ++ dktL_law_63
def dkwL_law_61 : List UInt8 := [154, 0, 15, 45, 3, 47, 21, 6, 133, 148, 153, 0, 5, 3, 172, 167, 0, 58, 43, 182, 0, 153, 57, 5]
abbrev dktL_law_61 : List UInt8 := dkwL_law_61 ++ dktL_law_62
def dkwL_law_60 : List UInt8 := [21, 4, 4, 96, 46, 182, 0, 152, 54, 6, 44, 182, 0, 89, 21, 5, 159, 0, 5, 3, 172, 21, 5]
abbrev dktL_law_60 : List UInt8 := dkwL_law_60 ++ dktL_law_61
def dkwL_law_59 : List UInt8 := [153, 0, 5, 3, 172, 167, 0, 114, 43, 42, 21, 4, 4, 96, 46, 45, 184, 0, 150, 54, 5, 44, 42]
abbrev dktL_law_59 : List UInt8 := dkwL_law_59 ++ dktL_law_60
def dkwL_law_58 : List UInt8 := [182, 0, 89, 21, 5, 159, 0, 5, 3, 172, 21, 5, 154, 0, 15, 45, 3, 47, 21, 6, 133, 148]
abbrev dktL_law_58 : List UInt8 := dkwL_law_58 ++ dktL_law_59
def dkwL_law_57 : List UInt8 := [184, 0, 147, 54, 5, 44, 42, 21, 4, 4, 96, 46, 42, 21, 4, 5, 96, 46, 182, 0, 149, 54, 6, 44]
abbrev dktL_law_57 : List UInt8 := dkwL_law_57 ++ dktL_law_58
def dkwL_law_56 : List UInt8 := [153, 0, 5, 3, 172, 167, 0, 182, 43, 42, 21, 4, 4, 96, 46, 42, 21, 4, 5, 96, 46, 45]
abbrev dktL_law_56 : List UInt8 := dkwL_law_56 ++ dktL_law_57
def dkwL_law_55 : List UInt8 := [182, 0, 89, 21, 5, 159, 0, 5, 3, 172, 21, 5, 154, 0, 15, 45, 3, 47, 21, 6, 133, 148]
abbrev dktL_law_55 : List UInt8 := dkwL_law_55 ++ dktL_law_56
def dkwL_law_54 : List UInt8 := [21, 4, 4, 96, 46, 45, 184, 0, 144, 54, 5, 44, 42, 21, 4, 4, 96, 46, 182, 0, 146, 54, 6, 44]
abbrev dktL_law_54 : List UInt8 := dkwL_law_54 ++ dktL_law_55
def dkwL_law_53 : List UInt8 := [172, 21, 5, 154, 0, 15, 45, 3, 47, 21, 6, 133, 148, 153, 0, 5, 3, 172, 167, 0, 238, 43, 42]
abbrev dktL_law_53 : List UInt8 := dkwL_law_53 ++ dktL_law_54
def dkwL_law_52 : List UInt8 := [54, 5, 44, 42, 21, 4, 4, 96, 46, 182, 0, 143, 54, 6, 44, 182, 0, 89, 21, 5, 159, 0, 5, 3]
abbrev dktL_law_52 : List UInt8 := dkwL_law_52 ++ dktL_law_53
def dkwL_law_51 : List UInt8 := [21, 6, 133, 148, 153, 0, 5, 3, 172, 167, 1, 38, 43, 42, 21, 4, 4, 96, 46, 45, 184, 0, 141]
abbrev dktL_law_51 : List UInt8 := dkwL_law_51 ++ dktL_law_52
def dkwL_law_50 : List UInt8 := [182, 0, 140, 54, 6, 44, 182, 0, 89, 21, 5, 159, 0, 5, 3, 172, 21, 5, 154, 0, 15, 45, 3, 47]
abbrev dktL_law_50 : List UInt8 := dkwL_law_50 ++ dktL_law_51
def dkwL_law_49 : List UInt8 := [167, 1, 94, 43, 42, 21, 4, 4, 96, 46, 45, 184, 0, 138, 54, 5, 44, 42, 21, 4, 4, 96, 46]
abbrev dktL_law_49 : List UInt8 := dkwL_law_49 ++ dktL_law_50
def dkwL_law_48 : List UInt8 := [21, 5, 159, 0, 5, 3, 172, 21, 5, 154, 0, 15, 45, 3, 47, 21, 6, 133, 148, 153, 0, 5, 3, 172]
abbrev dktL_law_48 : List UInt8 := dkwL_law_48 ++ dktL_law_49
def dkwL_law_47 : List UInt8 := [46, 45, 184, 0, 135, 54, 5, 44, 42, 21, 4, 4, 96, 46, 182, 0, 137, 54, 6, 44, 182, 0, 89]
abbrev dktL_law_47 : List UInt8 := dkwL_law_47 ++ dktL_law_48
def dkwL_law_46 : List UInt8 := [154, 0, 15, 45, 3, 47, 21, 6, 133, 148, 153, 0, 5, 3, 172, 167, 1, 150, 43, 42, 21, 4, 4, 96]
abbrev dktL_law_46 : List UInt8 := dkwL_law_46 ++ dktL_law_47
def dkwL_law_45 : List UInt8 := [21, 4, 4, 96, 46, 182, 0, 134, 54, 6, 44, 182, 0, 89, 21, 5, 159, 0, 5, 3, 172, 21, 5]
abbrev dktL_law_45 : List UInt8 := dkwL_law_45 ++ dktL_law_46
def dkwL_law_44 : List UInt8 := [153, 0, 5, 3, 172, 167, 1, 206, 43, 42, 21, 4, 4, 96, 46, 45, 184, 0, 132, 54, 5, 44, 42]
abbrev dktL_law_44 : List UInt8 := dkwL_law_44 ++ dktL_law_45
def dkwL_law_43 : List UInt8 := [182, 0, 89, 21, 5, 159, 0, 5, 3, 172, 21, 5, 154, 0, 15, 45, 3, 47, 21, 6, 133, 148]
abbrev dktL_law_43 : List UInt8 := dkwL_law_43 ++ dktL_law_44
def dkwL_law_42 : List UInt8 := [184, 0, 129, 54, 5, 44, 42, 21, 4, 4, 96, 46, 42, 21, 4, 5, 96, 46, 182, 0, 131, 54, 6, 44]
abbrev dktL_law_42 : List UInt8 := dkwL_law_42 ++ dktL_law_43
def dkwL_law_41 : List UInt8 := [153, 0, 5, 3, 172, 167, 2, 18, 43, 42, 21, 4, 4, 96, 46, 42, 21, 4, 5, 96, 46, 45]
abbrev dktL_law_41 : List UInt8 := dkwL_law_41 ++ dktL_law_42
def dkwL_law_40 : List UInt8 := [182, 0, 89, 21, 5, 159, 0, 5, 3, 172, 21, 5, 154, 0, 15, 45, 3, 47, 21, 6, 133, 148]
abbrev dktL_law_40 : List UInt8 := dkwL_law_40 ++ dktL_law_41
def dkwL_law_39 : List UInt8 := [21, 4, 5, 96, 46, 42, 21, 4, 6, 96, 46, 42, 21, 4, 7, 96, 46, 182, 0, 128, 54, 6, 44]
abbrev dktL_law_39 : List UInt8 := dkwL_law_39 ++ dktL_law_40
def dkwL_law_38 : List UInt8 := [6, 96, 46, 42, 21, 4, 7, 96, 46, 45, 184, 0, 126, 54, 5, 44, 42, 21, 4, 4, 96, 46, 42]
abbrev dktL_law_38 : List UInt8 := dkwL_law_38 ++ dktL_law_39
def dkwL_law_37 : List UInt8 := [153, 0, 5, 3, 172, 167, 2, 110, 43, 42, 21, 4, 4, 96, 46, 42, 21, 4, 5, 96, 46, 42, 21, 4]
abbrev dktL_law_37 : List UInt8 := dkwL_law_37 ++ dktL_law_38
def dkwL_law_36 : List UInt8 := [182, 0, 89, 21, 5, 159, 0, 5, 3, 172, 21, 5, 154, 0, 15, 45, 3, 47, 21, 6, 133, 148]
abbrev dktL_law_36 : List UInt8 := dkwL_law_36 ++ dktL_law_37
def dkwL_law_35 : List UInt8 := [184, 0, 123, 54, 5, 44, 42, 21, 4, 4, 96, 46, 42, 21, 4, 5, 96, 46, 182, 0, 125, 54, 6, 44]
abbrev dktL_law_35 : List UInt8 := dkwL_law_35 ++ dktL_law_36
def dkwL_law_34 : List UInt8 := [153, 0, 5, 3, 172, 167, 2, 178, 43, 42, 21, 4, 4, 96, 46, 42, 21, 4, 5, 96, 46, 45]
abbrev dktL_law_34 : List UInt8 := dkwL_law_34 ++ dktL_law_35
def dkwL_law_33 : List UInt8 := [182, 0, 89, 21, 5, 159, 0, 5, 3, 172, 21, 5, 154, 0, 15, 45, 3, 47, 21, 6, 133, 148]
abbrev dktL_law_33 : List UInt8 := dkwL_law_33 ++ dktL_law_34
def dkwL_law_32 : List UInt8 := [184, 0, 120, 54, 5, 44, 42, 21, 4, 4, 96, 46, 42, 21, 4, 5, 96, 46, 182, 0, 122, 54, 6, 44]
abbrev dktL_law_32 : List UInt8 := dkwL_law_32 ++ dktL_law_33
def dkwL_law_31 : List UInt8 := [148, 153, 0, 5, 3, 172, 167, 2, 246, 43, 42, 21, 4, 4, 96, 46, 42, 21, 4, 5, 96, 46, 45]
abbrev dktL_law_31 : List UInt8 := dkwL_law_31 ++ dktL_law_32
def dkwL_law_30 : List UInt8 := [54, 6, 44, 182, 0, 89, 21, 5, 159, 0, 5, 3, 172, 21, 5, 154, 0, 15, 45, 3, 47, 21, 6, 133]
abbrev dktL_law_30 : List UInt8 := dkwL_law_30 ++ dktL_law_31
def dkwL_law_29 : List UInt8 := [46, 45, 184, 0, 117, 54, 5, 44, 42, 21, 4, 4, 96, 46, 42, 21, 4, 5, 96, 46, 182, 0, 119]
abbrev dktL_law_29 : List UInt8 := dkwL_law_29 ++ dktL_law_30
def dkwL_law_28 : List UInt8 := [21, 6, 133, 148, 153, 0, 5, 3, 172, 167, 3, 58, 43, 42, 21, 4, 4, 96, 46, 42, 21, 4, 5, 96]
abbrev dktL_law_28 : List UInt8 := dkwL_law_28 ++ dktL_law_29
def dkwL_law_27 : List UInt8 := [182, 0, 116, 54, 6, 44, 182, 0, 89, 21, 5, 159, 0, 5, 3, 172, 21, 5, 154, 0, 15, 45, 3, 47]
abbrev dktL_law_27 : List UInt8 := dkwL_law_27 ++ dktL_law_28
def dkwL_law_26 : List UInt8 := [167, 3, 114, 43, 42, 21, 4, 4, 96, 46, 45, 184, 0, 113, 54, 5, 44, 42, 21, 4, 4, 96, 46]
abbrev dktL_law_26 : List UInt8 := dkwL_law_26 ++ dktL_law_27
def dkwL_law_25 : List UInt8 := [159, 0, 5, 3, 172, 21, 5, 154, 0, 15, 45, 3, 47, 21, 6, 133, 148, 153, 0, 5, 3, 172]
abbrev dktL_law_25 : List UInt8 := dkwL_law_25 ++ dktL_law_26
def dkwL_law_24 : List UInt8 := [21, 4, 4, 96, 46, 42, 21, 4, 5, 96, 46, 182, 0, 112, 54, 6, 44, 182, 0, 89, 21, 5]
abbrev dktL_law_24 : List UInt8 := dkwL_law_24 ++ dktL_law_25
def dkwL_law_23 : List UInt8 := [167, 3, 182, 43, 42, 21, 4, 4, 96, 46, 42, 21, 4, 5, 96, 46, 45, 184, 0, 110, 54, 5, 44, 42]
abbrev dktL_law_23 : List UInt8 := dkwL_law_23 ++ dktL_law_24
def dkwL_law_22 : List UInt8 := [159, 0, 5, 3, 172, 21, 5, 154, 0, 15, 45, 3, 47, 21, 6, 133, 148, 153, 0, 5, 3, 172]
abbrev dktL_law_22 : List UInt8 := dkwL_law_22 ++ dktL_law_23
def dkwL_law_21 : List UInt8 := [21, 4, 5, 96, 46, 42, 21, 4, 6, 96, 46, 182, 0, 109, 54, 6, 44, 182, 0, 89, 21, 5]
abbrev dktL_law_21 : List UInt8 := dkwL_law_21 ++ dktL_law_22
def dkwL_law_20 : List UInt8 := [5, 96, 46, 42, 21, 4, 6, 96, 46, 45, 184, 0, 107, 54, 5, 44, 42, 21, 4, 4, 96, 46, 42]
abbrev dktL_law_20 : List UInt8 := dkwL_law_20 ++ dktL_law_21
def dkwL_law_19 : List UInt8 := [3, 47, 21, 6, 133, 148, 153, 0, 5, 3, 172, 167, 4, 6, 43, 42, 21, 4, 4, 96, 46, 42, 21, 4]
abbrev dktL_law_19 : List UInt8 := dkwL_law_19 ++ dktL_law_20
def dkwL_law_18 : List UInt8 := [96, 46, 182, 0, 106, 54, 6, 44, 182, 0, 89, 21, 5, 159, 0, 5, 3, 172, 21, 5, 154, 0, 15, 45]
abbrev dktL_law_18 : List UInt8 := dkwL_law_18 ++ dktL_law_19
def dkwL_law_17 : List UInt8 := [46, 42, 21, 4, 5, 96, 46, 45, 184, 0, 104, 54, 5, 44, 42, 21, 4, 4, 96, 46, 42, 21, 4, 5]
abbrev dktL_law_17 : List UInt8 := dkwL_law_17 ++ dktL_law_18
def dkwL_law_16 : List UInt8 := [154, 0, 15, 45, 3, 47, 21, 6, 133, 148, 153, 0, 5, 3, 172, 167, 4, 74, 43, 42, 21, 4, 4, 96]
abbrev dktL_law_16 : List UInt8 := dkwL_law_16 ++ dktL_law_17
def dkwL_law_15 : List UInt8 := [21, 4, 6, 96, 46, 182, 0, 103, 54, 6, 44, 182, 0, 89, 21, 5, 159, 0, 5, 3, 172, 21, 5]
abbrev dktL_law_15 : List UInt8 := dkwL_law_15 ++ dktL_law_16
def dkwL_law_14 : List UInt8 := [6, 96, 46, 45, 184, 0, 101, 54, 5, 44, 42, 21, 4, 4, 96, 46, 42, 21, 4, 5, 96, 46, 42]
abbrev dktL_law_14 : List UInt8 := dkwL_law_14 ++ dktL_law_15
def dkwL_law_13 : List UInt8 := [153, 0, 5, 3, 172, 167, 4, 154, 43, 42, 21, 4, 4, 96, 46, 42, 21, 4, 5, 96, 46, 42, 21, 4]
abbrev dktL_law_13 : List UInt8 := dkwL_law_13 ++ dktL_law_14
def dkwL_law_12 : List UInt8 := [182, 0, 89, 21, 5, 159, 0, 5, 3, 172, 21, 5, 154, 0, 15, 45, 3, 47, 21, 6, 133, 148]
abbrev dktL_law_12 : List UInt8 := dkwL_law_12 ++ dktL_law_13
def dkwL_law_11 : List UInt8 := [21, 4, 5, 96, 46, 42, 21, 4, 6, 96, 46, 42, 21, 4, 7, 96, 46, 182, 0, 100, 54, 6, 44]
abbrev dktL_law_11 : List UInt8 := dkwL_law_11 ++ dktL_law_12
def dkwL_law_10 : List UInt8 := [6, 96, 46, 42, 21, 4, 7, 96, 46, 45, 184, 0, 97, 54, 5, 44, 42, 21, 4, 4, 96, 46, 42]
abbrev dktL_law_10 : List UInt8 := dkwL_law_10 ++ dktL_law_11
def dkwL_law_9 : List UInt8 := [153, 0, 5, 3, 172, 167, 4, 246, 43, 42, 21, 4, 4, 96, 46, 42, 21, 4, 5, 96, 46, 42, 21, 4]
abbrev dktL_law_9 : List UInt8 := dkwL_law_9 ++ dktL_law_10
def dkwL_law_8 : List UInt8 := [182, 0, 89, 21, 5, 159, 0, 5, 3, 172, 21, 5, 154, 0, 15, 45, 3, 47, 21, 6, 133, 148]
abbrev dktL_law_8 : List UInt8 := dkwL_law_8 ++ dktL_law_9
def dkwL_law_7 : List UInt8 := [184, 0, 93, 54, 5, 44, 42, 21, 4, 4, 96, 46, 42, 21, 4, 5, 96, 46, 182, 0, 96, 54, 6, 44]
abbrev dktL_law_7 : List UInt8 := dkwL_law_7 ++ dktL_law_8
def dkwL_law_6 : List UInt8 := [148, 153, 0, 5, 3, 172, 167, 5, 58, 43, 42, 21, 4, 4, 96, 46, 42, 21, 4, 5, 96, 46, 45]
abbrev dktL_law_6 : List UInt8 := dkwL_law_6 ++ dktL_law_7
def dkwL_law_5 : List UInt8 := [54, 6, 44, 182, 0, 89, 21, 5, 159, 0, 5, 3, 172, 21, 5, 154, 0, 15, 45, 3, 47, 21, 6, 133]
abbrev dktL_law_5 : List UInt8 := dkwL_law_5 ++ dktL_law_6
def dkwL_law_4 : List UInt8 := [54, 5, 44, 42, 21, 4, 4, 96, 46, 42, 21, 4, 5, 96, 46, 42, 21, 4, 6, 96, 46, 182, 0, 88]
abbrev dktL_law_4 : List UInt8 := dkwL_law_4 ++ dktL_law_5
def dkwL_law_3 : List UInt8 := [43, 42, 21, 4, 4, 96, 46, 42, 21, 4, 5, 96, 46, 42, 21, 4, 6, 96, 46, 45, 184, 0, 83]
abbrev dktL_law_3 : List UInt8 := dkwL_law_3 ++ dktL_law_4
def dkwL_law_2 : List UInt8 := [170, 0, 0, 5, 236, 0, 0, 0, 0, 0, 0, 0, 21, 0, 0, 0, 101, 0, 0, 0, 181, 0, 0, 0, 249, 0, 0, 1, 85, 0, 0, 1, 165, 0, 0, 1, 233, 0, 0, 2, 57, 0, 0, 2, 125, 0, 0, 2, 181, 0, 0, 2, 249, 0, 0, 3, 61, 0, 0, 3, 129, 0, 0, 3, 221, 0, 0, 4, 33, 0, 0, 4, 89, 0, 0, 4, 145, 0, 0, 4, 201, 0, 0, 5, 1, 0, 0, 5, 57, 0, 0, 5, 125, 0, 0, 5, 181, 0, 0, 5, 222]
abbrev dktL_law_2 : List UInt8 := dkwL_law_2 ++ dktL_law_3
def dkwL_law_1 : List UInt8 := [21, 4, 42, 190, 8, 100, 163, 5, 252, 42, 21, 4, 46, 16, 31, 126]
abbrev dktL_law_1 : List UInt8 := dkwL_law_1 ++ dktL_law_2
def dkwL_law_0 : List UInt8 := [187, 0, 8, 89, 183, 0, 79, 76, 187, 0, 80, 89, 183, 0, 82, 77, 4, 188, 11, 78, 3, 54, 4]
abbrev dktL_law_0 : List UInt8 := dkwL_law_0 ++ dktL_law_1
theorem dksL_law_0 : cL_law.data.toList.drop 0 = dktL_law_0 := by decide +kernel
theorem dksL_law_1 : cL_law.data.toList.drop 23 = dktL_law_1 := dk_seg dksL_law_0 23 rfl rfl
theorem dksL_law_2 : cL_law.data.toList.drop 39 = dktL_law_2 := dk_seg dksL_law_1 16 rfl rfl
theorem dksL_law_3 : cL_law.data.toList.drop 140 = dktL_law_3 := dk_seg dksL_law_2 101 rfl rfl
theorem dksL_law_4 : cL_law.data.toList.drop 163 = dktL_law_4 := dk_seg dksL_law_3 23 rfl rfl
theorem dksL_law_5 : cL_law.data.toList.drop 187 = dktL_law_5 := dk_seg dksL_law_4 24 rfl rfl
theorem dksL_law_6 : cL_law.data.toList.drop 211 = dktL_law_6 := dk_seg dksL_law_5 24 rfl rfl
theorem dksL_law_7 : cL_law.data.toList.drop 234 = dktL_law_7 := dk_seg dksL_law_6 23 rfl rfl
theorem dksL_law_8 : cL_law.data.toList.drop 258 = dktL_law_8 := dk_seg dksL_law_7 24 rfl rfl
theorem dksL_law_9 : cL_law.data.toList.drop 280 = dktL_law_9 := dk_seg dksL_law_8 22 rfl rfl
theorem dksL_law_10 : cL_law.data.toList.drop 304 = dktL_law_10 := dk_seg dksL_law_9 24 rfl rfl
theorem dksL_law_11 : cL_law.data.toList.drop 327 = dktL_law_11 := dk_seg dksL_law_10 23 rfl rfl
theorem dksL_law_12 : cL_law.data.toList.drop 350 = dktL_law_12 := dk_seg dksL_law_11 23 rfl rfl
theorem dksL_law_13 : cL_law.data.toList.drop 372 = dktL_law_13 := dk_seg dksL_law_12 22 rfl rfl
theorem dksL_law_14 : cL_law.data.toList.drop 396 = dktL_law_14 := dk_seg dksL_law_13 24 rfl rfl
theorem dksL_law_15 : cL_law.data.toList.drop 419 = dktL_law_15 := dk_seg dksL_law_14 23 rfl rfl
theorem dksL_law_16 : cL_law.data.toList.drop 442 = dktL_law_16 := dk_seg dksL_law_15 23 rfl rfl
theorem dksL_law_17 : cL_law.data.toList.drop 466 = dktL_law_17 := dk_seg dksL_law_16 24 rfl rfl
theorem dksL_law_18 : cL_law.data.toList.drop 490 = dktL_law_18 := dk_seg dksL_law_17 24 rfl rfl
theorem dksL_law_19 : cL_law.data.toList.drop 514 = dktL_law_19 := dk_seg dksL_law_18 24 rfl rfl
theorem dksL_law_20 : cL_law.data.toList.drop 538 = dktL_law_20 := dk_seg dksL_law_19 24 rfl rfl
theorem dksL_law_21 : cL_law.data.toList.drop 561 = dktL_law_21 := dk_seg dksL_law_20 23 rfl rfl
theorem dksL_law_22 : cL_law.data.toList.drop 583 = dktL_law_22 := dk_seg dksL_law_21 22 rfl rfl
theorem dksL_law_23 : cL_law.data.toList.drop 605 = dktL_law_23 := dk_seg dksL_law_22 22 rfl rfl
theorem dksL_law_24 : cL_law.data.toList.drop 629 = dktL_law_24 := dk_seg dksL_law_23 24 rfl rfl
theorem dksL_law_25 : cL_law.data.toList.drop 651 = dktL_law_25 := dk_seg dksL_law_24 22 rfl rfl
theorem dksL_law_26 : cL_law.data.toList.drop 673 = dktL_law_26 := dk_seg dksL_law_25 22 rfl rfl
theorem dksL_law_27 : cL_law.data.toList.drop 696 = dktL_law_27 := dk_seg dksL_law_26 23 rfl rfl
theorem dksL_law_28 : cL_law.data.toList.drop 720 = dktL_law_28 := dk_seg dksL_law_27 24 rfl rfl
theorem dksL_law_29 : cL_law.data.toList.drop 744 = dktL_law_29 := dk_seg dksL_law_28 24 rfl rfl
theorem dksL_law_30 : cL_law.data.toList.drop 767 = dktL_law_30 := dk_seg dksL_law_29 23 rfl rfl
theorem dksL_law_31 : cL_law.data.toList.drop 791 = dktL_law_31 := dk_seg dksL_law_30 24 rfl rfl
theorem dksL_law_32 : cL_law.data.toList.drop 814 = dktL_law_32 := dk_seg dksL_law_31 23 rfl rfl
theorem dksL_law_33 : cL_law.data.toList.drop 838 = dktL_law_33 := dk_seg dksL_law_32 24 rfl rfl
theorem dksL_law_34 : cL_law.data.toList.drop 860 = dktL_law_34 := dk_seg dksL_law_33 22 rfl rfl
theorem dksL_law_35 : cL_law.data.toList.drop 882 = dktL_law_35 := dk_seg dksL_law_34 22 rfl rfl
theorem dksL_law_36 : cL_law.data.toList.drop 906 = dktL_law_36 := dk_seg dksL_law_35 24 rfl rfl
theorem dksL_law_37 : cL_law.data.toList.drop 928 = dktL_law_37 := dk_seg dksL_law_36 22 rfl rfl
theorem dksL_law_38 : cL_law.data.toList.drop 952 = dktL_law_38 := dk_seg dksL_law_37 24 rfl rfl
theorem dksL_law_39 : cL_law.data.toList.drop 975 = dktL_law_39 := dk_seg dksL_law_38 23 rfl rfl
theorem dksL_law_40 : cL_law.data.toList.drop 998 = dktL_law_40 := dk_seg dksL_law_39 23 rfl rfl
theorem dksL_law_41 : cL_law.data.toList.drop 1020 = dktL_law_41 := dk_seg dksL_law_40 22 rfl rfl
theorem dksL_law_42 : cL_law.data.toList.drop 1042 = dktL_law_42 := dk_seg dksL_law_41 22 rfl rfl
theorem dksL_law_43 : cL_law.data.toList.drop 1066 = dktL_law_43 := dk_seg dksL_law_42 24 rfl rfl
theorem dksL_law_44 : cL_law.data.toList.drop 1088 = dktL_law_44 := dk_seg dksL_law_43 22 rfl rfl
theorem dksL_law_45 : cL_law.data.toList.drop 1111 = dktL_law_45 := dk_seg dksL_law_44 23 rfl rfl
theorem dksL_law_46 : cL_law.data.toList.drop 1134 = dktL_law_46 := dk_seg dksL_law_45 23 rfl rfl
theorem dksL_law_47 : cL_law.data.toList.drop 1158 = dktL_law_47 := dk_seg dksL_law_46 24 rfl rfl
theorem dksL_law_48 : cL_law.data.toList.drop 1181 = dktL_law_48 := dk_seg dksL_law_47 23 rfl rfl
theorem dksL_law_49 : cL_law.data.toList.drop 1205 = dktL_law_49 := dk_seg dksL_law_48 24 rfl rfl
theorem dksL_law_50 : cL_law.data.toList.drop 1228 = dktL_law_50 := dk_seg dksL_law_49 23 rfl rfl
theorem dksL_law_51 : cL_law.data.toList.drop 1252 = dktL_law_51 := dk_seg dksL_law_50 24 rfl rfl
theorem dksL_law_52 : cL_law.data.toList.drop 1275 = dktL_law_52 := dk_seg dksL_law_51 23 rfl rfl
theorem dksL_law_53 : cL_law.data.toList.drop 1299 = dktL_law_53 := dk_seg dksL_law_52 24 rfl rfl
theorem dksL_law_54 : cL_law.data.toList.drop 1322 = dktL_law_54 := dk_seg dksL_law_53 23 rfl rfl
theorem dksL_law_55 : cL_law.data.toList.drop 1346 = dktL_law_55 := dk_seg dksL_law_54 24 rfl rfl
theorem dksL_law_56 : cL_law.data.toList.drop 1368 = dktL_law_56 := dk_seg dksL_law_55 22 rfl rfl
theorem dksL_law_57 : cL_law.data.toList.drop 1390 = dktL_law_57 := dk_seg dksL_law_56 22 rfl rfl
theorem dksL_law_58 : cL_law.data.toList.drop 1414 = dktL_law_58 := dk_seg dksL_law_57 24 rfl rfl
theorem dksL_law_59 : cL_law.data.toList.drop 1436 = dktL_law_59 := dk_seg dksL_law_58 22 rfl rfl
theorem dksL_law_60 : cL_law.data.toList.drop 1459 = dktL_law_60 := dk_seg dksL_law_59 23 rfl rfl
theorem dksL_law_61 : cL_law.data.toList.drop 1482 = dktL_law_61 := dk_seg dksL_law_60 23 rfl rfl
theorem dksL_law_62 : cL_law.data.toList.drop 1506 = dktL_law_62 := dk_seg dksL_law_61 24 rfl rfl
theorem dksL_law_63 : cL_law.data.toList.drop 1530 = dktL_law_63 := dk_seg dksL_law_62 24 rfl rfl
theorem dksL_law_64 : cL_law.data.toList.drop 1554 = dktL_law_64 := dk_seg dksL_law_63 24 rfl rfl
theorem dL_law_0 : decode cL_law 0 = .ok (.new 8, 3) := dk_187 0 8 (dk_at dksL_law_0 0 rfl rfl)
theorem dL_law_3 : decode cL_law 3 = .ok (.dup, 1) := dk_89 (dk_at dksL_law_0 3 rfl rfl)
theorem dL_law_4 : decode cL_law 4 = .ok (.invokespecial 79, 3) := dk_183 0 79 (dk_at dksL_law_0 4 rfl rfl)
theorem dL_law_7 : decode cL_law 7 = .ok (.astore_n 1, 1) := dk_76 (dk_at dksL_law_0 7 rfl rfl)
theorem dL_law_8 : decode cL_law 8 = .ok (.new 80, 3) := dk_187 0 80 (dk_at dksL_law_0 8 rfl rfl)
theorem dL_law_11 : decode cL_law 11 = .ok (.dup, 1) := dk_89 (dk_at dksL_law_0 11 rfl rfl)
theorem dL_law_12 : decode cL_law 12 = .ok (.invokespecial 82, 3) := dk_183 0 82 (dk_at dksL_law_0 12 rfl rfl)
theorem dL_law_15 : decode cL_law 15 = .ok (.astore_n 2, 1) := dk_77 (dk_at dksL_law_0 15 rfl rfl)
theorem dL_law_16 : decode cL_law 16 = .ok (.iconst 1, 1) := dk_4 (dk_at dksL_law_0 16 rfl rfl)
theorem dL_law_17 : decode cL_law 17 = .ok (.newarray .long, 2) := dk_188_11 (dk_at dksL_law_0 17 rfl rfl)
theorem dL_law_19 : decode cL_law 19 = .ok (.astore_n 3, 1) := dk_78 (dk_at dksL_law_0 19 rfl rfl)
theorem dL_law_20 : decode cL_law 20 = .ok (.iconst 0, 1) := dk_3 (dk_at dksL_law_0 20 rfl rfl)
theorem dL_law_21 : decode cL_law 21 = .ok (.istore 4, 2) := dk_54 4 (dk_at dksL_law_0 21 rfl rfl)
theorem dL_law_23 : decode cL_law 23 = .ok (.iload 4, 2) := dk_21 4 (dk_at dksL_law_1 0 rfl rfl)
theorem dL_law_25 : decode cL_law 25 = .ok (.aload_n 0, 1) := dk_42 (dk_at dksL_law_1 2 rfl rfl)
theorem dL_law_26 : decode cL_law 26 = .ok (.arraylength, 1) := dk_190 (dk_at dksL_law_1 3 rfl rfl)
theorem dL_law_27 : decode cL_law 27 = .ok (.iconst 5, 1) := dk_8 (dk_at dksL_law_1 4 rfl rfl)
theorem dL_law_28 : decode cL_law 28 = .ok (.isub, 1) := dk_100 (dk_at dksL_law_1 5 rfl rfl)
theorem dL_law_29 : decode cL_law 29 = .ok (.if_icmp .gt 1532, 3) := dk_163 5 252 (dk_at dksL_law_1 6 rfl rfl)
theorem dL_law_32 : decode cL_law 32 = .ok (.aload_n 0, 1) := dk_42 (dk_at dksL_law_1 9 rfl rfl)
theorem dL_law_33 : decode cL_law 33 = .ok (.iload 4, 2) := dk_21 4 (dk_at dksL_law_1 10 rfl rfl)
theorem dL_law_35 : decode cL_law 35 = .ok (.iaload, 1) := dk_46 (dk_at dksL_law_1 12 rfl rfl)
theorem dL_law_36 : decode cL_law 36 = .ok (.bipush 31, 2) := dk_16 31 (dk_at dksL_law_1 13 rfl rfl)
theorem dL_law_38 : decode cL_law 38 = .ok (.iand, 1) := dk_126 (dk_at dksL_law_1 15 rfl rfl)
theorem dL_law_39 : decode cL_law 39 = .ok (.tableswitch 1516 0 21 #[101, 181, 249, 341, 421, 489, 569, 637, 693, 761, 829, 897, 989, 1057, 1113, 1169, 1225, 1281, 1337, 1405, 1461, 1502], 101) := by decide +kernel
theorem dL_law_140 : decode cL_law 140 = .ok (.aload_n 1, 1) := dk_43 (dk_at dksL_law_3 0 rfl rfl)
theorem dL_law_141 : decode cL_law 141 = .ok (.aload_n 0, 1) := dk_42 (dk_at dksL_law_3 1 rfl rfl)
theorem dL_law_142 : decode cL_law 142 = .ok (.iload 4, 2) := dk_21 4 (dk_at dksL_law_3 2 rfl rfl)
theorem dL_law_144 : decode cL_law 144 = .ok (.iconst 1, 1) := dk_4 (dk_at dksL_law_3 4 rfl rfl)
theorem dL_law_145 : decode cL_law 145 = .ok (.iadd, 1) := dk_96 (dk_at dksL_law_3 5 rfl rfl)
theorem dL_law_146 : decode cL_law 146 = .ok (.iaload, 1) := dk_46 (dk_at dksL_law_3 6 rfl rfl)
theorem dL_law_147 : decode cL_law 147 = .ok (.aload_n 0, 1) := dk_42 (dk_at dksL_law_3 7 rfl rfl)
theorem dL_law_148 : decode cL_law 148 = .ok (.iload 4, 2) := dk_21 4 (dk_at dksL_law_3 8 rfl rfl)
theorem dL_law_150 : decode cL_law 150 = .ok (.iconst 2, 1) := dk_5 (dk_at dksL_law_3 10 rfl rfl)
theorem dL_law_151 : decode cL_law 151 = .ok (.iadd, 1) := dk_96 (dk_at dksL_law_3 11 rfl rfl)
theorem dL_law_152 : decode cL_law 152 = .ok (.iaload, 1) := dk_46 (dk_at dksL_law_3 12 rfl rfl)
theorem dL_law_153 : decode cL_law 153 = .ok (.aload_n 0, 1) := dk_42 (dk_at dksL_law_3 13 rfl rfl)
theorem dL_law_154 : decode cL_law 154 = .ok (.iload 4, 2) := dk_21 4 (dk_at dksL_law_3 14 rfl rfl)
theorem dL_law_156 : decode cL_law 156 = .ok (.iconst 3, 1) := dk_6 (dk_at dksL_law_3 16 rfl rfl)
theorem dL_law_157 : decode cL_law 157 = .ok (.iadd, 1) := dk_96 (dk_at dksL_law_3 17 rfl rfl)
theorem dL_law_158 : decode cL_law 158 = .ok (.iaload, 1) := dk_46 (dk_at dksL_law_3 18 rfl rfl)
theorem dL_law_159 : decode cL_law 159 = .ok (.aload_n 3, 1) := dk_45 (dk_at dksL_law_3 19 rfl rfl)
theorem dL_law_160 : decode cL_law 160 = .ok (.invokestatic 83, 3) := dk_184 0 83 (dk_at dksL_law_3 20 rfl rfl)
theorem dL_law_163 : decode cL_law 163 = .ok (.istore 5, 2) := dk_54 5 (dk_at dksL_law_4 0 rfl rfl)
theorem dL_law_165 : decode cL_law 165 = .ok (.aload_n 2, 1) := dk_44 (dk_at dksL_law_4 2 rfl rfl)
theorem dL_law_166 : decode cL_law 166 = .ok (.aload_n 0, 1) := dk_42 (dk_at dksL_law_4 3 rfl rfl)
theorem dL_law_167 : decode cL_law 167 = .ok (.iload 4, 2) := dk_21 4 (dk_at dksL_law_4 4 rfl rfl)
theorem dL_law_169 : decode cL_law 169 = .ok (.iconst 1, 1) := dk_4 (dk_at dksL_law_4 6 rfl rfl)
theorem dL_law_170 : decode cL_law 170 = .ok (.iadd, 1) := dk_96 (dk_at dksL_law_4 7 rfl rfl)
theorem dL_law_171 : decode cL_law 171 = .ok (.iaload, 1) := dk_46 (dk_at dksL_law_4 8 rfl rfl)
theorem dL_law_172 : decode cL_law 172 = .ok (.aload_n 0, 1) := dk_42 (dk_at dksL_law_4 9 rfl rfl)
theorem dL_law_173 : decode cL_law 173 = .ok (.iload 4, 2) := dk_21 4 (dk_at dksL_law_4 10 rfl rfl)
theorem dL_law_175 : decode cL_law 175 = .ok (.iconst 2, 1) := dk_5 (dk_at dksL_law_4 12 rfl rfl)
theorem dL_law_176 : decode cL_law 176 = .ok (.iadd, 1) := dk_96 (dk_at dksL_law_4 13 rfl rfl)
theorem dL_law_177 : decode cL_law 177 = .ok (.iaload, 1) := dk_46 (dk_at dksL_law_4 14 rfl rfl)
theorem dL_law_178 : decode cL_law 178 = .ok (.aload_n 0, 1) := dk_42 (dk_at dksL_law_4 15 rfl rfl)
theorem dL_law_179 : decode cL_law 179 = .ok (.iload 4, 2) := dk_21 4 (dk_at dksL_law_4 16 rfl rfl)
theorem dL_law_181 : decode cL_law 181 = .ok (.iconst 3, 1) := dk_6 (dk_at dksL_law_4 18 rfl rfl)
theorem dL_law_182 : decode cL_law 182 = .ok (.iadd, 1) := dk_96 (dk_at dksL_law_4 19 rfl rfl)
theorem dL_law_183 : decode cL_law 183 = .ok (.iaload, 1) := dk_46 (dk_at dksL_law_4 20 rfl rfl)
theorem dL_law_184 : decode cL_law 184 = .ok (.invokevirtual 88, 3) := dk_182 0 88 (dk_at dksL_law_4 21 rfl rfl)
theorem dL_law_187 : decode cL_law 187 = .ok (.istore 6, 2) := dk_54 6 (dk_at dksL_law_5 0 rfl rfl)
theorem dL_law_189 : decode cL_law 189 = .ok (.aload_n 2, 1) := dk_44 (dk_at dksL_law_5 2 rfl rfl)
theorem dL_law_190 : decode cL_law 190 = .ok (.invokevirtual 89, 3) := dk_182 0 89 (dk_at dksL_law_5 3 rfl rfl)
theorem dL_law_193 : decode cL_law 193 = .ok (.iload 5, 2) := dk_21 5 (dk_at dksL_law_5 6 rfl rfl)
theorem dL_law_195 : decode cL_law 195 = .ok (.if_icmp .eq 5, 3) := dk_159 0 5 (dk_at dksL_law_5 8 rfl rfl)
theorem dL_law_198 : decode cL_law 198 = .ok (.iconst 0, 1) := dk_3 (dk_at dksL_law_5 11 rfl rfl)
theorem dL_law_199 : decode cL_law 199 = .ok (.ireturn, 1) := dk_172 (dk_at dksL_law_5 12 rfl rfl)
theorem dL_law_200 : decode cL_law 200 = .ok (.iload 5, 2) := dk_21 5 (dk_at dksL_law_5 13 rfl rfl)
theorem dL_law_202 : decode cL_law 202 = .ok (.ifCond .ne 15, 3) := dk_154 0 15 (dk_at dksL_law_5 15 rfl rfl)
theorem dL_law_205 : decode cL_law 205 = .ok (.aload_n 3, 1) := dk_45 (dk_at dksL_law_5 18 rfl rfl)
theorem dL_law_206 : decode cL_law 206 = .ok (.iconst 0, 1) := dk_3 (dk_at dksL_law_5 19 rfl rfl)
theorem dL_law_207 : decode cL_law 207 = .ok (.laload, 1) := dk_47 (dk_at dksL_law_5 20 rfl rfl)
theorem dL_law_208 : decode cL_law 208 = .ok (.iload 6, 2) := dk_21 6 (dk_at dksL_law_5 21 rfl rfl)
theorem dL_law_210 : decode cL_law 210 = .ok (.i2l, 1) := dk_133 (dk_at dksL_law_5 23 rfl rfl)
theorem dL_law_211 : decode cL_law 211 = .ok (.lcmp, 1) := dk_148 (dk_at dksL_law_6 0 rfl rfl)
theorem dL_law_212 : decode cL_law 212 = .ok (.ifCond .eq 5, 3) := dk_153 0 5 (dk_at dksL_law_6 1 rfl rfl)
theorem dL_law_215 : decode cL_law 215 = .ok (.iconst 0, 1) := dk_3 (dk_at dksL_law_6 4 rfl rfl)
theorem dL_law_216 : decode cL_law 216 = .ok (.ireturn, 1) := dk_172 (dk_at dksL_law_6 5 rfl rfl)
theorem dL_law_217 : decode cL_law 217 = .ok (.goto 1338, 3) := dk_167 5 58 (dk_at dksL_law_6 6 rfl rfl)
theorem dL_law_220 : decode cL_law 220 = .ok (.aload_n 1, 1) := dk_43 (dk_at dksL_law_6 9 rfl rfl)
theorem dL_law_221 : decode cL_law 221 = .ok (.aload_n 0, 1) := dk_42 (dk_at dksL_law_6 10 rfl rfl)
theorem dL_law_222 : decode cL_law 222 = .ok (.iload 4, 2) := dk_21 4 (dk_at dksL_law_6 11 rfl rfl)
theorem dL_law_224 : decode cL_law 224 = .ok (.iconst 1, 1) := dk_4 (dk_at dksL_law_6 13 rfl rfl)
theorem dL_law_225 : decode cL_law 225 = .ok (.iadd, 1) := dk_96 (dk_at dksL_law_6 14 rfl rfl)
theorem dL_law_226 : decode cL_law 226 = .ok (.iaload, 1) := dk_46 (dk_at dksL_law_6 15 rfl rfl)
theorem dL_law_227 : decode cL_law 227 = .ok (.aload_n 0, 1) := dk_42 (dk_at dksL_law_6 16 rfl rfl)
theorem dL_law_228 : decode cL_law 228 = .ok (.iload 4, 2) := dk_21 4 (dk_at dksL_law_6 17 rfl rfl)
theorem dL_law_230 : decode cL_law 230 = .ok (.iconst 2, 1) := dk_5 (dk_at dksL_law_6 19 rfl rfl)
theorem dL_law_231 : decode cL_law 231 = .ok (.iadd, 1) := dk_96 (dk_at dksL_law_6 20 rfl rfl)
theorem dL_law_232 : decode cL_law 232 = .ok (.iaload, 1) := dk_46 (dk_at dksL_law_6 21 rfl rfl)
theorem dL_law_233 : decode cL_law 233 = .ok (.aload_n 3, 1) := dk_45 (dk_at dksL_law_6 22 rfl rfl)
theorem dL_law_234 : decode cL_law 234 = .ok (.invokestatic 93, 3) := dk_184 0 93 (dk_at dksL_law_7 0 rfl rfl)
theorem dL_law_237 : decode cL_law 237 = .ok (.istore 5, 2) := dk_54 5 (dk_at dksL_law_7 3 rfl rfl)
theorem dL_law_239 : decode cL_law 239 = .ok (.aload_n 2, 1) := dk_44 (dk_at dksL_law_7 5 rfl rfl)
theorem dL_law_240 : decode cL_law 240 = .ok (.aload_n 0, 1) := dk_42 (dk_at dksL_law_7 6 rfl rfl)
theorem dL_law_241 : decode cL_law 241 = .ok (.iload 4, 2) := dk_21 4 (dk_at dksL_law_7 7 rfl rfl)
theorem dL_law_243 : decode cL_law 243 = .ok (.iconst 1, 1) := dk_4 (dk_at dksL_law_7 9 rfl rfl)
theorem dL_law_244 : decode cL_law 244 = .ok (.iadd, 1) := dk_96 (dk_at dksL_law_7 10 rfl rfl)
theorem dL_law_245 : decode cL_law 245 = .ok (.iaload, 1) := dk_46 (dk_at dksL_law_7 11 rfl rfl)
theorem dL_law_246 : decode cL_law 246 = .ok (.aload_n 0, 1) := dk_42 (dk_at dksL_law_7 12 rfl rfl)
theorem dL_law_247 : decode cL_law 247 = .ok (.iload 4, 2) := dk_21 4 (dk_at dksL_law_7 13 rfl rfl)
theorem dL_law_249 : decode cL_law 249 = .ok (.iconst 2, 1) := dk_5 (dk_at dksL_law_7 15 rfl rfl)
theorem dL_law_250 : decode cL_law 250 = .ok (.iadd, 1) := dk_96 (dk_at dksL_law_7 16 rfl rfl)
theorem dL_law_251 : decode cL_law 251 = .ok (.iaload, 1) := dk_46 (dk_at dksL_law_7 17 rfl rfl)
theorem dL_law_252 : decode cL_law 252 = .ok (.invokevirtual 96, 3) := dk_182 0 96 (dk_at dksL_law_7 18 rfl rfl)
theorem dL_law_255 : decode cL_law 255 = .ok (.istore 6, 2) := dk_54 6 (dk_at dksL_law_7 21 rfl rfl)
theorem dL_law_257 : decode cL_law 257 = .ok (.aload_n 2, 1) := dk_44 (dk_at dksL_law_7 23 rfl rfl)
theorem dL_law_258 : decode cL_law 258 = .ok (.invokevirtual 89, 3) := dk_182 0 89 (dk_at dksL_law_8 0 rfl rfl)
theorem dL_law_261 : decode cL_law 261 = .ok (.iload 5, 2) := dk_21 5 (dk_at dksL_law_8 3 rfl rfl)
theorem dL_law_263 : decode cL_law 263 = .ok (.if_icmp .eq 5, 3) := dk_159 0 5 (dk_at dksL_law_8 5 rfl rfl)
theorem dL_law_266 : decode cL_law 266 = .ok (.iconst 0, 1) := dk_3 (dk_at dksL_law_8 8 rfl rfl)
theorem dL_law_267 : decode cL_law 267 = .ok (.ireturn, 1) := dk_172 (dk_at dksL_law_8 9 rfl rfl)
theorem dL_law_268 : decode cL_law 268 = .ok (.iload 5, 2) := dk_21 5 (dk_at dksL_law_8 10 rfl rfl)
theorem dL_law_270 : decode cL_law 270 = .ok (.ifCond .ne 15, 3) := dk_154 0 15 (dk_at dksL_law_8 12 rfl rfl)
theorem dL_law_273 : decode cL_law 273 = .ok (.aload_n 3, 1) := dk_45 (dk_at dksL_law_8 15 rfl rfl)
theorem dL_law_274 : decode cL_law 274 = .ok (.iconst 0, 1) := dk_3 (dk_at dksL_law_8 16 rfl rfl)
theorem dL_law_275 : decode cL_law 275 = .ok (.laload, 1) := dk_47 (dk_at dksL_law_8 17 rfl rfl)
theorem dL_law_276 : decode cL_law 276 = .ok (.iload 6, 2) := dk_21 6 (dk_at dksL_law_8 18 rfl rfl)
theorem dL_law_278 : decode cL_law 278 = .ok (.i2l, 1) := dk_133 (dk_at dksL_law_8 20 rfl rfl)
theorem dL_law_279 : decode cL_law 279 = .ok (.lcmp, 1) := dk_148 (dk_at dksL_law_8 21 rfl rfl)
theorem dL_law_280 : decode cL_law 280 = .ok (.ifCond .eq 5, 3) := dk_153 0 5 (dk_at dksL_law_9 0 rfl rfl)
theorem dL_law_283 : decode cL_law 283 = .ok (.iconst 0, 1) := dk_3 (dk_at dksL_law_9 3 rfl rfl)
theorem dL_law_284 : decode cL_law 284 = .ok (.ireturn, 1) := dk_172 (dk_at dksL_law_9 4 rfl rfl)
theorem dL_law_285 : decode cL_law 285 = .ok (.goto 1270, 3) := dk_167 4 246 (dk_at dksL_law_9 5 rfl rfl)
theorem dL_law_288 : decode cL_law 288 = .ok (.aload_n 1, 1) := dk_43 (dk_at dksL_law_9 8 rfl rfl)
theorem dL_law_289 : decode cL_law 289 = .ok (.aload_n 0, 1) := dk_42 (dk_at dksL_law_9 9 rfl rfl)
theorem dL_law_290 : decode cL_law 290 = .ok (.iload 4, 2) := dk_21 4 (dk_at dksL_law_9 10 rfl rfl)
theorem dL_law_292 : decode cL_law 292 = .ok (.iconst 1, 1) := dk_4 (dk_at dksL_law_9 12 rfl rfl)
theorem dL_law_293 : decode cL_law 293 = .ok (.iadd, 1) := dk_96 (dk_at dksL_law_9 13 rfl rfl)
theorem dL_law_294 : decode cL_law 294 = .ok (.iaload, 1) := dk_46 (dk_at dksL_law_9 14 rfl rfl)
theorem dL_law_295 : decode cL_law 295 = .ok (.aload_n 0, 1) := dk_42 (dk_at dksL_law_9 15 rfl rfl)
theorem dL_law_296 : decode cL_law 296 = .ok (.iload 4, 2) := dk_21 4 (dk_at dksL_law_9 16 rfl rfl)
theorem dL_law_298 : decode cL_law 298 = .ok (.iconst 2, 1) := dk_5 (dk_at dksL_law_9 18 rfl rfl)
theorem dL_law_299 : decode cL_law 299 = .ok (.iadd, 1) := dk_96 (dk_at dksL_law_9 19 rfl rfl)
theorem dL_law_300 : decode cL_law 300 = .ok (.iaload, 1) := dk_46 (dk_at dksL_law_9 20 rfl rfl)
theorem dL_law_301 : decode cL_law 301 = .ok (.aload_n 0, 1) := dk_42 (dk_at dksL_law_9 21 rfl rfl)
theorem dL_law_302 : decode cL_law 302 = .ok (.iload 4, 2) := dk_21 4 (dk_at dksL_law_9 22 rfl rfl)
theorem dL_law_304 : decode cL_law 304 = .ok (.iconst 3, 1) := dk_6 (dk_at dksL_law_10 0 rfl rfl)
theorem dL_law_305 : decode cL_law 305 = .ok (.iadd, 1) := dk_96 (dk_at dksL_law_10 1 rfl rfl)
theorem dL_law_306 : decode cL_law 306 = .ok (.iaload, 1) := dk_46 (dk_at dksL_law_10 2 rfl rfl)
theorem dL_law_307 : decode cL_law 307 = .ok (.aload_n 0, 1) := dk_42 (dk_at dksL_law_10 3 rfl rfl)
theorem dL_law_308 : decode cL_law 308 = .ok (.iload 4, 2) := dk_21 4 (dk_at dksL_law_10 4 rfl rfl)
theorem dL_law_310 : decode cL_law 310 = .ok (.iconst 4, 1) := dk_7 (dk_at dksL_law_10 6 rfl rfl)
theorem dL_law_311 : decode cL_law 311 = .ok (.iadd, 1) := dk_96 (dk_at dksL_law_10 7 rfl rfl)
theorem dL_law_312 : decode cL_law 312 = .ok (.iaload, 1) := dk_46 (dk_at dksL_law_10 8 rfl rfl)
theorem dL_law_313 : decode cL_law 313 = .ok (.aload_n 3, 1) := dk_45 (dk_at dksL_law_10 9 rfl rfl)
theorem dL_law_314 : decode cL_law 314 = .ok (.invokestatic 97, 3) := dk_184 0 97 (dk_at dksL_law_10 10 rfl rfl)
theorem dL_law_317 : decode cL_law 317 = .ok (.istore 5, 2) := dk_54 5 (dk_at dksL_law_10 13 rfl rfl)
theorem dL_law_319 : decode cL_law 319 = .ok (.aload_n 2, 1) := dk_44 (dk_at dksL_law_10 15 rfl rfl)
theorem dL_law_320 : decode cL_law 320 = .ok (.aload_n 0, 1) := dk_42 (dk_at dksL_law_10 16 rfl rfl)
theorem dL_law_321 : decode cL_law 321 = .ok (.iload 4, 2) := dk_21 4 (dk_at dksL_law_10 17 rfl rfl)
theorem dL_law_323 : decode cL_law 323 = .ok (.iconst 1, 1) := dk_4 (dk_at dksL_law_10 19 rfl rfl)
theorem dL_law_324 : decode cL_law 324 = .ok (.iadd, 1) := dk_96 (dk_at dksL_law_10 20 rfl rfl)
theorem dL_law_325 : decode cL_law 325 = .ok (.iaload, 1) := dk_46 (dk_at dksL_law_10 21 rfl rfl)
theorem dL_law_326 : decode cL_law 326 = .ok (.aload_n 0, 1) := dk_42 (dk_at dksL_law_10 22 rfl rfl)
theorem dL_law_327 : decode cL_law 327 = .ok (.iload 4, 2) := dk_21 4 (dk_at dksL_law_11 0 rfl rfl)
theorem dL_law_329 : decode cL_law 329 = .ok (.iconst 2, 1) := dk_5 (dk_at dksL_law_11 2 rfl rfl)
theorem dL_law_330 : decode cL_law 330 = .ok (.iadd, 1) := dk_96 (dk_at dksL_law_11 3 rfl rfl)
theorem dL_law_331 : decode cL_law 331 = .ok (.iaload, 1) := dk_46 (dk_at dksL_law_11 4 rfl rfl)
theorem dL_law_332 : decode cL_law 332 = .ok (.aload_n 0, 1) := dk_42 (dk_at dksL_law_11 5 rfl rfl)
theorem dL_law_333 : decode cL_law 333 = .ok (.iload 4, 2) := dk_21 4 (dk_at dksL_law_11 6 rfl rfl)
theorem dL_law_335 : decode cL_law 335 = .ok (.iconst 3, 1) := dk_6 (dk_at dksL_law_11 8 rfl rfl)
theorem dL_law_336 : decode cL_law 336 = .ok (.iadd, 1) := dk_96 (dk_at dksL_law_11 9 rfl rfl)
theorem dL_law_337 : decode cL_law 337 = .ok (.iaload, 1) := dk_46 (dk_at dksL_law_11 10 rfl rfl)
theorem dL_law_338 : decode cL_law 338 = .ok (.aload_n 0, 1) := dk_42 (dk_at dksL_law_11 11 rfl rfl)
theorem dL_law_339 : decode cL_law 339 = .ok (.iload 4, 2) := dk_21 4 (dk_at dksL_law_11 12 rfl rfl)
theorem dL_law_341 : decode cL_law 341 = .ok (.iconst 4, 1) := dk_7 (dk_at dksL_law_11 14 rfl rfl)
theorem dL_law_342 : decode cL_law 342 = .ok (.iadd, 1) := dk_96 (dk_at dksL_law_11 15 rfl rfl)
theorem dL_law_343 : decode cL_law 343 = .ok (.iaload, 1) := dk_46 (dk_at dksL_law_11 16 rfl rfl)
theorem dL_law_344 : decode cL_law 344 = .ok (.invokevirtual 100, 3) := dk_182 0 100 (dk_at dksL_law_11 17 rfl rfl)
theorem dL_law_347 : decode cL_law 347 = .ok (.istore 6, 2) := dk_54 6 (dk_at dksL_law_11 20 rfl rfl)
theorem dL_law_349 : decode cL_law 349 = .ok (.aload_n 2, 1) := dk_44 (dk_at dksL_law_11 22 rfl rfl)
theorem dL_law_350 : decode cL_law 350 = .ok (.invokevirtual 89, 3) := dk_182 0 89 (dk_at dksL_law_12 0 rfl rfl)
theorem dL_law_353 : decode cL_law 353 = .ok (.iload 5, 2) := dk_21 5 (dk_at dksL_law_12 3 rfl rfl)
theorem dL_law_355 : decode cL_law 355 = .ok (.if_icmp .eq 5, 3) := dk_159 0 5 (dk_at dksL_law_12 5 rfl rfl)
theorem dL_law_358 : decode cL_law 358 = .ok (.iconst 0, 1) := dk_3 (dk_at dksL_law_12 8 rfl rfl)
theorem dL_law_359 : decode cL_law 359 = .ok (.ireturn, 1) := dk_172 (dk_at dksL_law_12 9 rfl rfl)
theorem dL_law_360 : decode cL_law 360 = .ok (.iload 5, 2) := dk_21 5 (dk_at dksL_law_12 10 rfl rfl)
theorem dL_law_362 : decode cL_law 362 = .ok (.ifCond .ne 15, 3) := dk_154 0 15 (dk_at dksL_law_12 12 rfl rfl)
theorem dL_law_365 : decode cL_law 365 = .ok (.aload_n 3, 1) := dk_45 (dk_at dksL_law_12 15 rfl rfl)
theorem dL_law_366 : decode cL_law 366 = .ok (.iconst 0, 1) := dk_3 (dk_at dksL_law_12 16 rfl rfl)
theorem dL_law_367 : decode cL_law 367 = .ok (.laload, 1) := dk_47 (dk_at dksL_law_12 17 rfl rfl)
theorem dL_law_368 : decode cL_law 368 = .ok (.iload 6, 2) := dk_21 6 (dk_at dksL_law_12 18 rfl rfl)
theorem dL_law_370 : decode cL_law 370 = .ok (.i2l, 1) := dk_133 (dk_at dksL_law_12 20 rfl rfl)
theorem dL_law_371 : decode cL_law 371 = .ok (.lcmp, 1) := dk_148 (dk_at dksL_law_12 21 rfl rfl)
theorem dL_law_372 : decode cL_law 372 = .ok (.ifCond .eq 5, 3) := dk_153 0 5 (dk_at dksL_law_13 0 rfl rfl)
theorem dL_law_375 : decode cL_law 375 = .ok (.iconst 0, 1) := dk_3 (dk_at dksL_law_13 3 rfl rfl)
theorem dL_law_376 : decode cL_law 376 = .ok (.ireturn, 1) := dk_172 (dk_at dksL_law_13 4 rfl rfl)
theorem dL_law_377 : decode cL_law 377 = .ok (.goto 1178, 3) := dk_167 4 154 (dk_at dksL_law_13 5 rfl rfl)
theorem dL_law_380 : decode cL_law 380 = .ok (.aload_n 1, 1) := dk_43 (dk_at dksL_law_13 8 rfl rfl)
theorem dL_law_381 : decode cL_law 381 = .ok (.aload_n 0, 1) := dk_42 (dk_at dksL_law_13 9 rfl rfl)
theorem dL_law_382 : decode cL_law 382 = .ok (.iload 4, 2) := dk_21 4 (dk_at dksL_law_13 10 rfl rfl)
theorem dL_law_384 : decode cL_law 384 = .ok (.iconst 1, 1) := dk_4 (dk_at dksL_law_13 12 rfl rfl)
theorem dL_law_385 : decode cL_law 385 = .ok (.iadd, 1) := dk_96 (dk_at dksL_law_13 13 rfl rfl)
theorem dL_law_386 : decode cL_law 386 = .ok (.iaload, 1) := dk_46 (dk_at dksL_law_13 14 rfl rfl)
theorem dL_law_387 : decode cL_law 387 = .ok (.aload_n 0, 1) := dk_42 (dk_at dksL_law_13 15 rfl rfl)
theorem dL_law_388 : decode cL_law 388 = .ok (.iload 4, 2) := dk_21 4 (dk_at dksL_law_13 16 rfl rfl)
theorem dL_law_390 : decode cL_law 390 = .ok (.iconst 2, 1) := dk_5 (dk_at dksL_law_13 18 rfl rfl)
theorem dL_law_391 : decode cL_law 391 = .ok (.iadd, 1) := dk_96 (dk_at dksL_law_13 19 rfl rfl)
theorem dL_law_392 : decode cL_law 392 = .ok (.iaload, 1) := dk_46 (dk_at dksL_law_13 20 rfl rfl)
theorem dL_law_393 : decode cL_law 393 = .ok (.aload_n 0, 1) := dk_42 (dk_at dksL_law_13 21 rfl rfl)
theorem dL_law_394 : decode cL_law 394 = .ok (.iload 4, 2) := dk_21 4 (dk_at dksL_law_13 22 rfl rfl)
theorem dL_law_396 : decode cL_law 396 = .ok (.iconst 3, 1) := dk_6 (dk_at dksL_law_14 0 rfl rfl)
theorem dL_law_397 : decode cL_law 397 = .ok (.iadd, 1) := dk_96 (dk_at dksL_law_14 1 rfl rfl)
theorem dL_law_398 : decode cL_law 398 = .ok (.iaload, 1) := dk_46 (dk_at dksL_law_14 2 rfl rfl)
theorem dL_law_399 : decode cL_law 399 = .ok (.aload_n 3, 1) := dk_45 (dk_at dksL_law_14 3 rfl rfl)
theorem dL_law_400 : decode cL_law 400 = .ok (.invokestatic 101, 3) := dk_184 0 101 (dk_at dksL_law_14 4 rfl rfl)
theorem dL_law_403 : decode cL_law 403 = .ok (.istore 5, 2) := dk_54 5 (dk_at dksL_law_14 7 rfl rfl)
theorem dL_law_405 : decode cL_law 405 = .ok (.aload_n 2, 1) := dk_44 (dk_at dksL_law_14 9 rfl rfl)
theorem dL_law_406 : decode cL_law 406 = .ok (.aload_n 0, 1) := dk_42 (dk_at dksL_law_14 10 rfl rfl)
theorem dL_law_407 : decode cL_law 407 = .ok (.iload 4, 2) := dk_21 4 (dk_at dksL_law_14 11 rfl rfl)
theorem dL_law_409 : decode cL_law 409 = .ok (.iconst 1, 1) := dk_4 (dk_at dksL_law_14 13 rfl rfl)
theorem dL_law_410 : decode cL_law 410 = .ok (.iadd, 1) := dk_96 (dk_at dksL_law_14 14 rfl rfl)
theorem dL_law_411 : decode cL_law 411 = .ok (.iaload, 1) := dk_46 (dk_at dksL_law_14 15 rfl rfl)
theorem dL_law_412 : decode cL_law 412 = .ok (.aload_n 0, 1) := dk_42 (dk_at dksL_law_14 16 rfl rfl)
theorem dL_law_413 : decode cL_law 413 = .ok (.iload 4, 2) := dk_21 4 (dk_at dksL_law_14 17 rfl rfl)
theorem dL_law_415 : decode cL_law 415 = .ok (.iconst 2, 1) := dk_5 (dk_at dksL_law_14 19 rfl rfl)
theorem dL_law_416 : decode cL_law 416 = .ok (.iadd, 1) := dk_96 (dk_at dksL_law_14 20 rfl rfl)
theorem dL_law_417 : decode cL_law 417 = .ok (.iaload, 1) := dk_46 (dk_at dksL_law_14 21 rfl rfl)
theorem dL_law_418 : decode cL_law 418 = .ok (.aload_n 0, 1) := dk_42 (dk_at dksL_law_14 22 rfl rfl)
theorem dL_law_419 : decode cL_law 419 = .ok (.iload 4, 2) := dk_21 4 (dk_at dksL_law_15 0 rfl rfl)
theorem dL_law_421 : decode cL_law 421 = .ok (.iconst 3, 1) := dk_6 (dk_at dksL_law_15 2 rfl rfl)
theorem dL_law_422 : decode cL_law 422 = .ok (.iadd, 1) := dk_96 (dk_at dksL_law_15 3 rfl rfl)
theorem dL_law_423 : decode cL_law 423 = .ok (.iaload, 1) := dk_46 (dk_at dksL_law_15 4 rfl rfl)
theorem dL_law_424 : decode cL_law 424 = .ok (.invokevirtual 103, 3) := dk_182 0 103 (dk_at dksL_law_15 5 rfl rfl)
theorem dL_law_427 : decode cL_law 427 = .ok (.istore 6, 2) := dk_54 6 (dk_at dksL_law_15 8 rfl rfl)
theorem dL_law_429 : decode cL_law 429 = .ok (.aload_n 2, 1) := dk_44 (dk_at dksL_law_15 10 rfl rfl)
theorem dL_law_430 : decode cL_law 430 = .ok (.invokevirtual 89, 3) := dk_182 0 89 (dk_at dksL_law_15 11 rfl rfl)
theorem dL_law_433 : decode cL_law 433 = .ok (.iload 5, 2) := dk_21 5 (dk_at dksL_law_15 14 rfl rfl)
theorem dL_law_435 : decode cL_law 435 = .ok (.if_icmp .eq 5, 3) := dk_159 0 5 (dk_at dksL_law_15 16 rfl rfl)
theorem dL_law_438 : decode cL_law 438 = .ok (.iconst 0, 1) := dk_3 (dk_at dksL_law_15 19 rfl rfl)
theorem dL_law_439 : decode cL_law 439 = .ok (.ireturn, 1) := dk_172 (dk_at dksL_law_15 20 rfl rfl)
theorem dL_law_440 : decode cL_law 440 = .ok (.iload 5, 2) := dk_21 5 (dk_at dksL_law_15 21 rfl rfl)
theorem dL_law_442 : decode cL_law 442 = .ok (.ifCond .ne 15, 3) := dk_154 0 15 (dk_at dksL_law_16 0 rfl rfl)
theorem dL_law_445 : decode cL_law 445 = .ok (.aload_n 3, 1) := dk_45 (dk_at dksL_law_16 3 rfl rfl)
theorem dL_law_446 : decode cL_law 446 = .ok (.iconst 0, 1) := dk_3 (dk_at dksL_law_16 4 rfl rfl)
theorem dL_law_447 : decode cL_law 447 = .ok (.laload, 1) := dk_47 (dk_at dksL_law_16 5 rfl rfl)
theorem dL_law_448 : decode cL_law 448 = .ok (.iload 6, 2) := dk_21 6 (dk_at dksL_law_16 6 rfl rfl)
theorem dL_law_450 : decode cL_law 450 = .ok (.i2l, 1) := dk_133 (dk_at dksL_law_16 8 rfl rfl)
theorem dL_law_451 : decode cL_law 451 = .ok (.lcmp, 1) := dk_148 (dk_at dksL_law_16 9 rfl rfl)
theorem dL_law_452 : decode cL_law 452 = .ok (.ifCond .eq 5, 3) := dk_153 0 5 (dk_at dksL_law_16 10 rfl rfl)
theorem dL_law_455 : decode cL_law 455 = .ok (.iconst 0, 1) := dk_3 (dk_at dksL_law_16 13 rfl rfl)
theorem dL_law_456 : decode cL_law 456 = .ok (.ireturn, 1) := dk_172 (dk_at dksL_law_16 14 rfl rfl)
theorem dL_law_457 : decode cL_law 457 = .ok (.goto 1098, 3) := dk_167 4 74 (dk_at dksL_law_16 15 rfl rfl)
theorem dL_law_460 : decode cL_law 460 = .ok (.aload_n 1, 1) := dk_43 (dk_at dksL_law_16 18 rfl rfl)
theorem dL_law_461 : decode cL_law 461 = .ok (.aload_n 0, 1) := dk_42 (dk_at dksL_law_16 19 rfl rfl)
theorem dL_law_462 : decode cL_law 462 = .ok (.iload 4, 2) := dk_21 4 (dk_at dksL_law_16 20 rfl rfl)
theorem dL_law_464 : decode cL_law 464 = .ok (.iconst 1, 1) := dk_4 (dk_at dksL_law_16 22 rfl rfl)
theorem dL_law_465 : decode cL_law 465 = .ok (.iadd, 1) := dk_96 (dk_at dksL_law_16 23 rfl rfl)
theorem dL_law_466 : decode cL_law 466 = .ok (.iaload, 1) := dk_46 (dk_at dksL_law_17 0 rfl rfl)
theorem dL_law_467 : decode cL_law 467 = .ok (.aload_n 0, 1) := dk_42 (dk_at dksL_law_17 1 rfl rfl)
theorem dL_law_468 : decode cL_law 468 = .ok (.iload 4, 2) := dk_21 4 (dk_at dksL_law_17 2 rfl rfl)
theorem dL_law_470 : decode cL_law 470 = .ok (.iconst 2, 1) := dk_5 (dk_at dksL_law_17 4 rfl rfl)
theorem dL_law_471 : decode cL_law 471 = .ok (.iadd, 1) := dk_96 (dk_at dksL_law_17 5 rfl rfl)
theorem dL_law_472 : decode cL_law 472 = .ok (.iaload, 1) := dk_46 (dk_at dksL_law_17 6 rfl rfl)
theorem dL_law_473 : decode cL_law 473 = .ok (.aload_n 3, 1) := dk_45 (dk_at dksL_law_17 7 rfl rfl)
theorem dL_law_474 : decode cL_law 474 = .ok (.invokestatic 104, 3) := dk_184 0 104 (dk_at dksL_law_17 8 rfl rfl)
theorem dL_law_477 : decode cL_law 477 = .ok (.istore 5, 2) := dk_54 5 (dk_at dksL_law_17 11 rfl rfl)
theorem dL_law_479 : decode cL_law 479 = .ok (.aload_n 2, 1) := dk_44 (dk_at dksL_law_17 13 rfl rfl)
theorem dL_law_480 : decode cL_law 480 = .ok (.aload_n 0, 1) := dk_42 (dk_at dksL_law_17 14 rfl rfl)
theorem dL_law_481 : decode cL_law 481 = .ok (.iload 4, 2) := dk_21 4 (dk_at dksL_law_17 15 rfl rfl)
theorem dL_law_483 : decode cL_law 483 = .ok (.iconst 1, 1) := dk_4 (dk_at dksL_law_17 17 rfl rfl)
theorem dL_law_484 : decode cL_law 484 = .ok (.iadd, 1) := dk_96 (dk_at dksL_law_17 18 rfl rfl)
theorem dL_law_485 : decode cL_law 485 = .ok (.iaload, 1) := dk_46 (dk_at dksL_law_17 19 rfl rfl)
theorem dL_law_486 : decode cL_law 486 = .ok (.aload_n 0, 1) := dk_42 (dk_at dksL_law_17 20 rfl rfl)
theorem dL_law_487 : decode cL_law 487 = .ok (.iload 4, 2) := dk_21 4 (dk_at dksL_law_17 21 rfl rfl)
theorem dL_law_489 : decode cL_law 489 = .ok (.iconst 2, 1) := dk_5 (dk_at dksL_law_17 23 rfl rfl)
theorem dL_law_490 : decode cL_law 490 = .ok (.iadd, 1) := dk_96 (dk_at dksL_law_18 0 rfl rfl)
theorem dL_law_491 : decode cL_law 491 = .ok (.iaload, 1) := dk_46 (dk_at dksL_law_18 1 rfl rfl)
theorem dL_law_492 : decode cL_law 492 = .ok (.invokevirtual 106, 3) := dk_182 0 106 (dk_at dksL_law_18 2 rfl rfl)
theorem dL_law_495 : decode cL_law 495 = .ok (.istore 6, 2) := dk_54 6 (dk_at dksL_law_18 5 rfl rfl)
theorem dL_law_497 : decode cL_law 497 = .ok (.aload_n 2, 1) := dk_44 (dk_at dksL_law_18 7 rfl rfl)
theorem dL_law_498 : decode cL_law 498 = .ok (.invokevirtual 89, 3) := dk_182 0 89 (dk_at dksL_law_18 8 rfl rfl)
theorem dL_law_501 : decode cL_law 501 = .ok (.iload 5, 2) := dk_21 5 (dk_at dksL_law_18 11 rfl rfl)
theorem dL_law_503 : decode cL_law 503 = .ok (.if_icmp .eq 5, 3) := dk_159 0 5 (dk_at dksL_law_18 13 rfl rfl)
theorem dL_law_506 : decode cL_law 506 = .ok (.iconst 0, 1) := dk_3 (dk_at dksL_law_18 16 rfl rfl)
theorem dL_law_507 : decode cL_law 507 = .ok (.ireturn, 1) := dk_172 (dk_at dksL_law_18 17 rfl rfl)
theorem dL_law_508 : decode cL_law 508 = .ok (.iload 5, 2) := dk_21 5 (dk_at dksL_law_18 18 rfl rfl)
theorem dL_law_510 : decode cL_law 510 = .ok (.ifCond .ne 15, 3) := dk_154 0 15 (dk_at dksL_law_18 20 rfl rfl)
theorem dL_law_513 : decode cL_law 513 = .ok (.aload_n 3, 1) := dk_45 (dk_at dksL_law_18 23 rfl rfl)
theorem dL_law_514 : decode cL_law 514 = .ok (.iconst 0, 1) := dk_3 (dk_at dksL_law_19 0 rfl rfl)
theorem dL_law_515 : decode cL_law 515 = .ok (.laload, 1) := dk_47 (dk_at dksL_law_19 1 rfl rfl)
theorem dL_law_516 : decode cL_law 516 = .ok (.iload 6, 2) := dk_21 6 (dk_at dksL_law_19 2 rfl rfl)
theorem dL_law_518 : decode cL_law 518 = .ok (.i2l, 1) := dk_133 (dk_at dksL_law_19 4 rfl rfl)
theorem dL_law_519 : decode cL_law 519 = .ok (.lcmp, 1) := dk_148 (dk_at dksL_law_19 5 rfl rfl)
theorem dL_law_520 : decode cL_law 520 = .ok (.ifCond .eq 5, 3) := dk_153 0 5 (dk_at dksL_law_19 6 rfl rfl)
theorem dL_law_523 : decode cL_law 523 = .ok (.iconst 0, 1) := dk_3 (dk_at dksL_law_19 9 rfl rfl)
theorem dL_law_524 : decode cL_law 524 = .ok (.ireturn, 1) := dk_172 (dk_at dksL_law_19 10 rfl rfl)
theorem dL_law_525 : decode cL_law 525 = .ok (.goto 1030, 3) := dk_167 4 6 (dk_at dksL_law_19 11 rfl rfl)
theorem dL_law_528 : decode cL_law 528 = .ok (.aload_n 1, 1) := dk_43 (dk_at dksL_law_19 14 rfl rfl)
theorem dL_law_529 : decode cL_law 529 = .ok (.aload_n 0, 1) := dk_42 (dk_at dksL_law_19 15 rfl rfl)
theorem dL_law_530 : decode cL_law 530 = .ok (.iload 4, 2) := dk_21 4 (dk_at dksL_law_19 16 rfl rfl)
theorem dL_law_532 : decode cL_law 532 = .ok (.iconst 1, 1) := dk_4 (dk_at dksL_law_19 18 rfl rfl)
theorem dL_law_533 : decode cL_law 533 = .ok (.iadd, 1) := dk_96 (dk_at dksL_law_19 19 rfl rfl)
theorem dL_law_534 : decode cL_law 534 = .ok (.iaload, 1) := dk_46 (dk_at dksL_law_19 20 rfl rfl)
theorem dL_law_535 : decode cL_law 535 = .ok (.aload_n 0, 1) := dk_42 (dk_at dksL_law_19 21 rfl rfl)
theorem dL_law_536 : decode cL_law 536 = .ok (.iload 4, 2) := dk_21 4 (dk_at dksL_law_19 22 rfl rfl)
theorem dL_law_538 : decode cL_law 538 = .ok (.iconst 2, 1) := dk_5 (dk_at dksL_law_20 0 rfl rfl)
theorem dL_law_539 : decode cL_law 539 = .ok (.iadd, 1) := dk_96 (dk_at dksL_law_20 1 rfl rfl)
theorem dL_law_540 : decode cL_law 540 = .ok (.iaload, 1) := dk_46 (dk_at dksL_law_20 2 rfl rfl)
theorem dL_law_541 : decode cL_law 541 = .ok (.aload_n 0, 1) := dk_42 (dk_at dksL_law_20 3 rfl rfl)
theorem dL_law_542 : decode cL_law 542 = .ok (.iload 4, 2) := dk_21 4 (dk_at dksL_law_20 4 rfl rfl)
theorem dL_law_544 : decode cL_law 544 = .ok (.iconst 3, 1) := dk_6 (dk_at dksL_law_20 6 rfl rfl)
theorem dL_law_545 : decode cL_law 545 = .ok (.iadd, 1) := dk_96 (dk_at dksL_law_20 7 rfl rfl)
theorem dL_law_546 : decode cL_law 546 = .ok (.iaload, 1) := dk_46 (dk_at dksL_law_20 8 rfl rfl)
theorem dL_law_547 : decode cL_law 547 = .ok (.aload_n 3, 1) := dk_45 (dk_at dksL_law_20 9 rfl rfl)
theorem dL_law_548 : decode cL_law 548 = .ok (.invokestatic 107, 3) := dk_184 0 107 (dk_at dksL_law_20 10 rfl rfl)
theorem dL_law_551 : decode cL_law 551 = .ok (.istore 5, 2) := dk_54 5 (dk_at dksL_law_20 13 rfl rfl)
theorem dL_law_553 : decode cL_law 553 = .ok (.aload_n 2, 1) := dk_44 (dk_at dksL_law_20 15 rfl rfl)
theorem dL_law_554 : decode cL_law 554 = .ok (.aload_n 0, 1) := dk_42 (dk_at dksL_law_20 16 rfl rfl)
theorem dL_law_555 : decode cL_law 555 = .ok (.iload 4, 2) := dk_21 4 (dk_at dksL_law_20 17 rfl rfl)
theorem dL_law_557 : decode cL_law 557 = .ok (.iconst 1, 1) := dk_4 (dk_at dksL_law_20 19 rfl rfl)
theorem dL_law_558 : decode cL_law 558 = .ok (.iadd, 1) := dk_96 (dk_at dksL_law_20 20 rfl rfl)
theorem dL_law_559 : decode cL_law 559 = .ok (.iaload, 1) := dk_46 (dk_at dksL_law_20 21 rfl rfl)
theorem dL_law_560 : decode cL_law 560 = .ok (.aload_n 0, 1) := dk_42 (dk_at dksL_law_20 22 rfl rfl)
theorem dL_law_561 : decode cL_law 561 = .ok (.iload 4, 2) := dk_21 4 (dk_at dksL_law_21 0 rfl rfl)
theorem dL_law_563 : decode cL_law 563 = .ok (.iconst 2, 1) := dk_5 (dk_at dksL_law_21 2 rfl rfl)
theorem dL_law_564 : decode cL_law 564 = .ok (.iadd, 1) := dk_96 (dk_at dksL_law_21 3 rfl rfl)
theorem dL_law_565 : decode cL_law 565 = .ok (.iaload, 1) := dk_46 (dk_at dksL_law_21 4 rfl rfl)
theorem dL_law_566 : decode cL_law 566 = .ok (.aload_n 0, 1) := dk_42 (dk_at dksL_law_21 5 rfl rfl)
theorem dL_law_567 : decode cL_law 567 = .ok (.iload 4, 2) := dk_21 4 (dk_at dksL_law_21 6 rfl rfl)
theorem dL_law_569 : decode cL_law 569 = .ok (.iconst 3, 1) := dk_6 (dk_at dksL_law_21 8 rfl rfl)
theorem dL_law_570 : decode cL_law 570 = .ok (.iadd, 1) := dk_96 (dk_at dksL_law_21 9 rfl rfl)
theorem dL_law_571 : decode cL_law 571 = .ok (.iaload, 1) := dk_46 (dk_at dksL_law_21 10 rfl rfl)
theorem dL_law_572 : decode cL_law 572 = .ok (.invokevirtual 109, 3) := dk_182 0 109 (dk_at dksL_law_21 11 rfl rfl)
theorem dL_law_575 : decode cL_law 575 = .ok (.istore 6, 2) := dk_54 6 (dk_at dksL_law_21 14 rfl rfl)
theorem dL_law_577 : decode cL_law 577 = .ok (.aload_n 2, 1) := dk_44 (dk_at dksL_law_21 16 rfl rfl)
theorem dL_law_578 : decode cL_law 578 = .ok (.invokevirtual 89, 3) := dk_182 0 89 (dk_at dksL_law_21 17 rfl rfl)
theorem dL_law_581 : decode cL_law 581 = .ok (.iload 5, 2) := dk_21 5 (dk_at dksL_law_21 20 rfl rfl)
theorem dL_law_583 : decode cL_law 583 = .ok (.if_icmp .eq 5, 3) := dk_159 0 5 (dk_at dksL_law_22 0 rfl rfl)
theorem dL_law_586 : decode cL_law 586 = .ok (.iconst 0, 1) := dk_3 (dk_at dksL_law_22 3 rfl rfl)
theorem dL_law_587 : decode cL_law 587 = .ok (.ireturn, 1) := dk_172 (dk_at dksL_law_22 4 rfl rfl)
theorem dL_law_588 : decode cL_law 588 = .ok (.iload 5, 2) := dk_21 5 (dk_at dksL_law_22 5 rfl rfl)
theorem dL_law_590 : decode cL_law 590 = .ok (.ifCond .ne 15, 3) := dk_154 0 15 (dk_at dksL_law_22 7 rfl rfl)
theorem dL_law_593 : decode cL_law 593 = .ok (.aload_n 3, 1) := dk_45 (dk_at dksL_law_22 10 rfl rfl)
theorem dL_law_594 : decode cL_law 594 = .ok (.iconst 0, 1) := dk_3 (dk_at dksL_law_22 11 rfl rfl)
theorem dL_law_595 : decode cL_law 595 = .ok (.laload, 1) := dk_47 (dk_at dksL_law_22 12 rfl rfl)
theorem dL_law_596 : decode cL_law 596 = .ok (.iload 6, 2) := dk_21 6 (dk_at dksL_law_22 13 rfl rfl)
theorem dL_law_598 : decode cL_law 598 = .ok (.i2l, 1) := dk_133 (dk_at dksL_law_22 15 rfl rfl)
theorem dL_law_599 : decode cL_law 599 = .ok (.lcmp, 1) := dk_148 (dk_at dksL_law_22 16 rfl rfl)
theorem dL_law_600 : decode cL_law 600 = .ok (.ifCond .eq 5, 3) := dk_153 0 5 (dk_at dksL_law_22 17 rfl rfl)
theorem dL_law_603 : decode cL_law 603 = .ok (.iconst 0, 1) := dk_3 (dk_at dksL_law_22 20 rfl rfl)
theorem dL_law_604 : decode cL_law 604 = .ok (.ireturn, 1) := dk_172 (dk_at dksL_law_22 21 rfl rfl)
theorem dL_law_605 : decode cL_law 605 = .ok (.goto 950, 3) := dk_167 3 182 (dk_at dksL_law_23 0 rfl rfl)
theorem dL_law_608 : decode cL_law 608 = .ok (.aload_n 1, 1) := dk_43 (dk_at dksL_law_23 3 rfl rfl)
theorem dL_law_609 : decode cL_law 609 = .ok (.aload_n 0, 1) := dk_42 (dk_at dksL_law_23 4 rfl rfl)
theorem dL_law_610 : decode cL_law 610 = .ok (.iload 4, 2) := dk_21 4 (dk_at dksL_law_23 5 rfl rfl)
theorem dL_law_612 : decode cL_law 612 = .ok (.iconst 1, 1) := dk_4 (dk_at dksL_law_23 7 rfl rfl)
theorem dL_law_613 : decode cL_law 613 = .ok (.iadd, 1) := dk_96 (dk_at dksL_law_23 8 rfl rfl)
theorem dL_law_614 : decode cL_law 614 = .ok (.iaload, 1) := dk_46 (dk_at dksL_law_23 9 rfl rfl)
theorem dL_law_615 : decode cL_law 615 = .ok (.aload_n 0, 1) := dk_42 (dk_at dksL_law_23 10 rfl rfl)
theorem dL_law_616 : decode cL_law 616 = .ok (.iload 4, 2) := dk_21 4 (dk_at dksL_law_23 11 rfl rfl)
theorem dL_law_618 : decode cL_law 618 = .ok (.iconst 2, 1) := dk_5 (dk_at dksL_law_23 13 rfl rfl)
theorem dL_law_619 : decode cL_law 619 = .ok (.iadd, 1) := dk_96 (dk_at dksL_law_23 14 rfl rfl)
theorem dL_law_620 : decode cL_law 620 = .ok (.iaload, 1) := dk_46 (dk_at dksL_law_23 15 rfl rfl)
theorem dL_law_621 : decode cL_law 621 = .ok (.aload_n 3, 1) := dk_45 (dk_at dksL_law_23 16 rfl rfl)
theorem dL_law_622 : decode cL_law 622 = .ok (.invokestatic 110, 3) := dk_184 0 110 (dk_at dksL_law_23 17 rfl rfl)
theorem dL_law_625 : decode cL_law 625 = .ok (.istore 5, 2) := dk_54 5 (dk_at dksL_law_23 20 rfl rfl)
theorem dL_law_627 : decode cL_law 627 = .ok (.aload_n 2, 1) := dk_44 (dk_at dksL_law_23 22 rfl rfl)
theorem dL_law_628 : decode cL_law 628 = .ok (.aload_n 0, 1) := dk_42 (dk_at dksL_law_23 23 rfl rfl)
theorem dL_law_629 : decode cL_law 629 = .ok (.iload 4, 2) := dk_21 4 (dk_at dksL_law_24 0 rfl rfl)
theorem dL_law_631 : decode cL_law 631 = .ok (.iconst 1, 1) := dk_4 (dk_at dksL_law_24 2 rfl rfl)
theorem dL_law_632 : decode cL_law 632 = .ok (.iadd, 1) := dk_96 (dk_at dksL_law_24 3 rfl rfl)
theorem dL_law_633 : decode cL_law 633 = .ok (.iaload, 1) := dk_46 (dk_at dksL_law_24 4 rfl rfl)
theorem dL_law_634 : decode cL_law 634 = .ok (.aload_n 0, 1) := dk_42 (dk_at dksL_law_24 5 rfl rfl)
theorem dL_law_635 : decode cL_law 635 = .ok (.iload 4, 2) := dk_21 4 (dk_at dksL_law_24 6 rfl rfl)
theorem dL_law_637 : decode cL_law 637 = .ok (.iconst 2, 1) := dk_5 (dk_at dksL_law_24 8 rfl rfl)
theorem dL_law_638 : decode cL_law 638 = .ok (.iadd, 1) := dk_96 (dk_at dksL_law_24 9 rfl rfl)
theorem dL_law_639 : decode cL_law 639 = .ok (.iaload, 1) := dk_46 (dk_at dksL_law_24 10 rfl rfl)
theorem dL_law_640 : decode cL_law 640 = .ok (.invokevirtual 112, 3) := dk_182 0 112 (dk_at dksL_law_24 11 rfl rfl)
theorem dL_law_643 : decode cL_law 643 = .ok (.istore 6, 2) := dk_54 6 (dk_at dksL_law_24 14 rfl rfl)
theorem dL_law_645 : decode cL_law 645 = .ok (.aload_n 2, 1) := dk_44 (dk_at dksL_law_24 16 rfl rfl)
theorem dL_law_646 : decode cL_law 646 = .ok (.invokevirtual 89, 3) := dk_182 0 89 (dk_at dksL_law_24 17 rfl rfl)
theorem dL_law_649 : decode cL_law 649 = .ok (.iload 5, 2) := dk_21 5 (dk_at dksL_law_24 20 rfl rfl)
theorem dL_law_651 : decode cL_law 651 = .ok (.if_icmp .eq 5, 3) := dk_159 0 5 (dk_at dksL_law_25 0 rfl rfl)
theorem dL_law_654 : decode cL_law 654 = .ok (.iconst 0, 1) := dk_3 (dk_at dksL_law_25 3 rfl rfl)
theorem dL_law_655 : decode cL_law 655 = .ok (.ireturn, 1) := dk_172 (dk_at dksL_law_25 4 rfl rfl)
theorem dL_law_656 : decode cL_law 656 = .ok (.iload 5, 2) := dk_21 5 (dk_at dksL_law_25 5 rfl rfl)
theorem dL_law_658 : decode cL_law 658 = .ok (.ifCond .ne 15, 3) := dk_154 0 15 (dk_at dksL_law_25 7 rfl rfl)
theorem dL_law_661 : decode cL_law 661 = .ok (.aload_n 3, 1) := dk_45 (dk_at dksL_law_25 10 rfl rfl)
theorem dL_law_662 : decode cL_law 662 = .ok (.iconst 0, 1) := dk_3 (dk_at dksL_law_25 11 rfl rfl)
theorem dL_law_663 : decode cL_law 663 = .ok (.laload, 1) := dk_47 (dk_at dksL_law_25 12 rfl rfl)
theorem dL_law_664 : decode cL_law 664 = .ok (.iload 6, 2) := dk_21 6 (dk_at dksL_law_25 13 rfl rfl)
theorem dL_law_666 : decode cL_law 666 = .ok (.i2l, 1) := dk_133 (dk_at dksL_law_25 15 rfl rfl)
theorem dL_law_667 : decode cL_law 667 = .ok (.lcmp, 1) := dk_148 (dk_at dksL_law_25 16 rfl rfl)
theorem dL_law_668 : decode cL_law 668 = .ok (.ifCond .eq 5, 3) := dk_153 0 5 (dk_at dksL_law_25 17 rfl rfl)
theorem dL_law_671 : decode cL_law 671 = .ok (.iconst 0, 1) := dk_3 (dk_at dksL_law_25 20 rfl rfl)
theorem dL_law_672 : decode cL_law 672 = .ok (.ireturn, 1) := dk_172 (dk_at dksL_law_25 21 rfl rfl)
theorem dL_law_673 : decode cL_law 673 = .ok (.goto 882, 3) := dk_167 3 114 (dk_at dksL_law_26 0 rfl rfl)
theorem dL_law_676 : decode cL_law 676 = .ok (.aload_n 1, 1) := dk_43 (dk_at dksL_law_26 3 rfl rfl)
theorem dL_law_677 : decode cL_law 677 = .ok (.aload_n 0, 1) := dk_42 (dk_at dksL_law_26 4 rfl rfl)
theorem dL_law_678 : decode cL_law 678 = .ok (.iload 4, 2) := dk_21 4 (dk_at dksL_law_26 5 rfl rfl)
theorem dL_law_680 : decode cL_law 680 = .ok (.iconst 1, 1) := dk_4 (dk_at dksL_law_26 7 rfl rfl)
theorem dL_law_681 : decode cL_law 681 = .ok (.iadd, 1) := dk_96 (dk_at dksL_law_26 8 rfl rfl)
theorem dL_law_682 : decode cL_law 682 = .ok (.iaload, 1) := dk_46 (dk_at dksL_law_26 9 rfl rfl)
theorem dL_law_683 : decode cL_law 683 = .ok (.aload_n 3, 1) := dk_45 (dk_at dksL_law_26 10 rfl rfl)
theorem dL_law_684 : decode cL_law 684 = .ok (.invokestatic 113, 3) := dk_184 0 113 (dk_at dksL_law_26 11 rfl rfl)
theorem dL_law_687 : decode cL_law 687 = .ok (.istore 5, 2) := dk_54 5 (dk_at dksL_law_26 14 rfl rfl)
theorem dL_law_689 : decode cL_law 689 = .ok (.aload_n 2, 1) := dk_44 (dk_at dksL_law_26 16 rfl rfl)
theorem dL_law_690 : decode cL_law 690 = .ok (.aload_n 0, 1) := dk_42 (dk_at dksL_law_26 17 rfl rfl)
theorem dL_law_691 : decode cL_law 691 = .ok (.iload 4, 2) := dk_21 4 (dk_at dksL_law_26 18 rfl rfl)
theorem dL_law_693 : decode cL_law 693 = .ok (.iconst 1, 1) := dk_4 (dk_at dksL_law_26 20 rfl rfl)
theorem dL_law_694 : decode cL_law 694 = .ok (.iadd, 1) := dk_96 (dk_at dksL_law_26 21 rfl rfl)
theorem dL_law_695 : decode cL_law 695 = .ok (.iaload, 1) := dk_46 (dk_at dksL_law_26 22 rfl rfl)
theorem dL_law_696 : decode cL_law 696 = .ok (.invokevirtual 116, 3) := dk_182 0 116 (dk_at dksL_law_27 0 rfl rfl)
theorem dL_law_699 : decode cL_law 699 = .ok (.istore 6, 2) := dk_54 6 (dk_at dksL_law_27 3 rfl rfl)
theorem dL_law_701 : decode cL_law 701 = .ok (.aload_n 2, 1) := dk_44 (dk_at dksL_law_27 5 rfl rfl)
theorem dL_law_702 : decode cL_law 702 = .ok (.invokevirtual 89, 3) := dk_182 0 89 (dk_at dksL_law_27 6 rfl rfl)
theorem dL_law_705 : decode cL_law 705 = .ok (.iload 5, 2) := dk_21 5 (dk_at dksL_law_27 9 rfl rfl)
theorem dL_law_707 : decode cL_law 707 = .ok (.if_icmp .eq 5, 3) := dk_159 0 5 (dk_at dksL_law_27 11 rfl rfl)
theorem dL_law_710 : decode cL_law 710 = .ok (.iconst 0, 1) := dk_3 (dk_at dksL_law_27 14 rfl rfl)
theorem dL_law_711 : decode cL_law 711 = .ok (.ireturn, 1) := dk_172 (dk_at dksL_law_27 15 rfl rfl)
theorem dL_law_712 : decode cL_law 712 = .ok (.iload 5, 2) := dk_21 5 (dk_at dksL_law_27 16 rfl rfl)
theorem dL_law_714 : decode cL_law 714 = .ok (.ifCond .ne 15, 3) := dk_154 0 15 (dk_at dksL_law_27 18 rfl rfl)
theorem dL_law_717 : decode cL_law 717 = .ok (.aload_n 3, 1) := dk_45 (dk_at dksL_law_27 21 rfl rfl)
theorem dL_law_718 : decode cL_law 718 = .ok (.iconst 0, 1) := dk_3 (dk_at dksL_law_27 22 rfl rfl)
theorem dL_law_719 : decode cL_law 719 = .ok (.laload, 1) := dk_47 (dk_at dksL_law_27 23 rfl rfl)
theorem dL_law_720 : decode cL_law 720 = .ok (.iload 6, 2) := dk_21 6 (dk_at dksL_law_28 0 rfl rfl)
theorem dL_law_722 : decode cL_law 722 = .ok (.i2l, 1) := dk_133 (dk_at dksL_law_28 2 rfl rfl)
theorem dL_law_723 : decode cL_law 723 = .ok (.lcmp, 1) := dk_148 (dk_at dksL_law_28 3 rfl rfl)
theorem dL_law_724 : decode cL_law 724 = .ok (.ifCond .eq 5, 3) := dk_153 0 5 (dk_at dksL_law_28 4 rfl rfl)
theorem dL_law_727 : decode cL_law 727 = .ok (.iconst 0, 1) := dk_3 (dk_at dksL_law_28 7 rfl rfl)
theorem dL_law_728 : decode cL_law 728 = .ok (.ireturn, 1) := dk_172 (dk_at dksL_law_28 8 rfl rfl)
theorem dL_law_729 : decode cL_law 729 = .ok (.goto 826, 3) := dk_167 3 58 (dk_at dksL_law_28 9 rfl rfl)
theorem dL_law_732 : decode cL_law 732 = .ok (.aload_n 1, 1) := dk_43 (dk_at dksL_law_28 12 rfl rfl)
theorem dL_law_733 : decode cL_law 733 = .ok (.aload_n 0, 1) := dk_42 (dk_at dksL_law_28 13 rfl rfl)
theorem dL_law_734 : decode cL_law 734 = .ok (.iload 4, 2) := dk_21 4 (dk_at dksL_law_28 14 rfl rfl)
theorem dL_law_736 : decode cL_law 736 = .ok (.iconst 1, 1) := dk_4 (dk_at dksL_law_28 16 rfl rfl)
theorem dL_law_737 : decode cL_law 737 = .ok (.iadd, 1) := dk_96 (dk_at dksL_law_28 17 rfl rfl)
theorem dL_law_738 : decode cL_law 738 = .ok (.iaload, 1) := dk_46 (dk_at dksL_law_28 18 rfl rfl)
theorem dL_law_739 : decode cL_law 739 = .ok (.aload_n 0, 1) := dk_42 (dk_at dksL_law_28 19 rfl rfl)
theorem dL_law_740 : decode cL_law 740 = .ok (.iload 4, 2) := dk_21 4 (dk_at dksL_law_28 20 rfl rfl)
theorem dL_law_742 : decode cL_law 742 = .ok (.iconst 2, 1) := dk_5 (dk_at dksL_law_28 22 rfl rfl)
theorem dL_law_743 : decode cL_law 743 = .ok (.iadd, 1) := dk_96 (dk_at dksL_law_28 23 rfl rfl)
theorem dL_law_744 : decode cL_law 744 = .ok (.iaload, 1) := dk_46 (dk_at dksL_law_29 0 rfl rfl)
theorem dL_law_745 : decode cL_law 745 = .ok (.aload_n 3, 1) := dk_45 (dk_at dksL_law_29 1 rfl rfl)
theorem dL_law_746 : decode cL_law 746 = .ok (.invokestatic 117, 3) := dk_184 0 117 (dk_at dksL_law_29 2 rfl rfl)
theorem dL_law_749 : decode cL_law 749 = .ok (.istore 5, 2) := dk_54 5 (dk_at dksL_law_29 5 rfl rfl)
theorem dL_law_751 : decode cL_law 751 = .ok (.aload_n 2, 1) := dk_44 (dk_at dksL_law_29 7 rfl rfl)
theorem dL_law_752 : decode cL_law 752 = .ok (.aload_n 0, 1) := dk_42 (dk_at dksL_law_29 8 rfl rfl)
theorem dL_law_753 : decode cL_law 753 = .ok (.iload 4, 2) := dk_21 4 (dk_at dksL_law_29 9 rfl rfl)
theorem dL_law_755 : decode cL_law 755 = .ok (.iconst 1, 1) := dk_4 (dk_at dksL_law_29 11 rfl rfl)
theorem dL_law_756 : decode cL_law 756 = .ok (.iadd, 1) := dk_96 (dk_at dksL_law_29 12 rfl rfl)
theorem dL_law_757 : decode cL_law 757 = .ok (.iaload, 1) := dk_46 (dk_at dksL_law_29 13 rfl rfl)
theorem dL_law_758 : decode cL_law 758 = .ok (.aload_n 0, 1) := dk_42 (dk_at dksL_law_29 14 rfl rfl)
theorem dL_law_759 : decode cL_law 759 = .ok (.iload 4, 2) := dk_21 4 (dk_at dksL_law_29 15 rfl rfl)
theorem dL_law_761 : decode cL_law 761 = .ok (.iconst 2, 1) := dk_5 (dk_at dksL_law_29 17 rfl rfl)
theorem dL_law_762 : decode cL_law 762 = .ok (.iadd, 1) := dk_96 (dk_at dksL_law_29 18 rfl rfl)
theorem dL_law_763 : decode cL_law 763 = .ok (.iaload, 1) := dk_46 (dk_at dksL_law_29 19 rfl rfl)
theorem dL_law_764 : decode cL_law 764 = .ok (.invokevirtual 119, 3) := dk_182 0 119 (dk_at dksL_law_29 20 rfl rfl)
theorem dL_law_767 : decode cL_law 767 = .ok (.istore 6, 2) := dk_54 6 (dk_at dksL_law_30 0 rfl rfl)
theorem dL_law_769 : decode cL_law 769 = .ok (.aload_n 2, 1) := dk_44 (dk_at dksL_law_30 2 rfl rfl)
theorem dL_law_770 : decode cL_law 770 = .ok (.invokevirtual 89, 3) := dk_182 0 89 (dk_at dksL_law_30 3 rfl rfl)
theorem dL_law_773 : decode cL_law 773 = .ok (.iload 5, 2) := dk_21 5 (dk_at dksL_law_30 6 rfl rfl)
theorem dL_law_775 : decode cL_law 775 = .ok (.if_icmp .eq 5, 3) := dk_159 0 5 (dk_at dksL_law_30 8 rfl rfl)
theorem dL_law_778 : decode cL_law 778 = .ok (.iconst 0, 1) := dk_3 (dk_at dksL_law_30 11 rfl rfl)
theorem dL_law_779 : decode cL_law 779 = .ok (.ireturn, 1) := dk_172 (dk_at dksL_law_30 12 rfl rfl)
theorem dL_law_780 : decode cL_law 780 = .ok (.iload 5, 2) := dk_21 5 (dk_at dksL_law_30 13 rfl rfl)
theorem dL_law_782 : decode cL_law 782 = .ok (.ifCond .ne 15, 3) := dk_154 0 15 (dk_at dksL_law_30 15 rfl rfl)
theorem dL_law_785 : decode cL_law 785 = .ok (.aload_n 3, 1) := dk_45 (dk_at dksL_law_30 18 rfl rfl)
theorem dL_law_786 : decode cL_law 786 = .ok (.iconst 0, 1) := dk_3 (dk_at dksL_law_30 19 rfl rfl)
theorem dL_law_787 : decode cL_law 787 = .ok (.laload, 1) := dk_47 (dk_at dksL_law_30 20 rfl rfl)
theorem dL_law_788 : decode cL_law 788 = .ok (.iload 6, 2) := dk_21 6 (dk_at dksL_law_30 21 rfl rfl)
theorem dL_law_790 : decode cL_law 790 = .ok (.i2l, 1) := dk_133 (dk_at dksL_law_30 23 rfl rfl)
theorem dL_law_791 : decode cL_law 791 = .ok (.lcmp, 1) := dk_148 (dk_at dksL_law_31 0 rfl rfl)
theorem dL_law_792 : decode cL_law 792 = .ok (.ifCond .eq 5, 3) := dk_153 0 5 (dk_at dksL_law_31 1 rfl rfl)
theorem dL_law_795 : decode cL_law 795 = .ok (.iconst 0, 1) := dk_3 (dk_at dksL_law_31 4 rfl rfl)
theorem dL_law_796 : decode cL_law 796 = .ok (.ireturn, 1) := dk_172 (dk_at dksL_law_31 5 rfl rfl)
theorem dL_law_797 : decode cL_law 797 = .ok (.goto 758, 3) := dk_167 2 246 (dk_at dksL_law_31 6 rfl rfl)
theorem dL_law_800 : decode cL_law 800 = .ok (.aload_n 1, 1) := dk_43 (dk_at dksL_law_31 9 rfl rfl)
theorem dL_law_801 : decode cL_law 801 = .ok (.aload_n 0, 1) := dk_42 (dk_at dksL_law_31 10 rfl rfl)
theorem dL_law_802 : decode cL_law 802 = .ok (.iload 4, 2) := dk_21 4 (dk_at dksL_law_31 11 rfl rfl)
theorem dL_law_804 : decode cL_law 804 = .ok (.iconst 1, 1) := dk_4 (dk_at dksL_law_31 13 rfl rfl)
theorem dL_law_805 : decode cL_law 805 = .ok (.iadd, 1) := dk_96 (dk_at dksL_law_31 14 rfl rfl)
theorem dL_law_806 : decode cL_law 806 = .ok (.iaload, 1) := dk_46 (dk_at dksL_law_31 15 rfl rfl)
theorem dL_law_807 : decode cL_law 807 = .ok (.aload_n 0, 1) := dk_42 (dk_at dksL_law_31 16 rfl rfl)
theorem dL_law_808 : decode cL_law 808 = .ok (.iload 4, 2) := dk_21 4 (dk_at dksL_law_31 17 rfl rfl)
theorem dL_law_810 : decode cL_law 810 = .ok (.iconst 2, 1) := dk_5 (dk_at dksL_law_31 19 rfl rfl)
theorem dL_law_811 : decode cL_law 811 = .ok (.iadd, 1) := dk_96 (dk_at dksL_law_31 20 rfl rfl)
theorem dL_law_812 : decode cL_law 812 = .ok (.iaload, 1) := dk_46 (dk_at dksL_law_31 21 rfl rfl)
theorem dL_law_813 : decode cL_law 813 = .ok (.aload_n 3, 1) := dk_45 (dk_at dksL_law_31 22 rfl rfl)
theorem dL_law_814 : decode cL_law 814 = .ok (.invokestatic 120, 3) := dk_184 0 120 (dk_at dksL_law_32 0 rfl rfl)
theorem dL_law_817 : decode cL_law 817 = .ok (.istore 5, 2) := dk_54 5 (dk_at dksL_law_32 3 rfl rfl)
theorem dL_law_819 : decode cL_law 819 = .ok (.aload_n 2, 1) := dk_44 (dk_at dksL_law_32 5 rfl rfl)
theorem dL_law_820 : decode cL_law 820 = .ok (.aload_n 0, 1) := dk_42 (dk_at dksL_law_32 6 rfl rfl)
theorem dL_law_821 : decode cL_law 821 = .ok (.iload 4, 2) := dk_21 4 (dk_at dksL_law_32 7 rfl rfl)
theorem dL_law_823 : decode cL_law 823 = .ok (.iconst 1, 1) := dk_4 (dk_at dksL_law_32 9 rfl rfl)
theorem dL_law_824 : decode cL_law 824 = .ok (.iadd, 1) := dk_96 (dk_at dksL_law_32 10 rfl rfl)
theorem dL_law_825 : decode cL_law 825 = .ok (.iaload, 1) := dk_46 (dk_at dksL_law_32 11 rfl rfl)
theorem dL_law_826 : decode cL_law 826 = .ok (.aload_n 0, 1) := dk_42 (dk_at dksL_law_32 12 rfl rfl)
theorem dL_law_827 : decode cL_law 827 = .ok (.iload 4, 2) := dk_21 4 (dk_at dksL_law_32 13 rfl rfl)
theorem dL_law_829 : decode cL_law 829 = .ok (.iconst 2, 1) := dk_5 (dk_at dksL_law_32 15 rfl rfl)
theorem dL_law_830 : decode cL_law 830 = .ok (.iadd, 1) := dk_96 (dk_at dksL_law_32 16 rfl rfl)
theorem dL_law_831 : decode cL_law 831 = .ok (.iaload, 1) := dk_46 (dk_at dksL_law_32 17 rfl rfl)
theorem dL_law_832 : decode cL_law 832 = .ok (.invokevirtual 122, 3) := dk_182 0 122 (dk_at dksL_law_32 18 rfl rfl)
theorem dL_law_835 : decode cL_law 835 = .ok (.istore 6, 2) := dk_54 6 (dk_at dksL_law_32 21 rfl rfl)
theorem dL_law_837 : decode cL_law 837 = .ok (.aload_n 2, 1) := dk_44 (dk_at dksL_law_32 23 rfl rfl)
theorem dL_law_838 : decode cL_law 838 = .ok (.invokevirtual 89, 3) := dk_182 0 89 (dk_at dksL_law_33 0 rfl rfl)
theorem dL_law_841 : decode cL_law 841 = .ok (.iload 5, 2) := dk_21 5 (dk_at dksL_law_33 3 rfl rfl)
theorem dL_law_843 : decode cL_law 843 = .ok (.if_icmp .eq 5, 3) := dk_159 0 5 (dk_at dksL_law_33 5 rfl rfl)
theorem dL_law_846 : decode cL_law 846 = .ok (.iconst 0, 1) := dk_3 (dk_at dksL_law_33 8 rfl rfl)
theorem dL_law_847 : decode cL_law 847 = .ok (.ireturn, 1) := dk_172 (dk_at dksL_law_33 9 rfl rfl)
theorem dL_law_848 : decode cL_law 848 = .ok (.iload 5, 2) := dk_21 5 (dk_at dksL_law_33 10 rfl rfl)
theorem dL_law_850 : decode cL_law 850 = .ok (.ifCond .ne 15, 3) := dk_154 0 15 (dk_at dksL_law_33 12 rfl rfl)
theorem dL_law_853 : decode cL_law 853 = .ok (.aload_n 3, 1) := dk_45 (dk_at dksL_law_33 15 rfl rfl)
theorem dL_law_854 : decode cL_law 854 = .ok (.iconst 0, 1) := dk_3 (dk_at dksL_law_33 16 rfl rfl)
theorem dL_law_855 : decode cL_law 855 = .ok (.laload, 1) := dk_47 (dk_at dksL_law_33 17 rfl rfl)
theorem dL_law_856 : decode cL_law 856 = .ok (.iload 6, 2) := dk_21 6 (dk_at dksL_law_33 18 rfl rfl)
theorem dL_law_858 : decode cL_law 858 = .ok (.i2l, 1) := dk_133 (dk_at dksL_law_33 20 rfl rfl)
theorem dL_law_859 : decode cL_law 859 = .ok (.lcmp, 1) := dk_148 (dk_at dksL_law_33 21 rfl rfl)
theorem dL_law_860 : decode cL_law 860 = .ok (.ifCond .eq 5, 3) := dk_153 0 5 (dk_at dksL_law_34 0 rfl rfl)
theorem dL_law_863 : decode cL_law 863 = .ok (.iconst 0, 1) := dk_3 (dk_at dksL_law_34 3 rfl rfl)
theorem dL_law_864 : decode cL_law 864 = .ok (.ireturn, 1) := dk_172 (dk_at dksL_law_34 4 rfl rfl)
theorem dL_law_865 : decode cL_law 865 = .ok (.goto 690, 3) := dk_167 2 178 (dk_at dksL_law_34 5 rfl rfl)
theorem dL_law_868 : decode cL_law 868 = .ok (.aload_n 1, 1) := dk_43 (dk_at dksL_law_34 8 rfl rfl)
theorem dL_law_869 : decode cL_law 869 = .ok (.aload_n 0, 1) := dk_42 (dk_at dksL_law_34 9 rfl rfl)
theorem dL_law_870 : decode cL_law 870 = .ok (.iload 4, 2) := dk_21 4 (dk_at dksL_law_34 10 rfl rfl)
theorem dL_law_872 : decode cL_law 872 = .ok (.iconst 1, 1) := dk_4 (dk_at dksL_law_34 12 rfl rfl)
theorem dL_law_873 : decode cL_law 873 = .ok (.iadd, 1) := dk_96 (dk_at dksL_law_34 13 rfl rfl)
theorem dL_law_874 : decode cL_law 874 = .ok (.iaload, 1) := dk_46 (dk_at dksL_law_34 14 rfl rfl)
theorem dL_law_875 : decode cL_law 875 = .ok (.aload_n 0, 1) := dk_42 (dk_at dksL_law_34 15 rfl rfl)
theorem dL_law_876 : decode cL_law 876 = .ok (.iload 4, 2) := dk_21 4 (dk_at dksL_law_34 16 rfl rfl)
theorem dL_law_878 : decode cL_law 878 = .ok (.iconst 2, 1) := dk_5 (dk_at dksL_law_34 18 rfl rfl)
theorem dL_law_879 : decode cL_law 879 = .ok (.iadd, 1) := dk_96 (dk_at dksL_law_34 19 rfl rfl)
theorem dL_law_880 : decode cL_law 880 = .ok (.iaload, 1) := dk_46 (dk_at dksL_law_34 20 rfl rfl)
theorem dL_law_881 : decode cL_law 881 = .ok (.aload_n 3, 1) := dk_45 (dk_at dksL_law_34 21 rfl rfl)
theorem dL_law_882 : decode cL_law 882 = .ok (.invokestatic 123, 3) := dk_184 0 123 (dk_at dksL_law_35 0 rfl rfl)
theorem dL_law_885 : decode cL_law 885 = .ok (.istore 5, 2) := dk_54 5 (dk_at dksL_law_35 3 rfl rfl)
theorem dL_law_887 : decode cL_law 887 = .ok (.aload_n 2, 1) := dk_44 (dk_at dksL_law_35 5 rfl rfl)
theorem dL_law_888 : decode cL_law 888 = .ok (.aload_n 0, 1) := dk_42 (dk_at dksL_law_35 6 rfl rfl)
theorem dL_law_889 : decode cL_law 889 = .ok (.iload 4, 2) := dk_21 4 (dk_at dksL_law_35 7 rfl rfl)
theorem dL_law_891 : decode cL_law 891 = .ok (.iconst 1, 1) := dk_4 (dk_at dksL_law_35 9 rfl rfl)
theorem dL_law_892 : decode cL_law 892 = .ok (.iadd, 1) := dk_96 (dk_at dksL_law_35 10 rfl rfl)
theorem dL_law_893 : decode cL_law 893 = .ok (.iaload, 1) := dk_46 (dk_at dksL_law_35 11 rfl rfl)
theorem dL_law_894 : decode cL_law 894 = .ok (.aload_n 0, 1) := dk_42 (dk_at dksL_law_35 12 rfl rfl)
theorem dL_law_895 : decode cL_law 895 = .ok (.iload 4, 2) := dk_21 4 (dk_at dksL_law_35 13 rfl rfl)
theorem dL_law_897 : decode cL_law 897 = .ok (.iconst 2, 1) := dk_5 (dk_at dksL_law_35 15 rfl rfl)
theorem dL_law_898 : decode cL_law 898 = .ok (.iadd, 1) := dk_96 (dk_at dksL_law_35 16 rfl rfl)
theorem dL_law_899 : decode cL_law 899 = .ok (.iaload, 1) := dk_46 (dk_at dksL_law_35 17 rfl rfl)
theorem dL_law_900 : decode cL_law 900 = .ok (.invokevirtual 125, 3) := dk_182 0 125 (dk_at dksL_law_35 18 rfl rfl)
theorem dL_law_903 : decode cL_law 903 = .ok (.istore 6, 2) := dk_54 6 (dk_at dksL_law_35 21 rfl rfl)
theorem dL_law_905 : decode cL_law 905 = .ok (.aload_n 2, 1) := dk_44 (dk_at dksL_law_35 23 rfl rfl)
theorem dL_law_906 : decode cL_law 906 = .ok (.invokevirtual 89, 3) := dk_182 0 89 (dk_at dksL_law_36 0 rfl rfl)
theorem dL_law_909 : decode cL_law 909 = .ok (.iload 5, 2) := dk_21 5 (dk_at dksL_law_36 3 rfl rfl)
theorem dL_law_911 : decode cL_law 911 = .ok (.if_icmp .eq 5, 3) := dk_159 0 5 (dk_at dksL_law_36 5 rfl rfl)
theorem dL_law_914 : decode cL_law 914 = .ok (.iconst 0, 1) := dk_3 (dk_at dksL_law_36 8 rfl rfl)
theorem dL_law_915 : decode cL_law 915 = .ok (.ireturn, 1) := dk_172 (dk_at dksL_law_36 9 rfl rfl)
theorem dL_law_916 : decode cL_law 916 = .ok (.iload 5, 2) := dk_21 5 (dk_at dksL_law_36 10 rfl rfl)
theorem dL_law_918 : decode cL_law 918 = .ok (.ifCond .ne 15, 3) := dk_154 0 15 (dk_at dksL_law_36 12 rfl rfl)
theorem dL_law_921 : decode cL_law 921 = .ok (.aload_n 3, 1) := dk_45 (dk_at dksL_law_36 15 rfl rfl)
theorem dL_law_922 : decode cL_law 922 = .ok (.iconst 0, 1) := dk_3 (dk_at dksL_law_36 16 rfl rfl)
theorem dL_law_923 : decode cL_law 923 = .ok (.laload, 1) := dk_47 (dk_at dksL_law_36 17 rfl rfl)
theorem dL_law_924 : decode cL_law 924 = .ok (.iload 6, 2) := dk_21 6 (dk_at dksL_law_36 18 rfl rfl)
theorem dL_law_926 : decode cL_law 926 = .ok (.i2l, 1) := dk_133 (dk_at dksL_law_36 20 rfl rfl)
theorem dL_law_927 : decode cL_law 927 = .ok (.lcmp, 1) := dk_148 (dk_at dksL_law_36 21 rfl rfl)
theorem dL_law_928 : decode cL_law 928 = .ok (.ifCond .eq 5, 3) := dk_153 0 5 (dk_at dksL_law_37 0 rfl rfl)
theorem dL_law_931 : decode cL_law 931 = .ok (.iconst 0, 1) := dk_3 (dk_at dksL_law_37 3 rfl rfl)
theorem dL_law_932 : decode cL_law 932 = .ok (.ireturn, 1) := dk_172 (dk_at dksL_law_37 4 rfl rfl)
theorem dL_law_933 : decode cL_law 933 = .ok (.goto 622, 3) := dk_167 2 110 (dk_at dksL_law_37 5 rfl rfl)
theorem dL_law_936 : decode cL_law 936 = .ok (.aload_n 1, 1) := dk_43 (dk_at dksL_law_37 8 rfl rfl)
theorem dL_law_937 : decode cL_law 937 = .ok (.aload_n 0, 1) := dk_42 (dk_at dksL_law_37 9 rfl rfl)
theorem dL_law_938 : decode cL_law 938 = .ok (.iload 4, 2) := dk_21 4 (dk_at dksL_law_37 10 rfl rfl)
theorem dL_law_940 : decode cL_law 940 = .ok (.iconst 1, 1) := dk_4 (dk_at dksL_law_37 12 rfl rfl)
theorem dL_law_941 : decode cL_law 941 = .ok (.iadd, 1) := dk_96 (dk_at dksL_law_37 13 rfl rfl)
theorem dL_law_942 : decode cL_law 942 = .ok (.iaload, 1) := dk_46 (dk_at dksL_law_37 14 rfl rfl)
theorem dL_law_943 : decode cL_law 943 = .ok (.aload_n 0, 1) := dk_42 (dk_at dksL_law_37 15 rfl rfl)
theorem dL_law_944 : decode cL_law 944 = .ok (.iload 4, 2) := dk_21 4 (dk_at dksL_law_37 16 rfl rfl)
theorem dL_law_946 : decode cL_law 946 = .ok (.iconst 2, 1) := dk_5 (dk_at dksL_law_37 18 rfl rfl)
theorem dL_law_947 : decode cL_law 947 = .ok (.iadd, 1) := dk_96 (dk_at dksL_law_37 19 rfl rfl)
theorem dL_law_948 : decode cL_law 948 = .ok (.iaload, 1) := dk_46 (dk_at dksL_law_37 20 rfl rfl)
theorem dL_law_949 : decode cL_law 949 = .ok (.aload_n 0, 1) := dk_42 (dk_at dksL_law_37 21 rfl rfl)
theorem dL_law_950 : decode cL_law 950 = .ok (.iload 4, 2) := dk_21 4 (dk_at dksL_law_37 22 rfl rfl)
theorem dL_law_952 : decode cL_law 952 = .ok (.iconst 3, 1) := dk_6 (dk_at dksL_law_38 0 rfl rfl)
theorem dL_law_953 : decode cL_law 953 = .ok (.iadd, 1) := dk_96 (dk_at dksL_law_38 1 rfl rfl)
theorem dL_law_954 : decode cL_law 954 = .ok (.iaload, 1) := dk_46 (dk_at dksL_law_38 2 rfl rfl)
theorem dL_law_955 : decode cL_law 955 = .ok (.aload_n 0, 1) := dk_42 (dk_at dksL_law_38 3 rfl rfl)
theorem dL_law_956 : decode cL_law 956 = .ok (.iload 4, 2) := dk_21 4 (dk_at dksL_law_38 4 rfl rfl)
theorem dL_law_958 : decode cL_law 958 = .ok (.iconst 4, 1) := dk_7 (dk_at dksL_law_38 6 rfl rfl)
theorem dL_law_959 : decode cL_law 959 = .ok (.iadd, 1) := dk_96 (dk_at dksL_law_38 7 rfl rfl)
theorem dL_law_960 : decode cL_law 960 = .ok (.iaload, 1) := dk_46 (dk_at dksL_law_38 8 rfl rfl)
theorem dL_law_961 : decode cL_law 961 = .ok (.aload_n 3, 1) := dk_45 (dk_at dksL_law_38 9 rfl rfl)
theorem dL_law_962 : decode cL_law 962 = .ok (.invokestatic 126, 3) := dk_184 0 126 (dk_at dksL_law_38 10 rfl rfl)
theorem dL_law_965 : decode cL_law 965 = .ok (.istore 5, 2) := dk_54 5 (dk_at dksL_law_38 13 rfl rfl)
theorem dL_law_967 : decode cL_law 967 = .ok (.aload_n 2, 1) := dk_44 (dk_at dksL_law_38 15 rfl rfl)
theorem dL_law_968 : decode cL_law 968 = .ok (.aload_n 0, 1) := dk_42 (dk_at dksL_law_38 16 rfl rfl)
theorem dL_law_969 : decode cL_law 969 = .ok (.iload 4, 2) := dk_21 4 (dk_at dksL_law_38 17 rfl rfl)
theorem dL_law_971 : decode cL_law 971 = .ok (.iconst 1, 1) := dk_4 (dk_at dksL_law_38 19 rfl rfl)
theorem dL_law_972 : decode cL_law 972 = .ok (.iadd, 1) := dk_96 (dk_at dksL_law_38 20 rfl rfl)
theorem dL_law_973 : decode cL_law 973 = .ok (.iaload, 1) := dk_46 (dk_at dksL_law_38 21 rfl rfl)
theorem dL_law_974 : decode cL_law 974 = .ok (.aload_n 0, 1) := dk_42 (dk_at dksL_law_38 22 rfl rfl)
theorem dL_law_975 : decode cL_law 975 = .ok (.iload 4, 2) := dk_21 4 (dk_at dksL_law_39 0 rfl rfl)
theorem dL_law_977 : decode cL_law 977 = .ok (.iconst 2, 1) := dk_5 (dk_at dksL_law_39 2 rfl rfl)
theorem dL_law_978 : decode cL_law 978 = .ok (.iadd, 1) := dk_96 (dk_at dksL_law_39 3 rfl rfl)
theorem dL_law_979 : decode cL_law 979 = .ok (.iaload, 1) := dk_46 (dk_at dksL_law_39 4 rfl rfl)
theorem dL_law_980 : decode cL_law 980 = .ok (.aload_n 0, 1) := dk_42 (dk_at dksL_law_39 5 rfl rfl)
theorem dL_law_981 : decode cL_law 981 = .ok (.iload 4, 2) := dk_21 4 (dk_at dksL_law_39 6 rfl rfl)
theorem dL_law_983 : decode cL_law 983 = .ok (.iconst 3, 1) := dk_6 (dk_at dksL_law_39 8 rfl rfl)
theorem dL_law_984 : decode cL_law 984 = .ok (.iadd, 1) := dk_96 (dk_at dksL_law_39 9 rfl rfl)
theorem dL_law_985 : decode cL_law 985 = .ok (.iaload, 1) := dk_46 (dk_at dksL_law_39 10 rfl rfl)
theorem dL_law_986 : decode cL_law 986 = .ok (.aload_n 0, 1) := dk_42 (dk_at dksL_law_39 11 rfl rfl)
theorem dL_law_987 : decode cL_law 987 = .ok (.iload 4, 2) := dk_21 4 (dk_at dksL_law_39 12 rfl rfl)
theorem dL_law_989 : decode cL_law 989 = .ok (.iconst 4, 1) := dk_7 (dk_at dksL_law_39 14 rfl rfl)
theorem dL_law_990 : decode cL_law 990 = .ok (.iadd, 1) := dk_96 (dk_at dksL_law_39 15 rfl rfl)
theorem dL_law_991 : decode cL_law 991 = .ok (.iaload, 1) := dk_46 (dk_at dksL_law_39 16 rfl rfl)
theorem dL_law_992 : decode cL_law 992 = .ok (.invokevirtual 128, 3) := dk_182 0 128 (dk_at dksL_law_39 17 rfl rfl)
theorem dL_law_995 : decode cL_law 995 = .ok (.istore 6, 2) := dk_54 6 (dk_at dksL_law_39 20 rfl rfl)
theorem dL_law_997 : decode cL_law 997 = .ok (.aload_n 2, 1) := dk_44 (dk_at dksL_law_39 22 rfl rfl)
theorem dL_law_998 : decode cL_law 998 = .ok (.invokevirtual 89, 3) := dk_182 0 89 (dk_at dksL_law_40 0 rfl rfl)
theorem dL_law_1001 : decode cL_law 1001 = .ok (.iload 5, 2) := dk_21 5 (dk_at dksL_law_40 3 rfl rfl)
theorem dL_law_1003 : decode cL_law 1003 = .ok (.if_icmp .eq 5, 3) := dk_159 0 5 (dk_at dksL_law_40 5 rfl rfl)
theorem dL_law_1006 : decode cL_law 1006 = .ok (.iconst 0, 1) := dk_3 (dk_at dksL_law_40 8 rfl rfl)
theorem dL_law_1007 : decode cL_law 1007 = .ok (.ireturn, 1) := dk_172 (dk_at dksL_law_40 9 rfl rfl)
theorem dL_law_1008 : decode cL_law 1008 = .ok (.iload 5, 2) := dk_21 5 (dk_at dksL_law_40 10 rfl rfl)
theorem dL_law_1010 : decode cL_law 1010 = .ok (.ifCond .ne 15, 3) := dk_154 0 15 (dk_at dksL_law_40 12 rfl rfl)
theorem dL_law_1013 : decode cL_law 1013 = .ok (.aload_n 3, 1) := dk_45 (dk_at dksL_law_40 15 rfl rfl)
theorem dL_law_1014 : decode cL_law 1014 = .ok (.iconst 0, 1) := dk_3 (dk_at dksL_law_40 16 rfl rfl)
theorem dL_law_1015 : decode cL_law 1015 = .ok (.laload, 1) := dk_47 (dk_at dksL_law_40 17 rfl rfl)
theorem dL_law_1016 : decode cL_law 1016 = .ok (.iload 6, 2) := dk_21 6 (dk_at dksL_law_40 18 rfl rfl)
theorem dL_law_1018 : decode cL_law 1018 = .ok (.i2l, 1) := dk_133 (dk_at dksL_law_40 20 rfl rfl)
theorem dL_law_1019 : decode cL_law 1019 = .ok (.lcmp, 1) := dk_148 (dk_at dksL_law_40 21 rfl rfl)
theorem dL_law_1020 : decode cL_law 1020 = .ok (.ifCond .eq 5, 3) := dk_153 0 5 (dk_at dksL_law_41 0 rfl rfl)
theorem dL_law_1023 : decode cL_law 1023 = .ok (.iconst 0, 1) := dk_3 (dk_at dksL_law_41 3 rfl rfl)
theorem dL_law_1024 : decode cL_law 1024 = .ok (.ireturn, 1) := dk_172 (dk_at dksL_law_41 4 rfl rfl)
theorem dL_law_1025 : decode cL_law 1025 = .ok (.goto 530, 3) := dk_167 2 18 (dk_at dksL_law_41 5 rfl rfl)
theorem dL_law_1028 : decode cL_law 1028 = .ok (.aload_n 1, 1) := dk_43 (dk_at dksL_law_41 8 rfl rfl)
theorem dL_law_1029 : decode cL_law 1029 = .ok (.aload_n 0, 1) := dk_42 (dk_at dksL_law_41 9 rfl rfl)
theorem dL_law_1030 : decode cL_law 1030 = .ok (.iload 4, 2) := dk_21 4 (dk_at dksL_law_41 10 rfl rfl)
theorem dL_law_1032 : decode cL_law 1032 = .ok (.iconst 1, 1) := dk_4 (dk_at dksL_law_41 12 rfl rfl)
theorem dL_law_1033 : decode cL_law 1033 = .ok (.iadd, 1) := dk_96 (dk_at dksL_law_41 13 rfl rfl)
theorem dL_law_1034 : decode cL_law 1034 = .ok (.iaload, 1) := dk_46 (dk_at dksL_law_41 14 rfl rfl)
theorem dL_law_1035 : decode cL_law 1035 = .ok (.aload_n 0, 1) := dk_42 (dk_at dksL_law_41 15 rfl rfl)
theorem dL_law_1036 : decode cL_law 1036 = .ok (.iload 4, 2) := dk_21 4 (dk_at dksL_law_41 16 rfl rfl)
theorem dL_law_1038 : decode cL_law 1038 = .ok (.iconst 2, 1) := dk_5 (dk_at dksL_law_41 18 rfl rfl)
theorem dL_law_1039 : decode cL_law 1039 = .ok (.iadd, 1) := dk_96 (dk_at dksL_law_41 19 rfl rfl)
theorem dL_law_1040 : decode cL_law 1040 = .ok (.iaload, 1) := dk_46 (dk_at dksL_law_41 20 rfl rfl)
theorem dL_law_1041 : decode cL_law 1041 = .ok (.aload_n 3, 1) := dk_45 (dk_at dksL_law_41 21 rfl rfl)
theorem dL_law_1042 : decode cL_law 1042 = .ok (.invokestatic 129, 3) := dk_184 0 129 (dk_at dksL_law_42 0 rfl rfl)
theorem dL_law_1045 : decode cL_law 1045 = .ok (.istore 5, 2) := dk_54 5 (dk_at dksL_law_42 3 rfl rfl)
theorem dL_law_1047 : decode cL_law 1047 = .ok (.aload_n 2, 1) := dk_44 (dk_at dksL_law_42 5 rfl rfl)
theorem dL_law_1048 : decode cL_law 1048 = .ok (.aload_n 0, 1) := dk_42 (dk_at dksL_law_42 6 rfl rfl)
theorem dL_law_1049 : decode cL_law 1049 = .ok (.iload 4, 2) := dk_21 4 (dk_at dksL_law_42 7 rfl rfl)
theorem dL_law_1051 : decode cL_law 1051 = .ok (.iconst 1, 1) := dk_4 (dk_at dksL_law_42 9 rfl rfl)
theorem dL_law_1052 : decode cL_law 1052 = .ok (.iadd, 1) := dk_96 (dk_at dksL_law_42 10 rfl rfl)
theorem dL_law_1053 : decode cL_law 1053 = .ok (.iaload, 1) := dk_46 (dk_at dksL_law_42 11 rfl rfl)
theorem dL_law_1054 : decode cL_law 1054 = .ok (.aload_n 0, 1) := dk_42 (dk_at dksL_law_42 12 rfl rfl)
theorem dL_law_1055 : decode cL_law 1055 = .ok (.iload 4, 2) := dk_21 4 (dk_at dksL_law_42 13 rfl rfl)
theorem dL_law_1057 : decode cL_law 1057 = .ok (.iconst 2, 1) := dk_5 (dk_at dksL_law_42 15 rfl rfl)
theorem dL_law_1058 : decode cL_law 1058 = .ok (.iadd, 1) := dk_96 (dk_at dksL_law_42 16 rfl rfl)
theorem dL_law_1059 : decode cL_law 1059 = .ok (.iaload, 1) := dk_46 (dk_at dksL_law_42 17 rfl rfl)
theorem dL_law_1060 : decode cL_law 1060 = .ok (.invokevirtual 131, 3) := dk_182 0 131 (dk_at dksL_law_42 18 rfl rfl)
theorem dL_law_1063 : decode cL_law 1063 = .ok (.istore 6, 2) := dk_54 6 (dk_at dksL_law_42 21 rfl rfl)
theorem dL_law_1065 : decode cL_law 1065 = .ok (.aload_n 2, 1) := dk_44 (dk_at dksL_law_42 23 rfl rfl)
theorem dL_law_1066 : decode cL_law 1066 = .ok (.invokevirtual 89, 3) := dk_182 0 89 (dk_at dksL_law_43 0 rfl rfl)
theorem dL_law_1069 : decode cL_law 1069 = .ok (.iload 5, 2) := dk_21 5 (dk_at dksL_law_43 3 rfl rfl)
theorem dL_law_1071 : decode cL_law 1071 = .ok (.if_icmp .eq 5, 3) := dk_159 0 5 (dk_at dksL_law_43 5 rfl rfl)
theorem dL_law_1074 : decode cL_law 1074 = .ok (.iconst 0, 1) := dk_3 (dk_at dksL_law_43 8 rfl rfl)
theorem dL_law_1075 : decode cL_law 1075 = .ok (.ireturn, 1) := dk_172 (dk_at dksL_law_43 9 rfl rfl)
theorem dL_law_1076 : decode cL_law 1076 = .ok (.iload 5, 2) := dk_21 5 (dk_at dksL_law_43 10 rfl rfl)
theorem dL_law_1078 : decode cL_law 1078 = .ok (.ifCond .ne 15, 3) := dk_154 0 15 (dk_at dksL_law_43 12 rfl rfl)
theorem dL_law_1081 : decode cL_law 1081 = .ok (.aload_n 3, 1) := dk_45 (dk_at dksL_law_43 15 rfl rfl)
theorem dL_law_1082 : decode cL_law 1082 = .ok (.iconst 0, 1) := dk_3 (dk_at dksL_law_43 16 rfl rfl)
theorem dL_law_1083 : decode cL_law 1083 = .ok (.laload, 1) := dk_47 (dk_at dksL_law_43 17 rfl rfl)
theorem dL_law_1084 : decode cL_law 1084 = .ok (.iload 6, 2) := dk_21 6 (dk_at dksL_law_43 18 rfl rfl)
theorem dL_law_1086 : decode cL_law 1086 = .ok (.i2l, 1) := dk_133 (dk_at dksL_law_43 20 rfl rfl)
theorem dL_law_1087 : decode cL_law 1087 = .ok (.lcmp, 1) := dk_148 (dk_at dksL_law_43 21 rfl rfl)
theorem dL_law_1088 : decode cL_law 1088 = .ok (.ifCond .eq 5, 3) := dk_153 0 5 (dk_at dksL_law_44 0 rfl rfl)
theorem dL_law_1091 : decode cL_law 1091 = .ok (.iconst 0, 1) := dk_3 (dk_at dksL_law_44 3 rfl rfl)
theorem dL_law_1092 : decode cL_law 1092 = .ok (.ireturn, 1) := dk_172 (dk_at dksL_law_44 4 rfl rfl)
theorem dL_law_1093 : decode cL_law 1093 = .ok (.goto 462, 3) := dk_167 1 206 (dk_at dksL_law_44 5 rfl rfl)
theorem dL_law_1096 : decode cL_law 1096 = .ok (.aload_n 1, 1) := dk_43 (dk_at dksL_law_44 8 rfl rfl)
theorem dL_law_1097 : decode cL_law 1097 = .ok (.aload_n 0, 1) := dk_42 (dk_at dksL_law_44 9 rfl rfl)
theorem dL_law_1098 : decode cL_law 1098 = .ok (.iload 4, 2) := dk_21 4 (dk_at dksL_law_44 10 rfl rfl)
theorem dL_law_1100 : decode cL_law 1100 = .ok (.iconst 1, 1) := dk_4 (dk_at dksL_law_44 12 rfl rfl)
theorem dL_law_1101 : decode cL_law 1101 = .ok (.iadd, 1) := dk_96 (dk_at dksL_law_44 13 rfl rfl)
theorem dL_law_1102 : decode cL_law 1102 = .ok (.iaload, 1) := dk_46 (dk_at dksL_law_44 14 rfl rfl)
theorem dL_law_1103 : decode cL_law 1103 = .ok (.aload_n 3, 1) := dk_45 (dk_at dksL_law_44 15 rfl rfl)
theorem dL_law_1104 : decode cL_law 1104 = .ok (.invokestatic 132, 3) := dk_184 0 132 (dk_at dksL_law_44 16 rfl rfl)
theorem dL_law_1107 : decode cL_law 1107 = .ok (.istore 5, 2) := dk_54 5 (dk_at dksL_law_44 19 rfl rfl)
theorem dL_law_1109 : decode cL_law 1109 = .ok (.aload_n 2, 1) := dk_44 (dk_at dksL_law_44 21 rfl rfl)
theorem dL_law_1110 : decode cL_law 1110 = .ok (.aload_n 0, 1) := dk_42 (dk_at dksL_law_44 22 rfl rfl)
theorem dL_law_1111 : decode cL_law 1111 = .ok (.iload 4, 2) := dk_21 4 (dk_at dksL_law_45 0 rfl rfl)
theorem dL_law_1113 : decode cL_law 1113 = .ok (.iconst 1, 1) := dk_4 (dk_at dksL_law_45 2 rfl rfl)
theorem dL_law_1114 : decode cL_law 1114 = .ok (.iadd, 1) := dk_96 (dk_at dksL_law_45 3 rfl rfl)
theorem dL_law_1115 : decode cL_law 1115 = .ok (.iaload, 1) := dk_46 (dk_at dksL_law_45 4 rfl rfl)
theorem dL_law_1116 : decode cL_law 1116 = .ok (.invokevirtual 134, 3) := dk_182 0 134 (dk_at dksL_law_45 5 rfl rfl)
theorem dL_law_1119 : decode cL_law 1119 = .ok (.istore 6, 2) := dk_54 6 (dk_at dksL_law_45 8 rfl rfl)
theorem dL_law_1121 : decode cL_law 1121 = .ok (.aload_n 2, 1) := dk_44 (dk_at dksL_law_45 10 rfl rfl)
theorem dL_law_1122 : decode cL_law 1122 = .ok (.invokevirtual 89, 3) := dk_182 0 89 (dk_at dksL_law_45 11 rfl rfl)
theorem dL_law_1125 : decode cL_law 1125 = .ok (.iload 5, 2) := dk_21 5 (dk_at dksL_law_45 14 rfl rfl)
theorem dL_law_1127 : decode cL_law 1127 = .ok (.if_icmp .eq 5, 3) := dk_159 0 5 (dk_at dksL_law_45 16 rfl rfl)
theorem dL_law_1130 : decode cL_law 1130 = .ok (.iconst 0, 1) := dk_3 (dk_at dksL_law_45 19 rfl rfl)
theorem dL_law_1131 : decode cL_law 1131 = .ok (.ireturn, 1) := dk_172 (dk_at dksL_law_45 20 rfl rfl)
theorem dL_law_1132 : decode cL_law 1132 = .ok (.iload 5, 2) := dk_21 5 (dk_at dksL_law_45 21 rfl rfl)
theorem dL_law_1134 : decode cL_law 1134 = .ok (.ifCond .ne 15, 3) := dk_154 0 15 (dk_at dksL_law_46 0 rfl rfl)
theorem dL_law_1137 : decode cL_law 1137 = .ok (.aload_n 3, 1) := dk_45 (dk_at dksL_law_46 3 rfl rfl)
theorem dL_law_1138 : decode cL_law 1138 = .ok (.iconst 0, 1) := dk_3 (dk_at dksL_law_46 4 rfl rfl)
theorem dL_law_1139 : decode cL_law 1139 = .ok (.laload, 1) := dk_47 (dk_at dksL_law_46 5 rfl rfl)
theorem dL_law_1140 : decode cL_law 1140 = .ok (.iload 6, 2) := dk_21 6 (dk_at dksL_law_46 6 rfl rfl)
theorem dL_law_1142 : decode cL_law 1142 = .ok (.i2l, 1) := dk_133 (dk_at dksL_law_46 8 rfl rfl)
theorem dL_law_1143 : decode cL_law 1143 = .ok (.lcmp, 1) := dk_148 (dk_at dksL_law_46 9 rfl rfl)
theorem dL_law_1144 : decode cL_law 1144 = .ok (.ifCond .eq 5, 3) := dk_153 0 5 (dk_at dksL_law_46 10 rfl rfl)
theorem dL_law_1147 : decode cL_law 1147 = .ok (.iconst 0, 1) := dk_3 (dk_at dksL_law_46 13 rfl rfl)
theorem dL_law_1148 : decode cL_law 1148 = .ok (.ireturn, 1) := dk_172 (dk_at dksL_law_46 14 rfl rfl)
theorem dL_law_1149 : decode cL_law 1149 = .ok (.goto 406, 3) := dk_167 1 150 (dk_at dksL_law_46 15 rfl rfl)
theorem dL_law_1152 : decode cL_law 1152 = .ok (.aload_n 1, 1) := dk_43 (dk_at dksL_law_46 18 rfl rfl)
theorem dL_law_1153 : decode cL_law 1153 = .ok (.aload_n 0, 1) := dk_42 (dk_at dksL_law_46 19 rfl rfl)
theorem dL_law_1154 : decode cL_law 1154 = .ok (.iload 4, 2) := dk_21 4 (dk_at dksL_law_46 20 rfl rfl)
theorem dL_law_1156 : decode cL_law 1156 = .ok (.iconst 1, 1) := dk_4 (dk_at dksL_law_46 22 rfl rfl)
theorem dL_law_1157 : decode cL_law 1157 = .ok (.iadd, 1) := dk_96 (dk_at dksL_law_46 23 rfl rfl)
theorem dL_law_1158 : decode cL_law 1158 = .ok (.iaload, 1) := dk_46 (dk_at dksL_law_47 0 rfl rfl)
theorem dL_law_1159 : decode cL_law 1159 = .ok (.aload_n 3, 1) := dk_45 (dk_at dksL_law_47 1 rfl rfl)
theorem dL_law_1160 : decode cL_law 1160 = .ok (.invokestatic 135, 3) := dk_184 0 135 (dk_at dksL_law_47 2 rfl rfl)
theorem dL_law_1163 : decode cL_law 1163 = .ok (.istore 5, 2) := dk_54 5 (dk_at dksL_law_47 5 rfl rfl)
theorem dL_law_1165 : decode cL_law 1165 = .ok (.aload_n 2, 1) := dk_44 (dk_at dksL_law_47 7 rfl rfl)
theorem dL_law_1166 : decode cL_law 1166 = .ok (.aload_n 0, 1) := dk_42 (dk_at dksL_law_47 8 rfl rfl)
theorem dL_law_1167 : decode cL_law 1167 = .ok (.iload 4, 2) := dk_21 4 (dk_at dksL_law_47 9 rfl rfl)
theorem dL_law_1169 : decode cL_law 1169 = .ok (.iconst 1, 1) := dk_4 (dk_at dksL_law_47 11 rfl rfl)
theorem dL_law_1170 : decode cL_law 1170 = .ok (.iadd, 1) := dk_96 (dk_at dksL_law_47 12 rfl rfl)
theorem dL_law_1171 : decode cL_law 1171 = .ok (.iaload, 1) := dk_46 (dk_at dksL_law_47 13 rfl rfl)
theorem dL_law_1172 : decode cL_law 1172 = .ok (.invokevirtual 137, 3) := dk_182 0 137 (dk_at dksL_law_47 14 rfl rfl)
theorem dL_law_1175 : decode cL_law 1175 = .ok (.istore 6, 2) := dk_54 6 (dk_at dksL_law_47 17 rfl rfl)
theorem dL_law_1177 : decode cL_law 1177 = .ok (.aload_n 2, 1) := dk_44 (dk_at dksL_law_47 19 rfl rfl)
theorem dL_law_1178 : decode cL_law 1178 = .ok (.invokevirtual 89, 3) := dk_182 0 89 (dk_at dksL_law_47 20 rfl rfl)
theorem dL_law_1181 : decode cL_law 1181 = .ok (.iload 5, 2) := dk_21 5 (dk_at dksL_law_48 0 rfl rfl)
theorem dL_law_1183 : decode cL_law 1183 = .ok (.if_icmp .eq 5, 3) := dk_159 0 5 (dk_at dksL_law_48 2 rfl rfl)
theorem dL_law_1186 : decode cL_law 1186 = .ok (.iconst 0, 1) := dk_3 (dk_at dksL_law_48 5 rfl rfl)
theorem dL_law_1187 : decode cL_law 1187 = .ok (.ireturn, 1) := dk_172 (dk_at dksL_law_48 6 rfl rfl)
theorem dL_law_1188 : decode cL_law 1188 = .ok (.iload 5, 2) := dk_21 5 (dk_at dksL_law_48 7 rfl rfl)
theorem dL_law_1190 : decode cL_law 1190 = .ok (.ifCond .ne 15, 3) := dk_154 0 15 (dk_at dksL_law_48 9 rfl rfl)
theorem dL_law_1193 : decode cL_law 1193 = .ok (.aload_n 3, 1) := dk_45 (dk_at dksL_law_48 12 rfl rfl)
theorem dL_law_1194 : decode cL_law 1194 = .ok (.iconst 0, 1) := dk_3 (dk_at dksL_law_48 13 rfl rfl)
theorem dL_law_1195 : decode cL_law 1195 = .ok (.laload, 1) := dk_47 (dk_at dksL_law_48 14 rfl rfl)
theorem dL_law_1196 : decode cL_law 1196 = .ok (.iload 6, 2) := dk_21 6 (dk_at dksL_law_48 15 rfl rfl)
theorem dL_law_1198 : decode cL_law 1198 = .ok (.i2l, 1) := dk_133 (dk_at dksL_law_48 17 rfl rfl)
theorem dL_law_1199 : decode cL_law 1199 = .ok (.lcmp, 1) := dk_148 (dk_at dksL_law_48 18 rfl rfl)
theorem dL_law_1200 : decode cL_law 1200 = .ok (.ifCond .eq 5, 3) := dk_153 0 5 (dk_at dksL_law_48 19 rfl rfl)
theorem dL_law_1203 : decode cL_law 1203 = .ok (.iconst 0, 1) := dk_3 (dk_at dksL_law_48 22 rfl rfl)
theorem dL_law_1204 : decode cL_law 1204 = .ok (.ireturn, 1) := dk_172 (dk_at dksL_law_48 23 rfl rfl)
theorem dL_law_1205 : decode cL_law 1205 = .ok (.goto 350, 3) := dk_167 1 94 (dk_at dksL_law_49 0 rfl rfl)
theorem dL_law_1208 : decode cL_law 1208 = .ok (.aload_n 1, 1) := dk_43 (dk_at dksL_law_49 3 rfl rfl)
theorem dL_law_1209 : decode cL_law 1209 = .ok (.aload_n 0, 1) := dk_42 (dk_at dksL_law_49 4 rfl rfl)
theorem dL_law_1210 : decode cL_law 1210 = .ok (.iload 4, 2) := dk_21 4 (dk_at dksL_law_49 5 rfl rfl)
theorem dL_law_1212 : decode cL_law 1212 = .ok (.iconst 1, 1) := dk_4 (dk_at dksL_law_49 7 rfl rfl)
theorem dL_law_1213 : decode cL_law 1213 = .ok (.iadd, 1) := dk_96 (dk_at dksL_law_49 8 rfl rfl)
theorem dL_law_1214 : decode cL_law 1214 = .ok (.iaload, 1) := dk_46 (dk_at dksL_law_49 9 rfl rfl)
theorem dL_law_1215 : decode cL_law 1215 = .ok (.aload_n 3, 1) := dk_45 (dk_at dksL_law_49 10 rfl rfl)
theorem dL_law_1216 : decode cL_law 1216 = .ok (.invokestatic 138, 3) := dk_184 0 138 (dk_at dksL_law_49 11 rfl rfl)
theorem dL_law_1219 : decode cL_law 1219 = .ok (.istore 5, 2) := dk_54 5 (dk_at dksL_law_49 14 rfl rfl)
theorem dL_law_1221 : decode cL_law 1221 = .ok (.aload_n 2, 1) := dk_44 (dk_at dksL_law_49 16 rfl rfl)
theorem dL_law_1222 : decode cL_law 1222 = .ok (.aload_n 0, 1) := dk_42 (dk_at dksL_law_49 17 rfl rfl)
theorem dL_law_1223 : decode cL_law 1223 = .ok (.iload 4, 2) := dk_21 4 (dk_at dksL_law_49 18 rfl rfl)
theorem dL_law_1225 : decode cL_law 1225 = .ok (.iconst 1, 1) := dk_4 (dk_at dksL_law_49 20 rfl rfl)
theorem dL_law_1226 : decode cL_law 1226 = .ok (.iadd, 1) := dk_96 (dk_at dksL_law_49 21 rfl rfl)
theorem dL_law_1227 : decode cL_law 1227 = .ok (.iaload, 1) := dk_46 (dk_at dksL_law_49 22 rfl rfl)
theorem dL_law_1228 : decode cL_law 1228 = .ok (.invokevirtual 140, 3) := dk_182 0 140 (dk_at dksL_law_50 0 rfl rfl)
theorem dL_law_1231 : decode cL_law 1231 = .ok (.istore 6, 2) := dk_54 6 (dk_at dksL_law_50 3 rfl rfl)
theorem dL_law_1233 : decode cL_law 1233 = .ok (.aload_n 2, 1) := dk_44 (dk_at dksL_law_50 5 rfl rfl)
theorem dL_law_1234 : decode cL_law 1234 = .ok (.invokevirtual 89, 3) := dk_182 0 89 (dk_at dksL_law_50 6 rfl rfl)
theorem dL_law_1237 : decode cL_law 1237 = .ok (.iload 5, 2) := dk_21 5 (dk_at dksL_law_50 9 rfl rfl)
theorem dL_law_1239 : decode cL_law 1239 = .ok (.if_icmp .eq 5, 3) := dk_159 0 5 (dk_at dksL_law_50 11 rfl rfl)
theorem dL_law_1242 : decode cL_law 1242 = .ok (.iconst 0, 1) := dk_3 (dk_at dksL_law_50 14 rfl rfl)
theorem dL_law_1243 : decode cL_law 1243 = .ok (.ireturn, 1) := dk_172 (dk_at dksL_law_50 15 rfl rfl)
theorem dL_law_1244 : decode cL_law 1244 = .ok (.iload 5, 2) := dk_21 5 (dk_at dksL_law_50 16 rfl rfl)
theorem dL_law_1246 : decode cL_law 1246 = .ok (.ifCond .ne 15, 3) := dk_154 0 15 (dk_at dksL_law_50 18 rfl rfl)
theorem dL_law_1249 : decode cL_law 1249 = .ok (.aload_n 3, 1) := dk_45 (dk_at dksL_law_50 21 rfl rfl)
theorem dL_law_1250 : decode cL_law 1250 = .ok (.iconst 0, 1) := dk_3 (dk_at dksL_law_50 22 rfl rfl)
theorem dL_law_1251 : decode cL_law 1251 = .ok (.laload, 1) := dk_47 (dk_at dksL_law_50 23 rfl rfl)
theorem dL_law_1252 : decode cL_law 1252 = .ok (.iload 6, 2) := dk_21 6 (dk_at dksL_law_51 0 rfl rfl)
theorem dL_law_1254 : decode cL_law 1254 = .ok (.i2l, 1) := dk_133 (dk_at dksL_law_51 2 rfl rfl)
theorem dL_law_1255 : decode cL_law 1255 = .ok (.lcmp, 1) := dk_148 (dk_at dksL_law_51 3 rfl rfl)
theorem dL_law_1256 : decode cL_law 1256 = .ok (.ifCond .eq 5, 3) := dk_153 0 5 (dk_at dksL_law_51 4 rfl rfl)
theorem dL_law_1259 : decode cL_law 1259 = .ok (.iconst 0, 1) := dk_3 (dk_at dksL_law_51 7 rfl rfl)
theorem dL_law_1260 : decode cL_law 1260 = .ok (.ireturn, 1) := dk_172 (dk_at dksL_law_51 8 rfl rfl)
theorem dL_law_1261 : decode cL_law 1261 = .ok (.goto 294, 3) := dk_167 1 38 (dk_at dksL_law_51 9 rfl rfl)
theorem dL_law_1264 : decode cL_law 1264 = .ok (.aload_n 1, 1) := dk_43 (dk_at dksL_law_51 12 rfl rfl)
theorem dL_law_1265 : decode cL_law 1265 = .ok (.aload_n 0, 1) := dk_42 (dk_at dksL_law_51 13 rfl rfl)
theorem dL_law_1266 : decode cL_law 1266 = .ok (.iload 4, 2) := dk_21 4 (dk_at dksL_law_51 14 rfl rfl)
theorem dL_law_1268 : decode cL_law 1268 = .ok (.iconst 1, 1) := dk_4 (dk_at dksL_law_51 16 rfl rfl)
theorem dL_law_1269 : decode cL_law 1269 = .ok (.iadd, 1) := dk_96 (dk_at dksL_law_51 17 rfl rfl)
theorem dL_law_1270 : decode cL_law 1270 = .ok (.iaload, 1) := dk_46 (dk_at dksL_law_51 18 rfl rfl)
theorem dL_law_1271 : decode cL_law 1271 = .ok (.aload_n 3, 1) := dk_45 (dk_at dksL_law_51 19 rfl rfl)
theorem dL_law_1272 : decode cL_law 1272 = .ok (.invokestatic 141, 3) := dk_184 0 141 (dk_at dksL_law_51 20 rfl rfl)
theorem dL_law_1275 : decode cL_law 1275 = .ok (.istore 5, 2) := dk_54 5 (dk_at dksL_law_52 0 rfl rfl)
theorem dL_law_1277 : decode cL_law 1277 = .ok (.aload_n 2, 1) := dk_44 (dk_at dksL_law_52 2 rfl rfl)
theorem dL_law_1278 : decode cL_law 1278 = .ok (.aload_n 0, 1) := dk_42 (dk_at dksL_law_52 3 rfl rfl)
theorem dL_law_1279 : decode cL_law 1279 = .ok (.iload 4, 2) := dk_21 4 (dk_at dksL_law_52 4 rfl rfl)
theorem dL_law_1281 : decode cL_law 1281 = .ok (.iconst 1, 1) := dk_4 (dk_at dksL_law_52 6 rfl rfl)
theorem dL_law_1282 : decode cL_law 1282 = .ok (.iadd, 1) := dk_96 (dk_at dksL_law_52 7 rfl rfl)
theorem dL_law_1283 : decode cL_law 1283 = .ok (.iaload, 1) := dk_46 (dk_at dksL_law_52 8 rfl rfl)
theorem dL_law_1284 : decode cL_law 1284 = .ok (.invokevirtual 143, 3) := dk_182 0 143 (dk_at dksL_law_52 9 rfl rfl)
theorem dL_law_1287 : decode cL_law 1287 = .ok (.istore 6, 2) := dk_54 6 (dk_at dksL_law_52 12 rfl rfl)
theorem dL_law_1289 : decode cL_law 1289 = .ok (.aload_n 2, 1) := dk_44 (dk_at dksL_law_52 14 rfl rfl)
theorem dL_law_1290 : decode cL_law 1290 = .ok (.invokevirtual 89, 3) := dk_182 0 89 (dk_at dksL_law_52 15 rfl rfl)
theorem dL_law_1293 : decode cL_law 1293 = .ok (.iload 5, 2) := dk_21 5 (dk_at dksL_law_52 18 rfl rfl)
theorem dL_law_1295 : decode cL_law 1295 = .ok (.if_icmp .eq 5, 3) := dk_159 0 5 (dk_at dksL_law_52 20 rfl rfl)
theorem dL_law_1298 : decode cL_law 1298 = .ok (.iconst 0, 1) := dk_3 (dk_at dksL_law_52 23 rfl rfl)
theorem dL_law_1299 : decode cL_law 1299 = .ok (.ireturn, 1) := dk_172 (dk_at dksL_law_53 0 rfl rfl)
theorem dL_law_1300 : decode cL_law 1300 = .ok (.iload 5, 2) := dk_21 5 (dk_at dksL_law_53 1 rfl rfl)
theorem dL_law_1302 : decode cL_law 1302 = .ok (.ifCond .ne 15, 3) := dk_154 0 15 (dk_at dksL_law_53 3 rfl rfl)
theorem dL_law_1305 : decode cL_law 1305 = .ok (.aload_n 3, 1) := dk_45 (dk_at dksL_law_53 6 rfl rfl)
theorem dL_law_1306 : decode cL_law 1306 = .ok (.iconst 0, 1) := dk_3 (dk_at dksL_law_53 7 rfl rfl)
theorem dL_law_1307 : decode cL_law 1307 = .ok (.laload, 1) := dk_47 (dk_at dksL_law_53 8 rfl rfl)
theorem dL_law_1308 : decode cL_law 1308 = .ok (.iload 6, 2) := dk_21 6 (dk_at dksL_law_53 9 rfl rfl)
theorem dL_law_1310 : decode cL_law 1310 = .ok (.i2l, 1) := dk_133 (dk_at dksL_law_53 11 rfl rfl)
theorem dL_law_1311 : decode cL_law 1311 = .ok (.lcmp, 1) := dk_148 (dk_at dksL_law_53 12 rfl rfl)
theorem dL_law_1312 : decode cL_law 1312 = .ok (.ifCond .eq 5, 3) := dk_153 0 5 (dk_at dksL_law_53 13 rfl rfl)
theorem dL_law_1315 : decode cL_law 1315 = .ok (.iconst 0, 1) := dk_3 (dk_at dksL_law_53 16 rfl rfl)
theorem dL_law_1316 : decode cL_law 1316 = .ok (.ireturn, 1) := dk_172 (dk_at dksL_law_53 17 rfl rfl)
theorem dL_law_1317 : decode cL_law 1317 = .ok (.goto 238, 3) := dk_167 0 238 (dk_at dksL_law_53 18 rfl rfl)
theorem dL_law_1320 : decode cL_law 1320 = .ok (.aload_n 1, 1) := dk_43 (dk_at dksL_law_53 21 rfl rfl)
theorem dL_law_1321 : decode cL_law 1321 = .ok (.aload_n 0, 1) := dk_42 (dk_at dksL_law_53 22 rfl rfl)
theorem dL_law_1322 : decode cL_law 1322 = .ok (.iload 4, 2) := dk_21 4 (dk_at dksL_law_54 0 rfl rfl)
theorem dL_law_1324 : decode cL_law 1324 = .ok (.iconst 1, 1) := dk_4 (dk_at dksL_law_54 2 rfl rfl)
theorem dL_law_1325 : decode cL_law 1325 = .ok (.iadd, 1) := dk_96 (dk_at dksL_law_54 3 rfl rfl)
theorem dL_law_1326 : decode cL_law 1326 = .ok (.iaload, 1) := dk_46 (dk_at dksL_law_54 4 rfl rfl)
theorem dL_law_1327 : decode cL_law 1327 = .ok (.aload_n 3, 1) := dk_45 (dk_at dksL_law_54 5 rfl rfl)
theorem dL_law_1328 : decode cL_law 1328 = .ok (.invokestatic 144, 3) := dk_184 0 144 (dk_at dksL_law_54 6 rfl rfl)
theorem dL_law_1331 : decode cL_law 1331 = .ok (.istore 5, 2) := dk_54 5 (dk_at dksL_law_54 9 rfl rfl)
theorem dL_law_1333 : decode cL_law 1333 = .ok (.aload_n 2, 1) := dk_44 (dk_at dksL_law_54 11 rfl rfl)
theorem dL_law_1334 : decode cL_law 1334 = .ok (.aload_n 0, 1) := dk_42 (dk_at dksL_law_54 12 rfl rfl)
theorem dL_law_1335 : decode cL_law 1335 = .ok (.iload 4, 2) := dk_21 4 (dk_at dksL_law_54 13 rfl rfl)
theorem dL_law_1337 : decode cL_law 1337 = .ok (.iconst 1, 1) := dk_4 (dk_at dksL_law_54 15 rfl rfl)
theorem dL_law_1338 : decode cL_law 1338 = .ok (.iadd, 1) := dk_96 (dk_at dksL_law_54 16 rfl rfl)
theorem dL_law_1339 : decode cL_law 1339 = .ok (.iaload, 1) := dk_46 (dk_at dksL_law_54 17 rfl rfl)
theorem dL_law_1340 : decode cL_law 1340 = .ok (.invokevirtual 146, 3) := dk_182 0 146 (dk_at dksL_law_54 18 rfl rfl)
theorem dL_law_1343 : decode cL_law 1343 = .ok (.istore 6, 2) := dk_54 6 (dk_at dksL_law_54 21 rfl rfl)
theorem dL_law_1345 : decode cL_law 1345 = .ok (.aload_n 2, 1) := dk_44 (dk_at dksL_law_54 23 rfl rfl)
theorem dL_law_1346 : decode cL_law 1346 = .ok (.invokevirtual 89, 3) := dk_182 0 89 (dk_at dksL_law_55 0 rfl rfl)
theorem dL_law_1349 : decode cL_law 1349 = .ok (.iload 5, 2) := dk_21 5 (dk_at dksL_law_55 3 rfl rfl)
theorem dL_law_1351 : decode cL_law 1351 = .ok (.if_icmp .eq 5, 3) := dk_159 0 5 (dk_at dksL_law_55 5 rfl rfl)
theorem dL_law_1354 : decode cL_law 1354 = .ok (.iconst 0, 1) := dk_3 (dk_at dksL_law_55 8 rfl rfl)
theorem dL_law_1355 : decode cL_law 1355 = .ok (.ireturn, 1) := dk_172 (dk_at dksL_law_55 9 rfl rfl)
theorem dL_law_1356 : decode cL_law 1356 = .ok (.iload 5, 2) := dk_21 5 (dk_at dksL_law_55 10 rfl rfl)
theorem dL_law_1358 : decode cL_law 1358 = .ok (.ifCond .ne 15, 3) := dk_154 0 15 (dk_at dksL_law_55 12 rfl rfl)
theorem dL_law_1361 : decode cL_law 1361 = .ok (.aload_n 3, 1) := dk_45 (dk_at dksL_law_55 15 rfl rfl)
theorem dL_law_1362 : decode cL_law 1362 = .ok (.iconst 0, 1) := dk_3 (dk_at dksL_law_55 16 rfl rfl)
theorem dL_law_1363 : decode cL_law 1363 = .ok (.laload, 1) := dk_47 (dk_at dksL_law_55 17 rfl rfl)
theorem dL_law_1364 : decode cL_law 1364 = .ok (.iload 6, 2) := dk_21 6 (dk_at dksL_law_55 18 rfl rfl)
theorem dL_law_1366 : decode cL_law 1366 = .ok (.i2l, 1) := dk_133 (dk_at dksL_law_55 20 rfl rfl)
theorem dL_law_1367 : decode cL_law 1367 = .ok (.lcmp, 1) := dk_148 (dk_at dksL_law_55 21 rfl rfl)
theorem dL_law_1368 : decode cL_law 1368 = .ok (.ifCond .eq 5, 3) := dk_153 0 5 (dk_at dksL_law_56 0 rfl rfl)
theorem dL_law_1371 : decode cL_law 1371 = .ok (.iconst 0, 1) := dk_3 (dk_at dksL_law_56 3 rfl rfl)
theorem dL_law_1372 : decode cL_law 1372 = .ok (.ireturn, 1) := dk_172 (dk_at dksL_law_56 4 rfl rfl)
theorem dL_law_1373 : decode cL_law 1373 = .ok (.goto 182, 3) := dk_167 0 182 (dk_at dksL_law_56 5 rfl rfl)
theorem dL_law_1376 : decode cL_law 1376 = .ok (.aload_n 1, 1) := dk_43 (dk_at dksL_law_56 8 rfl rfl)
theorem dL_law_1377 : decode cL_law 1377 = .ok (.aload_n 0, 1) := dk_42 (dk_at dksL_law_56 9 rfl rfl)
theorem dL_law_1378 : decode cL_law 1378 = .ok (.iload 4, 2) := dk_21 4 (dk_at dksL_law_56 10 rfl rfl)
theorem dL_law_1380 : decode cL_law 1380 = .ok (.iconst 1, 1) := dk_4 (dk_at dksL_law_56 12 rfl rfl)
theorem dL_law_1381 : decode cL_law 1381 = .ok (.iadd, 1) := dk_96 (dk_at dksL_law_56 13 rfl rfl)
theorem dL_law_1382 : decode cL_law 1382 = .ok (.iaload, 1) := dk_46 (dk_at dksL_law_56 14 rfl rfl)
theorem dL_law_1383 : decode cL_law 1383 = .ok (.aload_n 0, 1) := dk_42 (dk_at dksL_law_56 15 rfl rfl)
theorem dL_law_1384 : decode cL_law 1384 = .ok (.iload 4, 2) := dk_21 4 (dk_at dksL_law_56 16 rfl rfl)
theorem dL_law_1386 : decode cL_law 1386 = .ok (.iconst 2, 1) := dk_5 (dk_at dksL_law_56 18 rfl rfl)
theorem dL_law_1387 : decode cL_law 1387 = .ok (.iadd, 1) := dk_96 (dk_at dksL_law_56 19 rfl rfl)
theorem dL_law_1388 : decode cL_law 1388 = .ok (.iaload, 1) := dk_46 (dk_at dksL_law_56 20 rfl rfl)
theorem dL_law_1389 : decode cL_law 1389 = .ok (.aload_n 3, 1) := dk_45 (dk_at dksL_law_56 21 rfl rfl)
theorem dL_law_1390 : decode cL_law 1390 = .ok (.invokestatic 147, 3) := dk_184 0 147 (dk_at dksL_law_57 0 rfl rfl)
theorem dL_law_1393 : decode cL_law 1393 = .ok (.istore 5, 2) := dk_54 5 (dk_at dksL_law_57 3 rfl rfl)
theorem dL_law_1395 : decode cL_law 1395 = .ok (.aload_n 2, 1) := dk_44 (dk_at dksL_law_57 5 rfl rfl)
theorem dL_law_1396 : decode cL_law 1396 = .ok (.aload_n 0, 1) := dk_42 (dk_at dksL_law_57 6 rfl rfl)
theorem dL_law_1397 : decode cL_law 1397 = .ok (.iload 4, 2) := dk_21 4 (dk_at dksL_law_57 7 rfl rfl)
theorem dL_law_1399 : decode cL_law 1399 = .ok (.iconst 1, 1) := dk_4 (dk_at dksL_law_57 9 rfl rfl)
theorem dL_law_1400 : decode cL_law 1400 = .ok (.iadd, 1) := dk_96 (dk_at dksL_law_57 10 rfl rfl)
theorem dL_law_1401 : decode cL_law 1401 = .ok (.iaload, 1) := dk_46 (dk_at dksL_law_57 11 rfl rfl)
theorem dL_law_1402 : decode cL_law 1402 = .ok (.aload_n 0, 1) := dk_42 (dk_at dksL_law_57 12 rfl rfl)
theorem dL_law_1403 : decode cL_law 1403 = .ok (.iload 4, 2) := dk_21 4 (dk_at dksL_law_57 13 rfl rfl)
theorem dL_law_1405 : decode cL_law 1405 = .ok (.iconst 2, 1) := dk_5 (dk_at dksL_law_57 15 rfl rfl)
theorem dL_law_1406 : decode cL_law 1406 = .ok (.iadd, 1) := dk_96 (dk_at dksL_law_57 16 rfl rfl)
theorem dL_law_1407 : decode cL_law 1407 = .ok (.iaload, 1) := dk_46 (dk_at dksL_law_57 17 rfl rfl)
theorem dL_law_1408 : decode cL_law 1408 = .ok (.invokevirtual 149, 3) := dk_182 0 149 (dk_at dksL_law_57 18 rfl rfl)
theorem dL_law_1411 : decode cL_law 1411 = .ok (.istore 6, 2) := dk_54 6 (dk_at dksL_law_57 21 rfl rfl)
theorem dL_law_1413 : decode cL_law 1413 = .ok (.aload_n 2, 1) := dk_44 (dk_at dksL_law_57 23 rfl rfl)
theorem dL_law_1414 : decode cL_law 1414 = .ok (.invokevirtual 89, 3) := dk_182 0 89 (dk_at dksL_law_58 0 rfl rfl)
theorem dL_law_1417 : decode cL_law 1417 = .ok (.iload 5, 2) := dk_21 5 (dk_at dksL_law_58 3 rfl rfl)
theorem dL_law_1419 : decode cL_law 1419 = .ok (.if_icmp .eq 5, 3) := dk_159 0 5 (dk_at dksL_law_58 5 rfl rfl)
theorem dL_law_1422 : decode cL_law 1422 = .ok (.iconst 0, 1) := dk_3 (dk_at dksL_law_58 8 rfl rfl)
theorem dL_law_1423 : decode cL_law 1423 = .ok (.ireturn, 1) := dk_172 (dk_at dksL_law_58 9 rfl rfl)
theorem dL_law_1424 : decode cL_law 1424 = .ok (.iload 5, 2) := dk_21 5 (dk_at dksL_law_58 10 rfl rfl)
theorem dL_law_1426 : decode cL_law 1426 = .ok (.ifCond .ne 15, 3) := dk_154 0 15 (dk_at dksL_law_58 12 rfl rfl)
theorem dL_law_1429 : decode cL_law 1429 = .ok (.aload_n 3, 1) := dk_45 (dk_at dksL_law_58 15 rfl rfl)
theorem dL_law_1430 : decode cL_law 1430 = .ok (.iconst 0, 1) := dk_3 (dk_at dksL_law_58 16 rfl rfl)
theorem dL_law_1431 : decode cL_law 1431 = .ok (.laload, 1) := dk_47 (dk_at dksL_law_58 17 rfl rfl)
theorem dL_law_1432 : decode cL_law 1432 = .ok (.iload 6, 2) := dk_21 6 (dk_at dksL_law_58 18 rfl rfl)
theorem dL_law_1434 : decode cL_law 1434 = .ok (.i2l, 1) := dk_133 (dk_at dksL_law_58 20 rfl rfl)
theorem dL_law_1435 : decode cL_law 1435 = .ok (.lcmp, 1) := dk_148 (dk_at dksL_law_58 21 rfl rfl)
theorem dL_law_1436 : decode cL_law 1436 = .ok (.ifCond .eq 5, 3) := dk_153 0 5 (dk_at dksL_law_59 0 rfl rfl)
theorem dL_law_1439 : decode cL_law 1439 = .ok (.iconst 0, 1) := dk_3 (dk_at dksL_law_59 3 rfl rfl)
theorem dL_law_1440 : decode cL_law 1440 = .ok (.ireturn, 1) := dk_172 (dk_at dksL_law_59 4 rfl rfl)
theorem dL_law_1441 : decode cL_law 1441 = .ok (.goto 114, 3) := dk_167 0 114 (dk_at dksL_law_59 5 rfl rfl)
theorem dL_law_1444 : decode cL_law 1444 = .ok (.aload_n 1, 1) := dk_43 (dk_at dksL_law_59 8 rfl rfl)
theorem dL_law_1445 : decode cL_law 1445 = .ok (.aload_n 0, 1) := dk_42 (dk_at dksL_law_59 9 rfl rfl)
theorem dL_law_1446 : decode cL_law 1446 = .ok (.iload 4, 2) := dk_21 4 (dk_at dksL_law_59 10 rfl rfl)
theorem dL_law_1448 : decode cL_law 1448 = .ok (.iconst 1, 1) := dk_4 (dk_at dksL_law_59 12 rfl rfl)
theorem dL_law_1449 : decode cL_law 1449 = .ok (.iadd, 1) := dk_96 (dk_at dksL_law_59 13 rfl rfl)
theorem dL_law_1450 : decode cL_law 1450 = .ok (.iaload, 1) := dk_46 (dk_at dksL_law_59 14 rfl rfl)
theorem dL_law_1451 : decode cL_law 1451 = .ok (.aload_n 3, 1) := dk_45 (dk_at dksL_law_59 15 rfl rfl)
theorem dL_law_1452 : decode cL_law 1452 = .ok (.invokestatic 150, 3) := dk_184 0 150 (dk_at dksL_law_59 16 rfl rfl)
theorem dL_law_1455 : decode cL_law 1455 = .ok (.istore 5, 2) := dk_54 5 (dk_at dksL_law_59 19 rfl rfl)
theorem dL_law_1457 : decode cL_law 1457 = .ok (.aload_n 2, 1) := dk_44 (dk_at dksL_law_59 21 rfl rfl)
theorem dL_law_1458 : decode cL_law 1458 = .ok (.aload_n 0, 1) := dk_42 (dk_at dksL_law_59 22 rfl rfl)
theorem dL_law_1459 : decode cL_law 1459 = .ok (.iload 4, 2) := dk_21 4 (dk_at dksL_law_60 0 rfl rfl)
theorem dL_law_1461 : decode cL_law 1461 = .ok (.iconst 1, 1) := dk_4 (dk_at dksL_law_60 2 rfl rfl)
theorem dL_law_1462 : decode cL_law 1462 = .ok (.iadd, 1) := dk_96 (dk_at dksL_law_60 3 rfl rfl)
theorem dL_law_1463 : decode cL_law 1463 = .ok (.iaload, 1) := dk_46 (dk_at dksL_law_60 4 rfl rfl)
theorem dL_law_1464 : decode cL_law 1464 = .ok (.invokevirtual 152, 3) := dk_182 0 152 (dk_at dksL_law_60 5 rfl rfl)
theorem dL_law_1467 : decode cL_law 1467 = .ok (.istore 6, 2) := dk_54 6 (dk_at dksL_law_60 8 rfl rfl)
theorem dL_law_1469 : decode cL_law 1469 = .ok (.aload_n 2, 1) := dk_44 (dk_at dksL_law_60 10 rfl rfl)
theorem dL_law_1470 : decode cL_law 1470 = .ok (.invokevirtual 89, 3) := dk_182 0 89 (dk_at dksL_law_60 11 rfl rfl)
theorem dL_law_1473 : decode cL_law 1473 = .ok (.iload 5, 2) := dk_21 5 (dk_at dksL_law_60 14 rfl rfl)
theorem dL_law_1475 : decode cL_law 1475 = .ok (.if_icmp .eq 5, 3) := dk_159 0 5 (dk_at dksL_law_60 16 rfl rfl)
theorem dL_law_1478 : decode cL_law 1478 = .ok (.iconst 0, 1) := dk_3 (dk_at dksL_law_60 19 rfl rfl)
theorem dL_law_1479 : decode cL_law 1479 = .ok (.ireturn, 1) := dk_172 (dk_at dksL_law_60 20 rfl rfl)
theorem dL_law_1480 : decode cL_law 1480 = .ok (.iload 5, 2) := dk_21 5 (dk_at dksL_law_60 21 rfl rfl)
theorem dL_law_1482 : decode cL_law 1482 = .ok (.ifCond .ne 15, 3) := dk_154 0 15 (dk_at dksL_law_61 0 rfl rfl)
theorem dL_law_1485 : decode cL_law 1485 = .ok (.aload_n 3, 1) := dk_45 (dk_at dksL_law_61 3 rfl rfl)
theorem dL_law_1486 : decode cL_law 1486 = .ok (.iconst 0, 1) := dk_3 (dk_at dksL_law_61 4 rfl rfl)
theorem dL_law_1487 : decode cL_law 1487 = .ok (.laload, 1) := dk_47 (dk_at dksL_law_61 5 rfl rfl)
theorem dL_law_1488 : decode cL_law 1488 = .ok (.iload 6, 2) := dk_21 6 (dk_at dksL_law_61 6 rfl rfl)
theorem dL_law_1490 : decode cL_law 1490 = .ok (.i2l, 1) := dk_133 (dk_at dksL_law_61 8 rfl rfl)
theorem dL_law_1491 : decode cL_law 1491 = .ok (.lcmp, 1) := dk_148 (dk_at dksL_law_61 9 rfl rfl)
theorem dL_law_1492 : decode cL_law 1492 = .ok (.ifCond .eq 5, 3) := dk_153 0 5 (dk_at dksL_law_61 10 rfl rfl)
theorem dL_law_1495 : decode cL_law 1495 = .ok (.iconst 0, 1) := dk_3 (dk_at dksL_law_61 13 rfl rfl)
theorem dL_law_1496 : decode cL_law 1496 = .ok (.ireturn, 1) := dk_172 (dk_at dksL_law_61 14 rfl rfl)
theorem dL_law_1497 : decode cL_law 1497 = .ok (.goto 58, 3) := dk_167 0 58 (dk_at dksL_law_61 15 rfl rfl)
theorem dL_law_1500 : decode cL_law 1500 = .ok (.aload_n 1, 1) := dk_43 (dk_at dksL_law_61 18 rfl rfl)
theorem dL_law_1501 : decode cL_law 1501 = .ok (.invokevirtual 153, 3) := dk_182 0 153 (dk_at dksL_law_61 19 rfl rfl)
theorem dL_law_1504 : decode cL_law 1504 = .ok (.dstore 5, 2) := dk_57 5 (dk_at dksL_law_61 22 rfl rfl)
theorem dL_law_1506 : decode cL_law 1506 = .ok (.aload_n 2, 1) := dk_44 (dk_at dksL_law_62 0 rfl rfl)
theorem dL_law_1507 : decode cL_law 1507 = .ok (.invokevirtual 157, 3) := dk_182 0 157 (dk_at dksL_law_62 1 rfl rfl)
theorem dL_law_1510 : decode cL_law 1510 = .ok (.dstore 7, 2) := dk_57 7 (dk_at dksL_law_62 4 rfl rfl)
theorem dL_law_1512 : decode cL_law 1512 = .ok (.dload 5, 2) := dk_24 5 (dk_at dksL_law_62 6 rfl rfl)
theorem dL_law_1514 : decode cL_law 1514 = .ok (.dload 7, 2) := dk_24 7 (dk_at dksL_law_62 8 rfl rfl)
theorem dL_law_1516 : decode cL_law 1516 = .ok (.dcmp .l, 1) := dk_151 (dk_at dksL_law_62 10 rfl rfl)
theorem dL_law_1517 : decode cL_law 1517 = .ok (.ifCond .eq 21, 3) := dk_153 0 21 (dk_at dksL_law_62 11 rfl rfl)
theorem dL_law_1520 : decode cL_law 1520 = .ok (.dload 5, 2) := dk_24 5 (dk_at dksL_law_62 14 rfl rfl)
theorem dL_law_1522 : decode cL_law 1522 = .ok (.dload 5, 2) := dk_24 5 (dk_at dksL_law_62 16 rfl rfl)
theorem dL_law_1524 : decode cL_law 1524 = .ok (.dcmp .l, 1) := dk_151 (dk_at dksL_law_62 18 rfl rfl)
theorem dL_law_1525 : decode cL_law 1525 = .ok (.ifCond .eq 11, 3) := dk_153 0 11 (dk_at dksL_law_62 19 rfl rfl)
theorem dL_law_1528 : decode cL_law 1528 = .ok (.dload 7, 2) := dk_24 7 (dk_at dksL_law_62 22 rfl rfl)
theorem dL_law_1530 : decode cL_law 1530 = .ok (.dload 7, 2) := dk_24 7 (dk_at dksL_law_63 0 rfl rfl)
theorem dL_law_1532 : decode cL_law 1532 = .ok (.dcmp .l, 1) := dk_151 (dk_at dksL_law_63 2 rfl rfl)
theorem dL_law_1533 : decode cL_law 1533 = .ok (.ifCond .ne 5, 3) := dk_154 0 5 (dk_at dksL_law_63 3 rfl rfl)
theorem dL_law_1536 : decode cL_law 1536 = .ok (.iconst 0, 1) := dk_3 (dk_at dksL_law_63 6 rfl rfl)
theorem dL_law_1537 : decode cL_law 1537 = .ok (.ireturn, 1) := dk_172 (dk_at dksL_law_63 7 rfl rfl)
theorem dL_law_1538 : decode cL_law 1538 = .ok (.goto 17, 3) := dk_167 0 17 (dk_at dksL_law_63 8 rfl rfl)
theorem dL_law_1541 : decode cL_law 1541 = .ok (.aload_n 1, 1) := dk_43 (dk_at dksL_law_63 11 rfl rfl)
theorem dL_law_1542 : decode cL_law 1542 = .ok (.invokevirtual 158, 3) := dk_182 0 158 (dk_at dksL_law_63 12 rfl rfl)
theorem dL_law_1545 : decode cL_law 1545 = .ok (.aload_n 2, 1) := dk_44 (dk_at dksL_law_63 15 rfl rfl)
theorem dL_law_1546 : decode cL_law 1546 = .ok (.invokevirtual 162, 3) := dk_182 0 162 (dk_at dksL_law_63 16 rfl rfl)
theorem dL_law_1549 : decode cL_law 1549 = .ok (.lcmp, 1) := dk_148 (dk_at dksL_law_63 19 rfl rfl)
theorem dL_law_1550 : decode cL_law 1550 = .ok (.ifCond .eq 5, 3) := dk_153 0 5 (dk_at dksL_law_63 20 rfl rfl)
theorem dL_law_1553 : decode cL_law 1553 = .ok (.iconst 0, 1) := dk_3 (dk_at dksL_law_63 23 rfl rfl)
theorem dL_law_1554 : decode cL_law 1554 = .ok (.ireturn, 1) := dk_172 (dk_at dksL_law_64 0 rfl rfl)
theorem dL_law_1555 : decode cL_law 1555 = .ok (.iinc 4 5, 3) := dk_132 4 5 (dk_at dksL_law_64 1 rfl rfl)
theorem dL_law_1558 : decode cL_law 1558 = .ok (.goto (-1535), 3) := dk_167 250 1 (dk_at dksL_law_64 4 rfl rfl)
theorem dL_law_1561 : decode cL_law 1561 = .ok (.iconst 1, 1) := dk_4 (dk_at dksL_law_64 7 rfl rfl)
theorem dL_law_1562 : decode cL_law 1562 = .ok (.ireturn, 1) := dk_172 (dk_at dksL_law_64 8 rfl rfl)

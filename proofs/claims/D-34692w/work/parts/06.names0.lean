/-! BackdaterLaw -/
set_option maxRecDepth 100000
def RX0 : String := "BackdaterLaw"
abbrev cX0_open : ByteArray := method_3_code
def yX0_open : MethodName := ⟨RX0, "open", "(LBackdater;I[J)I"⟩
def dkwX0_open_0 : List UInt8 := [44, 3, 42, 27, 182, 0, 7, 133, 80, 167, 0, 9, 78, 4, 172, 78, 5, 172, 3, 172]
abbrev dktX0_open_0 : List UInt8 := dkwX0_open_0 ++ []
theorem dksX0_open_0 : cX0_open.data.toList.drop 0 = dktX0_open_0 := by decide +kernel
theorem dX0_open_0 : decode cX0_open 0 = .ok (.aload_n 2, 1) := dk_44 (dk_at dksX0_open_0 0 rfl rfl)
theorem dX0_open_1 : decode cX0_open 1 = .ok (.iconst 0, 1) := dk_3 (dk_at dksX0_open_0 1 rfl rfl)
theorem dX0_open_2 : decode cX0_open 2 = .ok (.aload_n 0, 1) := dk_42 (dk_at dksX0_open_0 2 rfl rfl)
theorem dX0_open_3 : decode cX0_open 3 = .ok (.iload_n 1, 1) := dk_27 (dk_at dksX0_open_0 3 rfl rfl)
theorem dX0_open_4 : decode cX0_open 4 = .ok (.invokevirtual 7, 3) := dk_182 0 7 (dk_at dksX0_open_0 4 rfl rfl)
theorem dX0_open_7 : decode cX0_open 7 = .ok (.i2l, 1) := dk_133 (dk_at dksX0_open_0 7 rfl rfl)
theorem dX0_open_8 : decode cX0_open 8 = .ok (.lastore, 1) := dk_80 (dk_at dksX0_open_0 8 rfl rfl)
theorem dX0_open_9 : decode cX0_open 9 = .ok (.goto 9, 3) := dk_167 0 9 (dk_at dksX0_open_0 9 rfl rfl)
theorem dX0_open_12 : decode cX0_open 12 = .ok (.astore_n 3, 1) := dk_78 (dk_at dksX0_open_0 12 rfl rfl)
theorem dX0_open_13 : decode cX0_open 13 = .ok (.iconst 1, 1) := dk_4 (dk_at dksX0_open_0 13 rfl rfl)
theorem dX0_open_14 : decode cX0_open 14 = .ok (.ireturn, 1) := dk_172 (dk_at dksX0_open_0 14 rfl rfl)
theorem dX0_open_15 : decode cX0_open 15 = .ok (.astore_n 3, 1) := dk_78 (dk_at dksX0_open_0 15 rfl rfl)
theorem dX0_open_16 : decode cX0_open 16 = .ok (.iconst 2, 1) := dk_5 (dk_at dksX0_open_0 16 rfl rfl)
theorem dX0_open_17 : decode cX0_open 17 = .ok (.ireturn, 1) := dk_172 (dk_at dksX0_open_0 17 rfl rfl)
theorem dX0_open_18 : decode cX0_open 18 = .ok (.iconst 0, 1) := dk_3 (dk_at dksX0_open_0 18 rfl rfl)
theorem dX0_open_19 : decode cX0_open 19 = .ok (.ireturn, 1) := dk_172 (dk_at dksX0_open_0 19 rfl rfl)
abbrev cX0_setWeight : ByteArray := method_4_code
def yX0_setWeight : MethodName := ⟨RX0, "setWeight", "(LBackdater;III[J)I"⟩
def dkwX0_setWeight_1 : List UInt8 := [58, 5, 6, 172, 3, 172]
abbrev dktX0_setWeight_1 : List UInt8 := dkwX0_setWeight_1 ++ []
def dkwX0_setWeight_0 : List UInt8 := [25, 4, 3, 42, 27, 28, 29, 182, 0, 17, 133, 80, 167, 0, 15, 58, 5, 4, 172, 58, 5, 5, 172]
abbrev dktX0_setWeight_0 : List UInt8 := dkwX0_setWeight_0 ++ dktX0_setWeight_1
theorem dksX0_setWeight_0 : cX0_setWeight.data.toList.drop 0 = dktX0_setWeight_0 := by decide +kernel
theorem dksX0_setWeight_1 : cX0_setWeight.data.toList.drop 23 = dktX0_setWeight_1 := dk_seg dksX0_setWeight_0 23 rfl rfl
theorem dX0_setWeight_0 : decode cX0_setWeight 0 = .ok (.aload 4, 2) := dk_25 4 (dk_at dksX0_setWeight_0 0 rfl rfl)
theorem dX0_setWeight_2 : decode cX0_setWeight 2 = .ok (.iconst 0, 1) := dk_3 (dk_at dksX0_setWeight_0 2 rfl rfl)
theorem dX0_setWeight_3 : decode cX0_setWeight 3 = .ok (.aload_n 0, 1) := dk_42 (dk_at dksX0_setWeight_0 3 rfl rfl)
theorem dX0_setWeight_4 : decode cX0_setWeight 4 = .ok (.iload_n 1, 1) := dk_27 (dk_at dksX0_setWeight_0 4 rfl rfl)
theorem dX0_setWeight_5 : decode cX0_setWeight 5 = .ok (.iload_n 2, 1) := dk_28 (dk_at dksX0_setWeight_0 5 rfl rfl)
theorem dX0_setWeight_6 : decode cX0_setWeight 6 = .ok (.iload_n 3, 1) := dk_29 (dk_at dksX0_setWeight_0 6 rfl rfl)
theorem dX0_setWeight_7 : decode cX0_setWeight 7 = .ok (.invokevirtual 17, 3) := dk_182 0 17 (dk_at dksX0_setWeight_0 7 rfl rfl)
theorem dX0_setWeight_10 : decode cX0_setWeight 10 = .ok (.i2l, 1) := dk_133 (dk_at dksX0_setWeight_0 10 rfl rfl)
theorem dX0_setWeight_11 : decode cX0_setWeight 11 = .ok (.lastore, 1) := dk_80 (dk_at dksX0_setWeight_0 11 rfl rfl)
theorem dX0_setWeight_12 : decode cX0_setWeight 12 = .ok (.goto 15, 3) := dk_167 0 15 (dk_at dksX0_setWeight_0 12 rfl rfl)
theorem dX0_setWeight_15 : decode cX0_setWeight 15 = .ok (.astore 5, 2) := dk_58 5 (dk_at dksX0_setWeight_0 15 rfl rfl)
theorem dX0_setWeight_17 : decode cX0_setWeight 17 = .ok (.iconst 1, 1) := dk_4 (dk_at dksX0_setWeight_0 17 rfl rfl)
theorem dX0_setWeight_18 : decode cX0_setWeight 18 = .ok (.ireturn, 1) := dk_172 (dk_at dksX0_setWeight_0 18 rfl rfl)
theorem dX0_setWeight_19 : decode cX0_setWeight 19 = .ok (.astore 5, 2) := dk_58 5 (dk_at dksX0_setWeight_0 19 rfl rfl)
theorem dX0_setWeight_21 : decode cX0_setWeight 21 = .ok (.iconst 2, 1) := dk_5 (dk_at dksX0_setWeight_0 21 rfl rfl)
theorem dX0_setWeight_22 : decode cX0_setWeight 22 = .ok (.ireturn, 1) := dk_172 (dk_at dksX0_setWeight_0 22 rfl rfl)
theorem dX0_setWeight_23 : decode cX0_setWeight 23 = .ok (.astore 5, 2) := dk_58 5 (dk_at dksX0_setWeight_1 0 rfl rfl)
theorem dX0_setWeight_25 : decode cX0_setWeight 25 = .ok (.iconst 3, 1) := dk_6 (dk_at dksX0_setWeight_1 2 rfl rfl)
theorem dX0_setWeight_26 : decode cX0_setWeight 26 = .ok (.ireturn, 1) := dk_172 (dk_at dksX0_setWeight_1 3 rfl rfl)
theorem dX0_setWeight_27 : decode cX0_setWeight 27 = .ok (.iconst 0, 1) := dk_3 (dk_at dksX0_setWeight_1 4 rfl rfl)
theorem dX0_setWeight_28 : decode cX0_setWeight 28 = .ok (.ireturn, 1) := dk_172 (dk_at dksX0_setWeight_1 5 rfl rfl)
abbrev cX0_pass : ByteArray := method_5_code
def yX0_pass : MethodName := ⟨RX0, "pass", "(LBackdater;I[J)I"⟩
def dkwX0_pass_0 : List UInt8 := [44, 3, 42, 27, 182, 0, 23, 133, 80, 167, 0, 6, 78, 4, 172, 3, 172]
abbrev dktX0_pass_0 : List UInt8 := dkwX0_pass_0 ++ []
theorem dksX0_pass_0 : cX0_pass.data.toList.drop 0 = dktX0_pass_0 := by decide +kernel
theorem dX0_pass_0 : decode cX0_pass 0 = .ok (.aload_n 2, 1) := dk_44 (dk_at dksX0_pass_0 0 rfl rfl)
theorem dX0_pass_1 : decode cX0_pass 1 = .ok (.iconst 0, 1) := dk_3 (dk_at dksX0_pass_0 1 rfl rfl)
theorem dX0_pass_2 : decode cX0_pass 2 = .ok (.aload_n 0, 1) := dk_42 (dk_at dksX0_pass_0 2 rfl rfl)
theorem dX0_pass_3 : decode cX0_pass 3 = .ok (.iload_n 1, 1) := dk_27 (dk_at dksX0_pass_0 3 rfl rfl)
theorem dX0_pass_4 : decode cX0_pass 4 = .ok (.invokevirtual 23, 3) := dk_182 0 23 (dk_at dksX0_pass_0 4 rfl rfl)
theorem dX0_pass_7 : decode cX0_pass 7 = .ok (.i2l, 1) := dk_133 (dk_at dksX0_pass_0 7 rfl rfl)
theorem dX0_pass_8 : decode cX0_pass 8 = .ok (.lastore, 1) := dk_80 (dk_at dksX0_pass_0 8 rfl rfl)
theorem dX0_pass_9 : decode cX0_pass 9 = .ok (.goto 6, 3) := dk_167 0 6 (dk_at dksX0_pass_0 9 rfl rfl)
theorem dX0_pass_12 : decode cX0_pass 12 = .ok (.astore_n 3, 1) := dk_78 (dk_at dksX0_pass_0 12 rfl rfl)
theorem dX0_pass_13 : decode cX0_pass 13 = .ok (.iconst 1, 1) := dk_4 (dk_at dksX0_pass_0 13 rfl rfl)
theorem dX0_pass_14 : decode cX0_pass 14 = .ok (.ireturn, 1) := dk_172 (dk_at dksX0_pass_0 14 rfl rfl)
theorem dX0_pass_15 : decode cX0_pass 15 = .ok (.iconst 0, 1) := dk_3 (dk_at dksX0_pass_0 15 rfl rfl)
theorem dX0_pass_16 : decode cX0_pass 16 = .ok (.ireturn, 1) := dk_172 (dk_at dksX0_pass_0 16 rfl rfl)
abbrev cX0_change : ByteArray := method_6_code
def yX0_change : MethodName := ⟨RX0, "change", "(LBackdater;IIII[J)I"⟩
def dkwX0_change_1 : List UInt8 := [172, 58, 6, 6, 172, 3, 172]
abbrev dktX0_change_1 : List UInt8 := dkwX0_change_1 ++ []
def dkwX0_change_0 : List UInt8 := [25, 5, 3, 42, 27, 28, 29, 21, 4, 182, 0, 26, 133, 80, 167, 0, 15, 58, 6, 4, 172, 58, 6, 5]
abbrev dktX0_change_0 : List UInt8 := dkwX0_change_0 ++ dktX0_change_1
theorem dksX0_change_0 : cX0_change.data.toList.drop 0 = dktX0_change_0 := by decide +kernel
theorem dksX0_change_1 : cX0_change.data.toList.drop 24 = dktX0_change_1 := dk_seg dksX0_change_0 24 rfl rfl
theorem dX0_change_0 : decode cX0_change 0 = .ok (.aload 5, 2) := dk_25 5 (dk_at dksX0_change_0 0 rfl rfl)
theorem dX0_change_2 : decode cX0_change 2 = .ok (.iconst 0, 1) := dk_3 (dk_at dksX0_change_0 2 rfl rfl)
theorem dX0_change_3 : decode cX0_change 3 = .ok (.aload_n 0, 1) := dk_42 (dk_at dksX0_change_0 3 rfl rfl)
theorem dX0_change_4 : decode cX0_change 4 = .ok (.iload_n 1, 1) := dk_27 (dk_at dksX0_change_0 4 rfl rfl)
theorem dX0_change_5 : decode cX0_change 5 = .ok (.iload_n 2, 1) := dk_28 (dk_at dksX0_change_0 5 rfl rfl)
theorem dX0_change_6 : decode cX0_change 6 = .ok (.iload_n 3, 1) := dk_29 (dk_at dksX0_change_0 6 rfl rfl)
theorem dX0_change_7 : decode cX0_change 7 = .ok (.iload 4, 2) := dk_21 4 (dk_at dksX0_change_0 7 rfl rfl)
theorem dX0_change_9 : decode cX0_change 9 = .ok (.invokevirtual 26, 3) := dk_182 0 26 (dk_at dksX0_change_0 9 rfl rfl)
theorem dX0_change_12 : decode cX0_change 12 = .ok (.i2l, 1) := dk_133 (dk_at dksX0_change_0 12 rfl rfl)
theorem dX0_change_13 : decode cX0_change 13 = .ok (.lastore, 1) := dk_80 (dk_at dksX0_change_0 13 rfl rfl)
theorem dX0_change_14 : decode cX0_change 14 = .ok (.goto 15, 3) := dk_167 0 15 (dk_at dksX0_change_0 14 rfl rfl)
theorem dX0_change_17 : decode cX0_change 17 = .ok (.astore 6, 2) := dk_58 6 (dk_at dksX0_change_0 17 rfl rfl)
theorem dX0_change_19 : decode cX0_change 19 = .ok (.iconst 1, 1) := dk_4 (dk_at dksX0_change_0 19 rfl rfl)
theorem dX0_change_20 : decode cX0_change 20 = .ok (.ireturn, 1) := dk_172 (dk_at dksX0_change_0 20 rfl rfl)
theorem dX0_change_21 : decode cX0_change 21 = .ok (.astore 6, 2) := dk_58 6 (dk_at dksX0_change_0 21 rfl rfl)
theorem dX0_change_23 : decode cX0_change 23 = .ok (.iconst 2, 1) := dk_5 (dk_at dksX0_change_0 23 rfl rfl)
theorem dX0_change_24 : decode cX0_change 24 = .ok (.ireturn, 1) := dk_172 (dk_at dksX0_change_1 0 rfl rfl)
theorem dX0_change_25 : decode cX0_change 25 = .ok (.astore 6, 2) := dk_58 6 (dk_at dksX0_change_1 1 rfl rfl)
theorem dX0_change_27 : decode cX0_change 27 = .ok (.iconst 3, 1) := dk_6 (dk_at dksX0_change_1 3 rfl rfl)
theorem dX0_change_28 : decode cX0_change 28 = .ok (.ireturn, 1) := dk_172 (dk_at dksX0_change_1 4 rfl rfl)
theorem dX0_change_29 : decode cX0_change 29 = .ok (.iconst 0, 1) := dk_3 (dk_at dksX0_change_1 5 rfl rfl)
theorem dX0_change_30 : decode cX0_change 30 = .ok (.ireturn, 1) := dk_172 (dk_at dksX0_change_1 6 rfl rfl)
abbrev cX0_add : ByteArray := method_7_code
def yX0_add : MethodName := ⟨RX0, "add", "(LBackdater;IIII[J)I"⟩
def dkwX0_add_1 : List UInt8 := [172, 58, 6, 6, 172, 3, 172]
abbrev dktX0_add_1 : List UInt8 := dkwX0_add_1 ++ []
def dkwX0_add_0 : List UInt8 := [25, 5, 3, 42, 27, 28, 29, 21, 4, 182, 0, 30, 133, 80, 167, 0, 15, 58, 6, 4, 172, 58, 6, 5]
abbrev dktX0_add_0 : List UInt8 := dkwX0_add_0 ++ dktX0_add_1
theorem dksX0_add_0 : cX0_add.data.toList.drop 0 = dktX0_add_0 := by decide +kernel
theorem dksX0_add_1 : cX0_add.data.toList.drop 24 = dktX0_add_1 := dk_seg dksX0_add_0 24 rfl rfl
theorem dX0_add_0 : decode cX0_add 0 = .ok (.aload 5, 2) := dk_25 5 (dk_at dksX0_add_0 0 rfl rfl)
theorem dX0_add_2 : decode cX0_add 2 = .ok (.iconst 0, 1) := dk_3 (dk_at dksX0_add_0 2 rfl rfl)
theorem dX0_add_3 : decode cX0_add 3 = .ok (.aload_n 0, 1) := dk_42 (dk_at dksX0_add_0 3 rfl rfl)
theorem dX0_add_4 : decode cX0_add 4 = .ok (.iload_n 1, 1) := dk_27 (dk_at dksX0_add_0 4 rfl rfl)
theorem dX0_add_5 : decode cX0_add 5 = .ok (.iload_n 2, 1) := dk_28 (dk_at dksX0_add_0 5 rfl rfl)
theorem dX0_add_6 : decode cX0_add 6 = .ok (.iload_n 3, 1) := dk_29 (dk_at dksX0_add_0 6 rfl rfl)
theorem dX0_add_7 : decode cX0_add 7 = .ok (.iload 4, 2) := dk_21 4 (dk_at dksX0_add_0 7 rfl rfl)
theorem dX0_add_9 : decode cX0_add 9 = .ok (.invokevirtual 30, 3) := dk_182 0 30 (dk_at dksX0_add_0 9 rfl rfl)
theorem dX0_add_12 : decode cX0_add 12 = .ok (.i2l, 1) := dk_133 (dk_at dksX0_add_0 12 rfl rfl)
theorem dX0_add_13 : decode cX0_add 13 = .ok (.lastore, 1) := dk_80 (dk_at dksX0_add_0 13 rfl rfl)
theorem dX0_add_14 : decode cX0_add 14 = .ok (.goto 15, 3) := dk_167 0 15 (dk_at dksX0_add_0 14 rfl rfl)
theorem dX0_add_17 : decode cX0_add 17 = .ok (.astore 6, 2) := dk_58 6 (dk_at dksX0_add_0 17 rfl rfl)
theorem dX0_add_19 : decode cX0_add 19 = .ok (.iconst 1, 1) := dk_4 (dk_at dksX0_add_0 19 rfl rfl)
theorem dX0_add_20 : decode cX0_add 20 = .ok (.ireturn, 1) := dk_172 (dk_at dksX0_add_0 20 rfl rfl)
theorem dX0_add_21 : decode cX0_add 21 = .ok (.astore 6, 2) := dk_58 6 (dk_at dksX0_add_0 21 rfl rfl)
theorem dX0_add_23 : decode cX0_add 23 = .ok (.iconst 2, 1) := dk_5 (dk_at dksX0_add_0 23 rfl rfl)
theorem dX0_add_24 : decode cX0_add 24 = .ok (.ireturn, 1) := dk_172 (dk_at dksX0_add_1 0 rfl rfl)
theorem dX0_add_25 : decode cX0_add 25 = .ok (.astore 6, 2) := dk_58 6 (dk_at dksX0_add_1 1 rfl rfl)
theorem dX0_add_27 : decode cX0_add 27 = .ok (.iconst 3, 1) := dk_6 (dk_at dksX0_add_1 3 rfl rfl)
theorem dX0_add_28 : decode cX0_add 28 = .ok (.ireturn, 1) := dk_172 (dk_at dksX0_add_1 4 rfl rfl)
theorem dX0_add_29 : decode cX0_add 29 = .ok (.iconst 0, 1) := dk_3 (dk_at dksX0_add_1 5 rfl rfl)
theorem dX0_add_30 : decode cX0_add 30 = .ok (.ireturn, 1) := dk_172 (dk_at dksX0_add_1 6 rfl rfl)
abbrev cX0_cancel : ByteArray := method_8_code
def yX0_cancel : MethodName := ⟨RX0, "cancel", "(LBackdater;II[J)I"⟩
def dkwX0_cancel_1 : List UInt8 := [172, 3, 172]
abbrev dktX0_cancel_1 : List UInt8 := dkwX0_cancel_1 ++ []
def dkwX0_cancel_0 : List UInt8 := [45, 3, 42, 27, 28, 182, 0, 33, 133, 80, 167, 0, 15, 58, 4, 4, 172, 58, 4, 5, 172, 58, 4, 6]
abbrev dktX0_cancel_0 : List UInt8 := dkwX0_cancel_0 ++ dktX0_cancel_1
theorem dksX0_cancel_0 : cX0_cancel.data.toList.drop 0 = dktX0_cancel_0 := by decide +kernel
theorem dksX0_cancel_1 : cX0_cancel.data.toList.drop 24 = dktX0_cancel_1 := dk_seg dksX0_cancel_0 24 rfl rfl
theorem dX0_cancel_0 : decode cX0_cancel 0 = .ok (.aload_n 3, 1) := dk_45 (dk_at dksX0_cancel_0 0 rfl rfl)
theorem dX0_cancel_1 : decode cX0_cancel 1 = .ok (.iconst 0, 1) := dk_3 (dk_at dksX0_cancel_0 1 rfl rfl)
theorem dX0_cancel_2 : decode cX0_cancel 2 = .ok (.aload_n 0, 1) := dk_42 (dk_at dksX0_cancel_0 2 rfl rfl)
theorem dX0_cancel_3 : decode cX0_cancel 3 = .ok (.iload_n 1, 1) := dk_27 (dk_at dksX0_cancel_0 3 rfl rfl)
theorem dX0_cancel_4 : decode cX0_cancel 4 = .ok (.iload_n 2, 1) := dk_28 (dk_at dksX0_cancel_0 4 rfl rfl)
theorem dX0_cancel_5 : decode cX0_cancel 5 = .ok (.invokevirtual 33, 3) := dk_182 0 33 (dk_at dksX0_cancel_0 5 rfl rfl)
theorem dX0_cancel_8 : decode cX0_cancel 8 = .ok (.i2l, 1) := dk_133 (dk_at dksX0_cancel_0 8 rfl rfl)
theorem dX0_cancel_9 : decode cX0_cancel 9 = .ok (.lastore, 1) := dk_80 (dk_at dksX0_cancel_0 9 rfl rfl)
theorem dX0_cancel_10 : decode cX0_cancel 10 = .ok (.goto 15, 3) := dk_167 0 15 (dk_at dksX0_cancel_0 10 rfl rfl)
theorem dX0_cancel_13 : decode cX0_cancel 13 = .ok (.astore 4, 2) := dk_58 4 (dk_at dksX0_cancel_0 13 rfl rfl)
theorem dX0_cancel_15 : decode cX0_cancel 15 = .ok (.iconst 1, 1) := dk_4 (dk_at dksX0_cancel_0 15 rfl rfl)
theorem dX0_cancel_16 : decode cX0_cancel 16 = .ok (.ireturn, 1) := dk_172 (dk_at dksX0_cancel_0 16 rfl rfl)
theorem dX0_cancel_17 : decode cX0_cancel 17 = .ok (.astore 4, 2) := dk_58 4 (dk_at dksX0_cancel_0 17 rfl rfl)
theorem dX0_cancel_19 : decode cX0_cancel 19 = .ok (.iconst 2, 1) := dk_5 (dk_at dksX0_cancel_0 19 rfl rfl)
theorem dX0_cancel_20 : decode cX0_cancel 20 = .ok (.ireturn, 1) := dk_172 (dk_at dksX0_cancel_0 20 rfl rfl)
theorem dX0_cancel_21 : decode cX0_cancel 21 = .ok (.astore 4, 2) := dk_58 4 (dk_at dksX0_cancel_0 21 rfl rfl)
theorem dX0_cancel_23 : decode cX0_cancel 23 = .ok (.iconst 3, 1) := dk_6 (dk_at dksX0_cancel_0 23 rfl rfl)
theorem dX0_cancel_24 : decode cX0_cancel 24 = .ok (.ireturn, 1) := dk_172 (dk_at dksX0_cancel_1 0 rfl rfl)
theorem dX0_cancel_25 : decode cX0_cancel 25 = .ok (.iconst 0, 1) := dk_3 (dk_at dksX0_cancel_1 1 rfl rfl)
theorem dX0_cancel_26 : decode cX0_cancel 26 = .ok (.ireturn, 1) := dk_172 (dk_at dksX0_cancel_1 2 rfl rfl)
abbrev cX0_reinstate : ByteArray := method_9_code
def yX0_reinstate : MethodName := ⟨RX0, "reinstate", "(LBackdater;II[J)I"⟩
def dkwX0_reinstate_1 : List UInt8 := [172, 3, 172]
abbrev dktX0_reinstate_1 : List UInt8 := dkwX0_reinstate_1 ++ []
def dkwX0_reinstate_0 : List UInt8 := [45, 3, 42, 27, 28, 182, 0, 37, 133, 80, 167, 0, 15, 58, 4, 4, 172, 58, 4, 5, 172, 58, 4, 6]
abbrev dktX0_reinstate_0 : List UInt8 := dkwX0_reinstate_0 ++ dktX0_reinstate_1
theorem dksX0_reinstate_0 : cX0_reinstate.data.toList.drop 0 = dktX0_reinstate_0 := by decide +kernel
theorem dksX0_reinstate_1 : cX0_reinstate.data.toList.drop 24 = dktX0_reinstate_1 := dk_seg dksX0_reinstate_0 24 rfl rfl
theorem dX0_reinstate_0 : decode cX0_reinstate 0 = .ok (.aload_n 3, 1) := dk_45 (dk_at dksX0_reinstate_0 0 rfl rfl)
theorem dX0_reinstate_1 : decode cX0_reinstate 1 = .ok (.iconst 0, 1) := dk_3 (dk_at dksX0_reinstate_0 1 rfl rfl)
theorem dX0_reinstate_2 : decode cX0_reinstate 2 = .ok (.aload_n 0, 1) := dk_42 (dk_at dksX0_reinstate_0 2 rfl rfl)
theorem dX0_reinstate_3 : decode cX0_reinstate 3 = .ok (.iload_n 1, 1) := dk_27 (dk_at dksX0_reinstate_0 3 rfl rfl)
theorem dX0_reinstate_4 : decode cX0_reinstate 4 = .ok (.iload_n 2, 1) := dk_28 (dk_at dksX0_reinstate_0 4 rfl rfl)
theorem dX0_reinstate_5 : decode cX0_reinstate 5 = .ok (.invokevirtual 37, 3) := dk_182 0 37 (dk_at dksX0_reinstate_0 5 rfl rfl)
theorem dX0_reinstate_8 : decode cX0_reinstate 8 = .ok (.i2l, 1) := dk_133 (dk_at dksX0_reinstate_0 8 rfl rfl)
theorem dX0_reinstate_9 : decode cX0_reinstate 9 = .ok (.lastore, 1) := dk_80 (dk_at dksX0_reinstate_0 9 rfl rfl)
theorem dX0_reinstate_10 : decode cX0_reinstate 10 = .ok (.goto 15, 3) := dk_167 0 15 (dk_at dksX0_reinstate_0 10 rfl rfl)
theorem dX0_reinstate_13 : decode cX0_reinstate 13 = .ok (.astore 4, 2) := dk_58 4 (dk_at dksX0_reinstate_0 13 rfl rfl)
theorem dX0_reinstate_15 : decode cX0_reinstate 15 = .ok (.iconst 1, 1) := dk_4 (dk_at dksX0_reinstate_0 15 rfl rfl)
theorem dX0_reinstate_16 : decode cX0_reinstate 16 = .ok (.ireturn, 1) := dk_172 (dk_at dksX0_reinstate_0 16 rfl rfl)
theorem dX0_reinstate_17 : decode cX0_reinstate 17 = .ok (.astore 4, 2) := dk_58 4 (dk_at dksX0_reinstate_0 17 rfl rfl)
theorem dX0_reinstate_19 : decode cX0_reinstate 19 = .ok (.iconst 2, 1) := dk_5 (dk_at dksX0_reinstate_0 19 rfl rfl)
theorem dX0_reinstate_20 : decode cX0_reinstate 20 = .ok (.ireturn, 1) := dk_172 (dk_at dksX0_reinstate_0 20 rfl rfl)
theorem dX0_reinstate_21 : decode cX0_reinstate 21 = .ok (.astore 4, 2) := dk_58 4 (dk_at dksX0_reinstate_0 21 rfl rfl)
theorem dX0_reinstate_23 : decode cX0_reinstate 23 = .ok (.iconst 3, 1) := dk_6 (dk_at dksX0_reinstate_0 23 rfl rfl)
theorem dX0_reinstate_24 : decode cX0_reinstate 24 = .ok (.ireturn, 1) := dk_172 (dk_at dksX0_reinstate_1 0 rfl rfl)
theorem dX0_reinstate_25 : decode cX0_reinstate 25 = .ok (.iconst 0, 1) := dk_3 (dk_at dksX0_reinstate_1 1 rfl rfl)
theorem dX0_reinstate_26 : decode cX0_reinstate 26 = .ok (.ireturn, 1) := dk_172 (dk_at dksX0_reinstate_1 2 rfl rfl)
abbrev cX0_takeBack : ByteArray := method_10_code
def yX0_takeBack : MethodName := ⟨RX0, "takeBack", "(LBackdater;I[J)I"⟩
def dkwX0_takeBack_0 : List UInt8 := [44, 3, 42, 27, 182, 0, 40, 133, 80, 167, 0, 9, 78, 4, 172, 78, 5, 172, 3, 172]
abbrev dktX0_takeBack_0 : List UInt8 := dkwX0_takeBack_0 ++ []
theorem dksX0_takeBack_0 : cX0_takeBack.data.toList.drop 0 = dktX0_takeBack_0 := by decide +kernel
theorem dX0_takeBack_0 : decode cX0_takeBack 0 = .ok (.aload_n 2, 1) := dk_44 (dk_at dksX0_takeBack_0 0 rfl rfl)
theorem dX0_takeBack_1 : decode cX0_takeBack 1 = .ok (.iconst 0, 1) := dk_3 (dk_at dksX0_takeBack_0 1 rfl rfl)
theorem dX0_takeBack_2 : decode cX0_takeBack 2 = .ok (.aload_n 0, 1) := dk_42 (dk_at dksX0_takeBack_0 2 rfl rfl)
theorem dX0_takeBack_3 : decode cX0_takeBack 3 = .ok (.iload_n 1, 1) := dk_27 (dk_at dksX0_takeBack_0 3 rfl rfl)
theorem dX0_takeBack_4 : decode cX0_takeBack 4 = .ok (.invokevirtual 40, 3) := dk_182 0 40 (dk_at dksX0_takeBack_0 4 rfl rfl)
theorem dX0_takeBack_7 : decode cX0_takeBack 7 = .ok (.i2l, 1) := dk_133 (dk_at dksX0_takeBack_0 7 rfl rfl)
theorem dX0_takeBack_8 : decode cX0_takeBack 8 = .ok (.lastore, 1) := dk_80 (dk_at dksX0_takeBack_0 8 rfl rfl)
theorem dX0_takeBack_9 : decode cX0_takeBack 9 = .ok (.goto 9, 3) := dk_167 0 9 (dk_at dksX0_takeBack_0 9 rfl rfl)
theorem dX0_takeBack_12 : decode cX0_takeBack 12 = .ok (.astore_n 3, 1) := dk_78 (dk_at dksX0_takeBack_0 12 rfl rfl)
theorem dX0_takeBack_13 : decode cX0_takeBack 13 = .ok (.iconst 1, 1) := dk_4 (dk_at dksX0_takeBack_0 13 rfl rfl)
theorem dX0_takeBack_14 : decode cX0_takeBack 14 = .ok (.ireturn, 1) := dk_172 (dk_at dksX0_takeBack_0 14 rfl rfl)
theorem dX0_takeBack_15 : decode cX0_takeBack 15 = .ok (.astore_n 3, 1) := dk_78 (dk_at dksX0_takeBack_0 15 rfl rfl)
theorem dX0_takeBack_16 : decode cX0_takeBack 16 = .ok (.iconst 2, 1) := dk_5 (dk_at dksX0_takeBack_0 16 rfl rfl)
theorem dX0_takeBack_17 : decode cX0_takeBack 17 = .ok (.ireturn, 1) := dk_172 (dk_at dksX0_takeBack_0 17 rfl rfl)
theorem dX0_takeBack_18 : decode cX0_takeBack 18 = .ok (.iconst 0, 1) := dk_3 (dk_at dksX0_takeBack_0 18 rfl rfl)
theorem dX0_takeBack_19 : decode cX0_takeBack 19 = .ok (.ireturn, 1) := dk_172 (dk_at dksX0_takeBack_0 19 rfl rfl)
abbrev cX0_laidAnew : ByteArray := method_11_code
def yX0_laidAnew : MethodName := ⟨RX0, "laidAnew", "(LBackdater;I[J)I"⟩
def dkwX0_laidAnew_0 : List UInt8 := [44, 3, 42, 27, 182, 0, 43, 133, 80, 167, 0, 6, 78, 4, 172, 3, 172]
abbrev dktX0_laidAnew_0 : List UInt8 := dkwX0_laidAnew_0 ++ []
theorem dksX0_laidAnew_0 : cX0_laidAnew.data.toList.drop 0 = dktX0_laidAnew_0 := by decide +kernel
theorem dX0_laidAnew_0 : decode cX0_laidAnew 0 = .ok (.aload_n 2, 1) := dk_44 (dk_at dksX0_laidAnew_0 0 rfl rfl)
theorem dX0_laidAnew_1 : decode cX0_laidAnew 1 = .ok (.iconst 0, 1) := dk_3 (dk_at dksX0_laidAnew_0 1 rfl rfl)
theorem dX0_laidAnew_2 : decode cX0_laidAnew 2 = .ok (.aload_n 0, 1) := dk_42 (dk_at dksX0_laidAnew_0 2 rfl rfl)
theorem dX0_laidAnew_3 : decode cX0_laidAnew 3 = .ok (.iload_n 1, 1) := dk_27 (dk_at dksX0_laidAnew_0 3 rfl rfl)
theorem dX0_laidAnew_4 : decode cX0_laidAnew 4 = .ok (.invokevirtual 43, 3) := dk_182 0 43 (dk_at dksX0_laidAnew_0 4 rfl rfl)
theorem dX0_laidAnew_7 : decode cX0_laidAnew 7 = .ok (.i2l, 1) := dk_133 (dk_at dksX0_laidAnew_0 7 rfl rfl)
theorem dX0_laidAnew_8 : decode cX0_laidAnew 8 = .ok (.lastore, 1) := dk_80 (dk_at dksX0_laidAnew_0 8 rfl rfl)
theorem dX0_laidAnew_9 : decode cX0_laidAnew 9 = .ok (.goto 6, 3) := dk_167 0 6 (dk_at dksX0_laidAnew_0 9 rfl rfl)
theorem dX0_laidAnew_12 : decode cX0_laidAnew 12 = .ok (.astore_n 3, 1) := dk_78 (dk_at dksX0_laidAnew_0 12 rfl rfl)
theorem dX0_laidAnew_13 : decode cX0_laidAnew 13 = .ok (.iconst 1, 1) := dk_4 (dk_at dksX0_laidAnew_0 13 rfl rfl)
theorem dX0_laidAnew_14 : decode cX0_laidAnew 14 = .ok (.ireturn, 1) := dk_172 (dk_at dksX0_laidAnew_0 14 rfl rfl)
theorem dX0_laidAnew_15 : decode cX0_laidAnew 15 = .ok (.iconst 0, 1) := dk_3 (dk_at dksX0_laidAnew_0 15 rfl rfl)
theorem dX0_laidAnew_16 : decode cX0_laidAnew 16 = .ok (.ireturn, 1) := dk_172 (dk_at dksX0_laidAnew_0 16 rfl rfl)
abbrev cX0_value : ByteArray := method_12_code
def yX0_value : MethodName := ⟨RX0, "value", "(LBackdater;IIII[J)I"⟩
def dkwX0_value_1 : List UInt8 := [172, 3, 172]
abbrev dktX0_value_1 : List UInt8 := dkwX0_value_1 ++ []
def dkwX0_value_0 : List UInt8 := [25, 5, 3, 42, 27, 28, 29, 21, 4, 182, 0, 46, 133, 80, 167, 0, 11, 58, 6, 4, 172, 58, 6, 5]
abbrev dktX0_value_0 : List UInt8 := dkwX0_value_0 ++ dktX0_value_1
theorem dksX0_value_0 : cX0_value.data.toList.drop 0 = dktX0_value_0 := by decide +kernel
theorem dksX0_value_1 : cX0_value.data.toList.drop 24 = dktX0_value_1 := dk_seg dksX0_value_0 24 rfl rfl
theorem dX0_value_0 : decode cX0_value 0 = .ok (.aload 5, 2) := dk_25 5 (dk_at dksX0_value_0 0 rfl rfl)
theorem dX0_value_2 : decode cX0_value 2 = .ok (.iconst 0, 1) := dk_3 (dk_at dksX0_value_0 2 rfl rfl)
theorem dX0_value_3 : decode cX0_value 3 = .ok (.aload_n 0, 1) := dk_42 (dk_at dksX0_value_0 3 rfl rfl)
theorem dX0_value_4 : decode cX0_value 4 = .ok (.iload_n 1, 1) := dk_27 (dk_at dksX0_value_0 4 rfl rfl)
theorem dX0_value_5 : decode cX0_value 5 = .ok (.iload_n 2, 1) := dk_28 (dk_at dksX0_value_0 5 rfl rfl)
theorem dX0_value_6 : decode cX0_value 6 = .ok (.iload_n 3, 1) := dk_29 (dk_at dksX0_value_0 6 rfl rfl)
theorem dX0_value_7 : decode cX0_value 7 = .ok (.iload 4, 2) := dk_21 4 (dk_at dksX0_value_0 7 rfl rfl)
theorem dX0_value_9 : decode cX0_value 9 = .ok (.invokevirtual 46, 3) := dk_182 0 46 (dk_at dksX0_value_0 9 rfl rfl)
theorem dX0_value_12 : decode cX0_value 12 = .ok (.i2l, 1) := dk_133 (dk_at dksX0_value_0 12 rfl rfl)
theorem dX0_value_13 : decode cX0_value 13 = .ok (.lastore, 1) := dk_80 (dk_at dksX0_value_0 13 rfl rfl)
theorem dX0_value_14 : decode cX0_value 14 = .ok (.goto 11, 3) := dk_167 0 11 (dk_at dksX0_value_0 14 rfl rfl)
theorem dX0_value_17 : decode cX0_value 17 = .ok (.astore 6, 2) := dk_58 6 (dk_at dksX0_value_0 17 rfl rfl)
theorem dX0_value_19 : decode cX0_value 19 = .ok (.iconst 1, 1) := dk_4 (dk_at dksX0_value_0 19 rfl rfl)
theorem dX0_value_20 : decode cX0_value 20 = .ok (.ireturn, 1) := dk_172 (dk_at dksX0_value_0 20 rfl rfl)
theorem dX0_value_21 : decode cX0_value 21 = .ok (.astore 6, 2) := dk_58 6 (dk_at dksX0_value_0 21 rfl rfl)
theorem dX0_value_23 : decode cX0_value 23 = .ok (.iconst 2, 1) := dk_5 (dk_at dksX0_value_0 23 rfl rfl)
theorem dX0_value_24 : decode cX0_value 24 = .ok (.ireturn, 1) := dk_172 (dk_at dksX0_value_1 0 rfl rfl)
theorem dX0_value_25 : decode cX0_value 25 = .ok (.iconst 0, 1) := dk_3 (dk_at dksX0_value_1 1 rfl rfl)
theorem dX0_value_26 : decode cX0_value 26 = .ok (.ireturn, 1) := dk_172 (dk_at dksX0_value_1 2 rfl rfl)
abbrev cX0_isCovered : ByteArray := method_13_code
def yX0_isCovered : MethodName := ⟨RX0, "isCovered", "(LBackdater;III[J)I"⟩
def dkwX0_isCovered_1 : List UInt8 := [4, 172, 58, 5, 5, 172, 3, 172]
abbrev dktX0_isCovered_1 : List UInt8 := dkwX0_isCovered_1 ++ []
def dkwX0_isCovered_0 : List UInt8 := [25, 4, 3, 42, 27, 28, 29, 182, 0, 49, 153, 0, 7, 10, 167, 0, 4, 9, 80, 167, 0, 11, 58, 5]
abbrev dktX0_isCovered_0 : List UInt8 := dkwX0_isCovered_0 ++ dktX0_isCovered_1
theorem dksX0_isCovered_0 : cX0_isCovered.data.toList.drop 0 = dktX0_isCovered_0 := by decide +kernel
theorem dksX0_isCovered_1 : cX0_isCovered.data.toList.drop 24 = dktX0_isCovered_1 := dk_seg dksX0_isCovered_0 24 rfl rfl
theorem dX0_isCovered_0 : decode cX0_isCovered 0 = .ok (.aload 4, 2) := dk_25 4 (dk_at dksX0_isCovered_0 0 rfl rfl)
theorem dX0_isCovered_2 : decode cX0_isCovered 2 = .ok (.iconst 0, 1) := dk_3 (dk_at dksX0_isCovered_0 2 rfl rfl)
theorem dX0_isCovered_3 : decode cX0_isCovered 3 = .ok (.aload_n 0, 1) := dk_42 (dk_at dksX0_isCovered_0 3 rfl rfl)
theorem dX0_isCovered_4 : decode cX0_isCovered 4 = .ok (.iload_n 1, 1) := dk_27 (dk_at dksX0_isCovered_0 4 rfl rfl)
theorem dX0_isCovered_5 : decode cX0_isCovered 5 = .ok (.iload_n 2, 1) := dk_28 (dk_at dksX0_isCovered_0 5 rfl rfl)
theorem dX0_isCovered_6 : decode cX0_isCovered 6 = .ok (.iload_n 3, 1) := dk_29 (dk_at dksX0_isCovered_0 6 rfl rfl)
theorem dX0_isCovered_7 : decode cX0_isCovered 7 = .ok (.invokevirtual 49, 3) := dk_182 0 49 (dk_at dksX0_isCovered_0 7 rfl rfl)
theorem dX0_isCovered_10 : decode cX0_isCovered 10 = .ok (.ifCond .eq 7, 3) := dk_153 0 7 (dk_at dksX0_isCovered_0 10 rfl rfl)
theorem dX0_isCovered_13 : decode cX0_isCovered 13 = .ok (.lconst 1, 1) := dk_10 (dk_at dksX0_isCovered_0 13 rfl rfl)
theorem dX0_isCovered_14 : decode cX0_isCovered 14 = .ok (.goto 4, 3) := dk_167 0 4 (dk_at dksX0_isCovered_0 14 rfl rfl)
theorem dX0_isCovered_17 : decode cX0_isCovered 17 = .ok (.lconst 0, 1) := dk_9 (dk_at dksX0_isCovered_0 17 rfl rfl)
theorem dX0_isCovered_18 : decode cX0_isCovered 18 = .ok (.lastore, 1) := dk_80 (dk_at dksX0_isCovered_0 18 rfl rfl)
theorem dX0_isCovered_19 : decode cX0_isCovered 19 = .ok (.goto 11, 3) := dk_167 0 11 (dk_at dksX0_isCovered_0 19 rfl rfl)
theorem dX0_isCovered_22 : decode cX0_isCovered 22 = .ok (.astore 5, 2) := dk_58 5 (dk_at dksX0_isCovered_0 22 rfl rfl)
theorem dX0_isCovered_24 : decode cX0_isCovered 24 = .ok (.iconst 1, 1) := dk_4 (dk_at dksX0_isCovered_1 0 rfl rfl)
theorem dX0_isCovered_25 : decode cX0_isCovered 25 = .ok (.ireturn, 1) := dk_172 (dk_at dksX0_isCovered_1 1 rfl rfl)
theorem dX0_isCovered_26 : decode cX0_isCovered 26 = .ok (.astore 5, 2) := dk_58 5 (dk_at dksX0_isCovered_1 2 rfl rfl)
theorem dX0_isCovered_28 : decode cX0_isCovered 28 = .ok (.iconst 2, 1) := dk_5 (dk_at dksX0_isCovered_1 4 rfl rfl)
theorem dX0_isCovered_29 : decode cX0_isCovered 29 = .ok (.ireturn, 1) := dk_172 (dk_at dksX0_isCovered_1 5 rfl rfl)
theorem dX0_isCovered_30 : decode cX0_isCovered 30 = .ok (.iconst 0, 1) := dk_3 (dk_at dksX0_isCovered_1 6 rfl rfl)
theorem dX0_isCovered_31 : decode cX0_isCovered 31 = .ok (.ireturn, 1) := dk_172 (dk_at dksX0_isCovered_1 7 rfl rfl)
abbrev cX0_rate : ByteArray := method_14_code
def yX0_rate : MethodName := ⟨RX0, "rate", "(LBackdater;III[J)I"⟩
def dkwX0_rate_1 : List UInt8 := [172]
abbrev dktX0_rate_1 : List UInt8 := dkwX0_rate_1 ++ []
def dkwX0_rate_0 : List UInt8 := [25, 4, 3, 42, 27, 28, 29, 182, 0, 53, 133, 80, 167, 0, 11, 58, 5, 4, 172, 58, 5, 5, 172, 3]
abbrev dktX0_rate_0 : List UInt8 := dkwX0_rate_0 ++ dktX0_rate_1
theorem dksX0_rate_0 : cX0_rate.data.toList.drop 0 = dktX0_rate_0 := by decide +kernel
theorem dksX0_rate_1 : cX0_rate.data.toList.drop 24 = dktX0_rate_1 := dk_seg dksX0_rate_0 24 rfl rfl
theorem dX0_rate_0 : decode cX0_rate 0 = .ok (.aload 4, 2) := dk_25 4 (dk_at dksX0_rate_0 0 rfl rfl)
theorem dX0_rate_2 : decode cX0_rate 2 = .ok (.iconst 0, 1) := dk_3 (dk_at dksX0_rate_0 2 rfl rfl)
theorem dX0_rate_3 : decode cX0_rate 3 = .ok (.aload_n 0, 1) := dk_42 (dk_at dksX0_rate_0 3 rfl rfl)
theorem dX0_rate_4 : decode cX0_rate 4 = .ok (.iload_n 1, 1) := dk_27 (dk_at dksX0_rate_0 4 rfl rfl)
theorem dX0_rate_5 : decode cX0_rate 5 = .ok (.iload_n 2, 1) := dk_28 (dk_at dksX0_rate_0 5 rfl rfl)
theorem dX0_rate_6 : decode cX0_rate 6 = .ok (.iload_n 3, 1) := dk_29 (dk_at dksX0_rate_0 6 rfl rfl)
theorem dX0_rate_7 : decode cX0_rate 7 = .ok (.invokevirtual 53, 3) := dk_182 0 53 (dk_at dksX0_rate_0 7 rfl rfl)
theorem dX0_rate_10 : decode cX0_rate 10 = .ok (.i2l, 1) := dk_133 (dk_at dksX0_rate_0 10 rfl rfl)
theorem dX0_rate_11 : decode cX0_rate 11 = .ok (.lastore, 1) := dk_80 (dk_at dksX0_rate_0 11 rfl rfl)
theorem dX0_rate_12 : decode cX0_rate 12 = .ok (.goto 11, 3) := dk_167 0 11 (dk_at dksX0_rate_0 12 rfl rfl)
theorem dX0_rate_15 : decode cX0_rate 15 = .ok (.astore 5, 2) := dk_58 5 (dk_at dksX0_rate_0 15 rfl rfl)
theorem dX0_rate_17 : decode cX0_rate 17 = .ok (.iconst 1, 1) := dk_4 (dk_at dksX0_rate_0 17 rfl rfl)
theorem dX0_rate_18 : decode cX0_rate 18 = .ok (.ireturn, 1) := dk_172 (dk_at dksX0_rate_0 18 rfl rfl)
theorem dX0_rate_19 : decode cX0_rate 19 = .ok (.astore 5, 2) := dk_58 5 (dk_at dksX0_rate_0 19 rfl rfl)
theorem dX0_rate_21 : decode cX0_rate 21 = .ok (.iconst 2, 1) := dk_5 (dk_at dksX0_rate_0 21 rfl rfl)
theorem dX0_rate_22 : decode cX0_rate 22 = .ok (.ireturn, 1) := dk_172 (dk_at dksX0_rate_0 22 rfl rfl)
theorem dX0_rate_23 : decode cX0_rate 23 = .ok (.iconst 0, 1) := dk_3 (dk_at dksX0_rate_0 23 rfl rfl)
theorem dX0_rate_24 : decode cX0_rate 24 = .ok (.ireturn, 1) := dk_172 (dk_at dksX0_rate_1 0 rfl rfl)
abbrev cX0_segments : ByteArray := method_15_code
def yX0_segments : MethodName := ⟨RX0, "segments", "(LBackdater;II[J)I"⟩
def dkwX0_segments_0 : List UInt8 := [45, 3, 42, 27, 28, 182, 0, 56, 133, 80, 167, 0, 11, 58, 4, 4, 172, 58, 4, 5, 172, 3, 172]
abbrev dktX0_segments_0 : List UInt8 := dkwX0_segments_0 ++ []
theorem dksX0_segments_0 : cX0_segments.data.toList.drop 0 = dktX0_segments_0 := by decide +kernel
theorem dX0_segments_0 : decode cX0_segments 0 = .ok (.aload_n 3, 1) := dk_45 (dk_at dksX0_segments_0 0 rfl rfl)
theorem dX0_segments_1 : decode cX0_segments 1 = .ok (.iconst 0, 1) := dk_3 (dk_at dksX0_segments_0 1 rfl rfl)
theorem dX0_segments_2 : decode cX0_segments 2 = .ok (.aload_n 0, 1) := dk_42 (dk_at dksX0_segments_0 2 rfl rfl)
theorem dX0_segments_3 : decode cX0_segments 3 = .ok (.iload_n 1, 1) := dk_27 (dk_at dksX0_segments_0 3 rfl rfl)
theorem dX0_segments_4 : decode cX0_segments 4 = .ok (.iload_n 2, 1) := dk_28 (dk_at dksX0_segments_0 4 rfl rfl)
theorem dX0_segments_5 : decode cX0_segments 5 = .ok (.invokevirtual 56, 3) := dk_182 0 56 (dk_at dksX0_segments_0 5 rfl rfl)
theorem dX0_segments_8 : decode cX0_segments 8 = .ok (.i2l, 1) := dk_133 (dk_at dksX0_segments_0 8 rfl rfl)
theorem dX0_segments_9 : decode cX0_segments 9 = .ok (.lastore, 1) := dk_80 (dk_at dksX0_segments_0 9 rfl rfl)
theorem dX0_segments_10 : decode cX0_segments 10 = .ok (.goto 11, 3) := dk_167 0 11 (dk_at dksX0_segments_0 10 rfl rfl)
theorem dX0_segments_13 : decode cX0_segments 13 = .ok (.astore 4, 2) := dk_58 4 (dk_at dksX0_segments_0 13 rfl rfl)
theorem dX0_segments_15 : decode cX0_segments 15 = .ok (.iconst 1, 1) := dk_4 (dk_at dksX0_segments_0 15 rfl rfl)
theorem dX0_segments_16 : decode cX0_segments 16 = .ok (.ireturn, 1) := dk_172 (dk_at dksX0_segments_0 16 rfl rfl)
theorem dX0_segments_17 : decode cX0_segments 17 = .ok (.astore 4, 2) := dk_58 4 (dk_at dksX0_segments_0 17 rfl rfl)
theorem dX0_segments_19 : decode cX0_segments 19 = .ok (.iconst 2, 1) := dk_5 (dk_at dksX0_segments_0 19 rfl rfl)
theorem dX0_segments_20 : decode cX0_segments 20 = .ok (.ireturn, 1) := dk_172 (dk_at dksX0_segments_0 20 rfl rfl)
theorem dX0_segments_21 : decode cX0_segments 21 = .ok (.iconst 0, 1) := dk_3 (dk_at dksX0_segments_0 21 rfl rfl)
theorem dX0_segments_22 : decode cX0_segments 22 = .ok (.ireturn, 1) := dk_172 (dk_at dksX0_segments_0 22 rfl rfl)
abbrev cX0_segmentStart : ByteArray := method_16_code
def yX0_segmentStart : MethodName := ⟨RX0, "segmentStart", "(LBackdater;III[J)I"⟩
def dkwX0_segmentStart_1 : List UInt8 := [172]
abbrev dktX0_segmentStart_1 : List UInt8 := dkwX0_segmentStart_1 ++ []
def dkwX0_segmentStart_0 : List UInt8 := [25, 4, 3, 42, 27, 28, 29, 182, 0, 59, 133, 80, 167, 0, 11, 58, 5, 4, 172, 58, 5, 5, 172, 3]
abbrev dktX0_segmentStart_0 : List UInt8 := dkwX0_segmentStart_0 ++ dktX0_segmentStart_1
theorem dksX0_segmentStart_0 : cX0_segmentStart.data.toList.drop 0 = dktX0_segmentStart_0 := by decide +kernel
theorem dksX0_segmentStart_1 : cX0_segmentStart.data.toList.drop 24 = dktX0_segmentStart_1 := dk_seg dksX0_segmentStart_0 24 rfl rfl
theorem dX0_segmentStart_0 : decode cX0_segmentStart 0 = .ok (.aload 4, 2) := dk_25 4 (dk_at dksX0_segmentStart_0 0 rfl rfl)
theorem dX0_segmentStart_2 : decode cX0_segmentStart 2 = .ok (.iconst 0, 1) := dk_3 (dk_at dksX0_segmentStart_0 2 rfl rfl)
theorem dX0_segmentStart_3 : decode cX0_segmentStart 3 = .ok (.aload_n 0, 1) := dk_42 (dk_at dksX0_segmentStart_0 3 rfl rfl)
theorem dX0_segmentStart_4 : decode cX0_segmentStart 4 = .ok (.iload_n 1, 1) := dk_27 (dk_at dksX0_segmentStart_0 4 rfl rfl)
theorem dX0_segmentStart_5 : decode cX0_segmentStart 5 = .ok (.iload_n 2, 1) := dk_28 (dk_at dksX0_segmentStart_0 5 rfl rfl)
theorem dX0_segmentStart_6 : decode cX0_segmentStart 6 = .ok (.iload_n 3, 1) := dk_29 (dk_at dksX0_segmentStart_0 6 rfl rfl)
theorem dX0_segmentStart_7 : decode cX0_segmentStart 7 = .ok (.invokevirtual 59, 3) := dk_182 0 59 (dk_at dksX0_segmentStart_0 7 rfl rfl)
theorem dX0_segmentStart_10 : decode cX0_segmentStart 10 = .ok (.i2l, 1) := dk_133 (dk_at dksX0_segmentStart_0 10 rfl rfl)
theorem dX0_segmentStart_11 : decode cX0_segmentStart 11 = .ok (.lastore, 1) := dk_80 (dk_at dksX0_segmentStart_0 11 rfl rfl)
theorem dX0_segmentStart_12 : decode cX0_segmentStart 12 = .ok (.goto 11, 3) := dk_167 0 11 (dk_at dksX0_segmentStart_0 12 rfl rfl)
theorem dX0_segmentStart_15 : decode cX0_segmentStart 15 = .ok (.astore 5, 2) := dk_58 5 (dk_at dksX0_segmentStart_0 15 rfl rfl)
theorem dX0_segmentStart_17 : decode cX0_segmentStart 17 = .ok (.iconst 1, 1) := dk_4 (dk_at dksX0_segmentStart_0 17 rfl rfl)
theorem dX0_segmentStart_18 : decode cX0_segmentStart 18 = .ok (.ireturn, 1) := dk_172 (dk_at dksX0_segmentStart_0 18 rfl rfl)
theorem dX0_segmentStart_19 : decode cX0_segmentStart 19 = .ok (.astore 5, 2) := dk_58 5 (dk_at dksX0_segmentStart_0 19 rfl rfl)
theorem dX0_segmentStart_21 : decode cX0_segmentStart 21 = .ok (.iconst 2, 1) := dk_5 (dk_at dksX0_segmentStart_0 21 rfl rfl)
theorem dX0_segmentStart_22 : decode cX0_segmentStart 22 = .ok (.ireturn, 1) := dk_172 (dk_at dksX0_segmentStart_0 22 rfl rfl)
theorem dX0_segmentStart_23 : decode cX0_segmentStart 23 = .ok (.iconst 0, 1) := dk_3 (dk_at dksX0_segmentStart_0 23 rfl rfl)
theorem dX0_segmentStart_24 : decode cX0_segmentStart 24 = .ok (.ireturn, 1) := dk_172 (dk_at dksX0_segmentStart_1 0 rfl rfl)
abbrev cX0_segmentPremium : ByteArray := method_17_code
def yX0_segmentPremium : MethodName := ⟨RX0, "segmentPremium", "(LBackdater;III[J)I"⟩
def dkwX0_segmentPremium_1 : List UInt8 := [172]
abbrev dktX0_segmentPremium_1 : List UInt8 := dkwX0_segmentPremium_1 ++ []
def dkwX0_segmentPremium_0 : List UInt8 := [25, 4, 3, 42, 27, 28, 29, 182, 0, 62, 133, 80, 167, 0, 11, 58, 5, 4, 172, 58, 5, 5, 172, 3]
abbrev dktX0_segmentPremium_0 : List UInt8 := dkwX0_segmentPremium_0 ++ dktX0_segmentPremium_1
theorem dksX0_segmentPremium_0 : cX0_segmentPremium.data.toList.drop 0 = dktX0_segmentPremium_0 := by decide +kernel
theorem dksX0_segmentPremium_1 : cX0_segmentPremium.data.toList.drop 24 = dktX0_segmentPremium_1 := dk_seg dksX0_segmentPremium_0 24 rfl rfl
theorem dX0_segmentPremium_0 : decode cX0_segmentPremium 0 = .ok (.aload 4, 2) := dk_25 4 (dk_at dksX0_segmentPremium_0 0 rfl rfl)
theorem dX0_segmentPremium_2 : decode cX0_segmentPremium 2 = .ok (.iconst 0, 1) := dk_3 (dk_at dksX0_segmentPremium_0 2 rfl rfl)
theorem dX0_segmentPremium_3 : decode cX0_segmentPremium 3 = .ok (.aload_n 0, 1) := dk_42 (dk_at dksX0_segmentPremium_0 3 rfl rfl)
theorem dX0_segmentPremium_4 : decode cX0_segmentPremium 4 = .ok (.iload_n 1, 1) := dk_27 (dk_at dksX0_segmentPremium_0 4 rfl rfl)
theorem dX0_segmentPremium_5 : decode cX0_segmentPremium 5 = .ok (.iload_n 2, 1) := dk_28 (dk_at dksX0_segmentPremium_0 5 rfl rfl)
theorem dX0_segmentPremium_6 : decode cX0_segmentPremium 6 = .ok (.iload_n 3, 1) := dk_29 (dk_at dksX0_segmentPremium_0 6 rfl rfl)
theorem dX0_segmentPremium_7 : decode cX0_segmentPremium 7 = .ok (.invokevirtual 62, 3) := dk_182 0 62 (dk_at dksX0_segmentPremium_0 7 rfl rfl)
theorem dX0_segmentPremium_10 : decode cX0_segmentPremium 10 = .ok (.i2l, 1) := dk_133 (dk_at dksX0_segmentPremium_0 10 rfl rfl)
theorem dX0_segmentPremium_11 : decode cX0_segmentPremium 11 = .ok (.lastore, 1) := dk_80 (dk_at dksX0_segmentPremium_0 11 rfl rfl)
theorem dX0_segmentPremium_12 : decode cX0_segmentPremium 12 = .ok (.goto 11, 3) := dk_167 0 11 (dk_at dksX0_segmentPremium_0 12 rfl rfl)
theorem dX0_segmentPremium_15 : decode cX0_segmentPremium 15 = .ok (.astore 5, 2) := dk_58 5 (dk_at dksX0_segmentPremium_0 15 rfl rfl)
theorem dX0_segmentPremium_17 : decode cX0_segmentPremium 17 = .ok (.iconst 1, 1) := dk_4 (dk_at dksX0_segmentPremium_0 17 rfl rfl)
theorem dX0_segmentPremium_18 : decode cX0_segmentPremium 18 = .ok (.ireturn, 1) := dk_172 (dk_at dksX0_segmentPremium_0 18 rfl rfl)
theorem dX0_segmentPremium_19 : decode cX0_segmentPremium 19 = .ok (.astore 5, 2) := dk_58 5 (dk_at dksX0_segmentPremium_0 19 rfl rfl)
theorem dX0_segmentPremium_21 : decode cX0_segmentPremium 21 = .ok (.iconst 2, 1) := dk_5 (dk_at dksX0_segmentPremium_0 21 rfl rfl)
theorem dX0_segmentPremium_22 : decode cX0_segmentPremium 22 = .ok (.ireturn, 1) := dk_172 (dk_at dksX0_segmentPremium_0 22 rfl rfl)
theorem dX0_segmentPremium_23 : decode cX0_segmentPremium 23 = .ok (.iconst 0, 1) := dk_3 (dk_at dksX0_segmentPremium_0 23 rfl rfl)
theorem dX0_segmentPremium_24 : decode cX0_segmentPremium 24 = .ok (.ireturn, 1) := dk_172 (dk_at dksX0_segmentPremium_1 0 rfl rfl)
abbrev cX0_premium : ByteArray := method_18_code
def yX0_premium : MethodName := ⟨RX0, "premium", "(LBackdater;II[J)I"⟩
def dkwX0_premium_0 : List UInt8 := [45, 3, 42, 27, 28, 182, 0, 65, 133, 80, 167, 0, 11, 58, 4, 4, 172, 58, 4, 5, 172, 3, 172]
abbrev dktX0_premium_0 : List UInt8 := dkwX0_premium_0 ++ []
theorem dksX0_premium_0 : cX0_premium.data.toList.drop 0 = dktX0_premium_0 := by decide +kernel
theorem dX0_premium_0 : decode cX0_premium 0 = .ok (.aload_n 3, 1) := dk_45 (dk_at dksX0_premium_0 0 rfl rfl)
theorem dX0_premium_1 : decode cX0_premium 1 = .ok (.iconst 0, 1) := dk_3 (dk_at dksX0_premium_0 1 rfl rfl)
theorem dX0_premium_2 : decode cX0_premium 2 = .ok (.aload_n 0, 1) := dk_42 (dk_at dksX0_premium_0 2 rfl rfl)
theorem dX0_premium_3 : decode cX0_premium 3 = .ok (.iload_n 1, 1) := dk_27 (dk_at dksX0_premium_0 3 rfl rfl)
theorem dX0_premium_4 : decode cX0_premium 4 = .ok (.iload_n 2, 1) := dk_28 (dk_at dksX0_premium_0 4 rfl rfl)
theorem dX0_premium_5 : decode cX0_premium 5 = .ok (.invokevirtual 65, 3) := dk_182 0 65 (dk_at dksX0_premium_0 5 rfl rfl)
theorem dX0_premium_8 : decode cX0_premium 8 = .ok (.i2l, 1) := dk_133 (dk_at dksX0_premium_0 8 rfl rfl)
theorem dX0_premium_9 : decode cX0_premium 9 = .ok (.lastore, 1) := dk_80 (dk_at dksX0_premium_0 9 rfl rfl)
theorem dX0_premium_10 : decode cX0_premium 10 = .ok (.goto 11, 3) := dk_167 0 11 (dk_at dksX0_premium_0 10 rfl rfl)
theorem dX0_premium_13 : decode cX0_premium 13 = .ok (.astore 4, 2) := dk_58 4 (dk_at dksX0_premium_0 13 rfl rfl)
theorem dX0_premium_15 : decode cX0_premium 15 = .ok (.iconst 1, 1) := dk_4 (dk_at dksX0_premium_0 15 rfl rfl)
theorem dX0_premium_16 : decode cX0_premium 16 = .ok (.ireturn, 1) := dk_172 (dk_at dksX0_premium_0 16 rfl rfl)
theorem dX0_premium_17 : decode cX0_premium 17 = .ok (.astore 4, 2) := dk_58 4 (dk_at dksX0_premium_0 17 rfl rfl)
theorem dX0_premium_19 : decode cX0_premium 19 = .ok (.iconst 2, 1) := dk_5 (dk_at dksX0_premium_0 19 rfl rfl)
theorem dX0_premium_20 : decode cX0_premium 20 = .ok (.ireturn, 1) := dk_172 (dk_at dksX0_premium_0 20 rfl rfl)
theorem dX0_premium_21 : decode cX0_premium 21 = .ok (.iconst 0, 1) := dk_3 (dk_at dksX0_premium_0 21 rfl rfl)
theorem dX0_premium_22 : decode cX0_premium 22 = .ok (.ireturn, 1) := dk_172 (dk_at dksX0_premium_0 22 rfl rfl)
abbrev cX0_premiumByDays : ByteArray := method_19_code
def yX0_premiumByDays : MethodName := ⟨RX0, "premiumByDays", "(LBackdater;II[J)I"⟩
def dkwX0_premiumByDays_0 : List UInt8 := [45, 3, 42, 27, 28, 182, 0, 68, 133, 80, 167, 0, 11, 58, 4, 4, 172, 58, 4, 5, 172, 3, 172]
abbrev dktX0_premiumByDays_0 : List UInt8 := dkwX0_premiumByDays_0 ++ []
theorem dksX0_premiumByDays_0 : cX0_premiumByDays.data.toList.drop 0 = dktX0_premiumByDays_0 := by decide +kernel
theorem dX0_premiumByDays_0 : decode cX0_premiumByDays 0 = .ok (.aload_n 3, 1) := dk_45 (dk_at dksX0_premiumByDays_0 0 rfl rfl)
theorem dX0_premiumByDays_1 : decode cX0_premiumByDays 1 = .ok (.iconst 0, 1) := dk_3 (dk_at dksX0_premiumByDays_0 1 rfl rfl)
theorem dX0_premiumByDays_2 : decode cX0_premiumByDays 2 = .ok (.aload_n 0, 1) := dk_42 (dk_at dksX0_premiumByDays_0 2 rfl rfl)
theorem dX0_premiumByDays_3 : decode cX0_premiumByDays 3 = .ok (.iload_n 1, 1) := dk_27 (dk_at dksX0_premiumByDays_0 3 rfl rfl)
theorem dX0_premiumByDays_4 : decode cX0_premiumByDays 4 = .ok (.iload_n 2, 1) := dk_28 (dk_at dksX0_premiumByDays_0 4 rfl rfl)
theorem dX0_premiumByDays_5 : decode cX0_premiumByDays 5 = .ok (.invokevirtual 68, 3) := dk_182 0 68 (dk_at dksX0_premiumByDays_0 5 rfl rfl)
theorem dX0_premiumByDays_8 : decode cX0_premiumByDays 8 = .ok (.i2l, 1) := dk_133 (dk_at dksX0_premiumByDays_0 8 rfl rfl)
theorem dX0_premiumByDays_9 : decode cX0_premiumByDays 9 = .ok (.lastore, 1) := dk_80 (dk_at dksX0_premiumByDays_0 9 rfl rfl)
theorem dX0_premiumByDays_10 : decode cX0_premiumByDays 10 = .ok (.goto 11, 3) := dk_167 0 11 (dk_at dksX0_premiumByDays_0 10 rfl rfl)
theorem dX0_premiumByDays_13 : decode cX0_premiumByDays 13 = .ok (.astore 4, 2) := dk_58 4 (dk_at dksX0_premiumByDays_0 13 rfl rfl)
theorem dX0_premiumByDays_15 : decode cX0_premiumByDays 15 = .ok (.iconst 1, 1) := dk_4 (dk_at dksX0_premiumByDays_0 15 rfl rfl)
theorem dX0_premiumByDays_16 : decode cX0_premiumByDays 16 = .ok (.ireturn, 1) := dk_172 (dk_at dksX0_premiumByDays_0 16 rfl rfl)
theorem dX0_premiumByDays_17 : decode cX0_premiumByDays 17 = .ok (.astore 4, 2) := dk_58 4 (dk_at dksX0_premiumByDays_0 17 rfl rfl)
theorem dX0_premiumByDays_19 : decode cX0_premiumByDays 19 = .ok (.iconst 2, 1) := dk_5 (dk_at dksX0_premiumByDays_0 19 rfl rfl)
theorem dX0_premiumByDays_20 : decode cX0_premiumByDays 20 = .ok (.ireturn, 1) := dk_172 (dk_at dksX0_premiumByDays_0 20 rfl rfl)
theorem dX0_premiumByDays_21 : decode cX0_premiumByDays 21 = .ok (.iconst 0, 1) := dk_3 (dk_at dksX0_premiumByDays_0 21 rfl rfl)
theorem dX0_premiumByDays_22 : decode cX0_premiumByDays 22 = .ok (.ireturn, 1) := dk_172 (dk_at dksX0_premiumByDays_0 22 rfl rfl)
abbrev cX0_bill : ByteArray := method_20_code
def yX0_bill : MethodName := ⟨RX0, "bill", "(LBackdater;I[J)I"⟩
def dkwX0_bill_0 : List UInt8 := [44, 3, 42, 27, 182, 0, 71, 133, 80, 167, 0, 6, 78, 4, 172, 3, 172]
abbrev dktX0_bill_0 : List UInt8 := dkwX0_bill_0 ++ []
theorem dksX0_bill_0 : cX0_bill.data.toList.drop 0 = dktX0_bill_0 := by decide +kernel
theorem dX0_bill_0 : decode cX0_bill 0 = .ok (.aload_n 2, 1) := dk_44 (dk_at dksX0_bill_0 0 rfl rfl)
theorem dX0_bill_1 : decode cX0_bill 1 = .ok (.iconst 0, 1) := dk_3 (dk_at dksX0_bill_0 1 rfl rfl)
theorem dX0_bill_2 : decode cX0_bill 2 = .ok (.aload_n 0, 1) := dk_42 (dk_at dksX0_bill_0 2 rfl rfl)
theorem dX0_bill_3 : decode cX0_bill 3 = .ok (.iload_n 1, 1) := dk_27 (dk_at dksX0_bill_0 3 rfl rfl)
theorem dX0_bill_4 : decode cX0_bill 4 = .ok (.invokevirtual 71, 3) := dk_182 0 71 (dk_at dksX0_bill_0 4 rfl rfl)
theorem dX0_bill_7 : decode cX0_bill 7 = .ok (.i2l, 1) := dk_133 (dk_at dksX0_bill_0 7 rfl rfl)
theorem dX0_bill_8 : decode cX0_bill 8 = .ok (.lastore, 1) := dk_80 (dk_at dksX0_bill_0 8 rfl rfl)
theorem dX0_bill_9 : decode cX0_bill 9 = .ok (.goto 6, 3) := dk_167 0 6 (dk_at dksX0_bill_0 9 rfl rfl)
theorem dX0_bill_12 : decode cX0_bill 12 = .ok (.astore_n 3, 1) := dk_78 (dk_at dksX0_bill_0 12 rfl rfl)
theorem dX0_bill_13 : decode cX0_bill 13 = .ok (.iconst 1, 1) := dk_4 (dk_at dksX0_bill_0 13 rfl rfl)
theorem dX0_bill_14 : decode cX0_bill 14 = .ok (.ireturn, 1) := dk_172 (dk_at dksX0_bill_0 14 rfl rfl)
theorem dX0_bill_15 : decode cX0_bill 15 = .ok (.iconst 0, 1) := dk_3 (dk_at dksX0_bill_0 15 rfl rfl)
theorem dX0_bill_16 : decode cX0_bill 16 = .ok (.ireturn, 1) := dk_172 (dk_at dksX0_bill_0 16 rfl rfl)
abbrev cX0_billed : ByteArray := method_21_code
def yX0_billed : MethodName := ⟨RX0, "billed", "(LBackdater;I[J)I"⟩
def dkwX0_billed_0 : List UInt8 := [44, 3, 42, 27, 182, 0, 74, 133, 80, 167, 0, 6, 78, 4, 172, 3, 172]
abbrev dktX0_billed_0 : List UInt8 := dkwX0_billed_0 ++ []
theorem dksX0_billed_0 : cX0_billed.data.toList.drop 0 = dktX0_billed_0 := by decide +kernel
theorem dX0_billed_0 : decode cX0_billed 0 = .ok (.aload_n 2, 1) := dk_44 (dk_at dksX0_billed_0 0 rfl rfl)
theorem dX0_billed_1 : decode cX0_billed 1 = .ok (.iconst 0, 1) := dk_3 (dk_at dksX0_billed_0 1 rfl rfl)
theorem dX0_billed_2 : decode cX0_billed 2 = .ok (.aload_n 0, 1) := dk_42 (dk_at dksX0_billed_0 2 rfl rfl)
theorem dX0_billed_3 : decode cX0_billed 3 = .ok (.iload_n 1, 1) := dk_27 (dk_at dksX0_billed_0 3 rfl rfl)
theorem dX0_billed_4 : decode cX0_billed 4 = .ok (.invokevirtual 74, 3) := dk_182 0 74 (dk_at dksX0_billed_0 4 rfl rfl)
theorem dX0_billed_7 : decode cX0_billed 7 = .ok (.i2l, 1) := dk_133 (dk_at dksX0_billed_0 7 rfl rfl)
theorem dX0_billed_8 : decode cX0_billed 8 = .ok (.lastore, 1) := dk_80 (dk_at dksX0_billed_0 8 rfl rfl)
theorem dX0_billed_9 : decode cX0_billed 9 = .ok (.goto 6, 3) := dk_167 0 6 (dk_at dksX0_billed_0 9 rfl rfl)
theorem dX0_billed_12 : decode cX0_billed 12 = .ok (.astore_n 3, 1) := dk_78 (dk_at dksX0_billed_0 12 rfl rfl)
theorem dX0_billed_13 : decode cX0_billed 13 = .ok (.iconst 1, 1) := dk_4 (dk_at dksX0_billed_0 13 rfl rfl)
theorem dX0_billed_14 : decode cX0_billed 14 = .ok (.ireturn, 1) := dk_172 (dk_at dksX0_billed_0 14 rfl rfl)
theorem dX0_billed_15 : decode cX0_billed 15 = .ok (.iconst 0, 1) := dk_3 (dk_at dksX0_billed_0 15 rfl rfl)
theorem dX0_billed_16 : decode cX0_billed 16 = .ok (.ireturn, 1) := dk_172 (dk_at dksX0_billed_0 16 rfl rfl)
theorem q35 : (Jvm.Cond.initialized "BackdaterLaw") ∈ lw_all := lw_g (lw_at lw_m1 0 rfl) rfl
theorem q81 : (Jvm.Cond.classLink "BackdaterLaw" (8 : Nat) "Backdater") ∈ lw_all := lw_g (lw_at lw_m1 46 rfl) rfl
theorem q83 : (Jvm.Cond.methodLink "BackdaterLaw" (77 : Nat) ({ cls := "Backdater", name := "<init>", desc := "()V" } : Jvm.MethodName)) ∈ lw_all := lw_g (lw_at lw_m1 48 rfl) rfl
theorem q135 : (Jvm.Cond.methodLink "BackdaterLaw" (98 : Nat) ({ cls := "Backdater", name := "today", desc := "()I" } : Jvm.MethodName)) ∈ lw_all := lw_g (lw_at lw_m1 100 rfl) rfl
theorem q139 : (Jvm.Cond.methodLink "BackdaterLaw" (119 : Nat) ({ cls := "Backdater", name := "changes", desc := "()I" } : Jvm.MethodName)) ∈ lw_all := lw_g (lw_at lw_m1 104 rfl) rfl
theorem q153 : (Jvm.Cond.methodLink "BackdaterLaw" (81 : Nat) ({ cls := "BackdaterLaw", name := "open", desc := "(LBackdater;I[J)I" } : Jvm.MethodName)) ∈ lw_all := lw_g (lw_at lw_m1 118 rfl) rfl
theorem q154 : (Jvm.Cond.static ({ cls := "BackdaterLaw", name := "open", desc := "(LBackdater;I[J)I" } : Jvm.MethodName)) ∈ lw_all := lw_g (lw_at lw_m1 119 rfl) rfl
theorem q155 : (Jvm.Cond.codeWith ({ cls := "BackdaterLaw", name := "open", desc := "(LBackdater;I[J)I" } : Jvm.MethodName) method_3_code (4 : Nat) (Option.some Jvm.ClassFile.FieldType.int) [((0 : Nat), (9 : Nat), (12 : Nat), (13 : Nat)), ((0 : Nat), (9 : Nat), (15 : Nat), (15 : Nat))]) ∈ lw_all := lw_g (lw_at lw_m1 120 rfl) rfl
theorem q156 : (Jvm.Cond.classLink "BackdaterLaw" (13 : Nat) "java/lang/IllegalArgumentException") ∈ lw_all := lw_g (lw_at lw_m1 121 rfl) rfl
theorem q157 : (Jvm.Cond.classLink "BackdaterLaw" (15 : Nat) "java/lang/IllegalStateException") ∈ lw_all := lw_g (lw_at lw_m1 122 rfl) rfl
theorem q158 : (Jvm.Cond.methodLink "BackdaterLaw" (7 : Nat) ({ cls := "Backdater", name := "open", desc := "(I)I" } : Jvm.MethodName)) ∈ lw_all := lw_g (lw_at lw_m1 123 rfl) rfl
theorem q380 : (Jvm.Cond.methodLink "BackdaterLaw" (91 : Nat) ({ cls := "BackdaterLaw", name := "setWeight", desc := "(LBackdater;III[J)I" } : Jvm.MethodName)) ∈ lw_all := lw_g (lw_at lw_m2 105 rfl) rfl
theorem q381 : (Jvm.Cond.static ({ cls := "BackdaterLaw", name := "setWeight", desc := "(LBackdater;III[J)I" } : Jvm.MethodName)) ∈ lw_all := lw_g (lw_at lw_m2 106 rfl) rfl
theorem q382 : (Jvm.Cond.codeWith ({ cls := "BackdaterLaw", name := "setWeight", desc := "(LBackdater;III[J)I" } : Jvm.MethodName) method_4_code (6 : Nat) (Option.some Jvm.ClassFile.FieldType.int) [((0 : Nat), (12 : Nat), (15 : Nat), (21 : Nat)), ((0 : Nat), (12 : Nat), (19 : Nat), (13 : Nat)), ((0 : Nat), (12 : Nat), (23 : Nat), (15 : Nat))]) ∈ lw_all := lw_g (lw_at lw_m2 107 rfl) rfl
theorem q383 : (Jvm.Cond.classLink "BackdaterLaw" (21 : Nat) "java/lang/IndexOutOfBoundsException") ∈ lw_all := lw_g (lw_at lw_m2 108 rfl) rfl
theorem q416 : (Jvm.Cond.methodLink "BackdaterLaw" (17 : Nat) ({ cls := "Backdater", name := "setWeight", desc := "(III)I" } : Jvm.MethodName)) ∈ lw_all := lw_g (lw_at lw_m2 141 rfl) rfl
theorem q457 : (Jvm.Cond.methodLink "BackdaterLaw" (95 : Nat) ({ cls := "BackdaterLaw", name := "pass", desc := "(LBackdater;I[J)I" } : Jvm.MethodName)) ∈ lw_all := lw_g (lw_at lw_m2 182 rfl) rfl
theorem q458 : (Jvm.Cond.static ({ cls := "BackdaterLaw", name := "pass", desc := "(LBackdater;I[J)I" } : Jvm.MethodName)) ∈ lw_all := lw_g (lw_at lw_m2 183 rfl) rfl
theorem q459 : (Jvm.Cond.codeWith ({ cls := "BackdaterLaw", name := "pass", desc := "(LBackdater;I[J)I" } : Jvm.MethodName) method_5_code (4 : Nat) (Option.some Jvm.ClassFile.FieldType.int) [((0 : Nat), (9 : Nat), (12 : Nat), (13 : Nat))]) ∈ lw_all := lw_g (lw_at lw_m2 184 rfl) rfl
theorem q460 : (Jvm.Cond.methodLink "BackdaterLaw" (23 : Nat) ({ cls := "Backdater", name := "pass", desc := "(I)I" } : Jvm.MethodName)) ∈ lw_all := lw_g (lw_at lw_m2 185 rfl) rfl
theorem q464 : (Jvm.Cond.methodLink "BackdaterLaw" (102 : Nat) ({ cls := "BackdaterLaw", name := "change", desc := "(LBackdater;IIII[J)I" } : Jvm.MethodName)) ∈ lw_all := lw_g (lw_at lw_m2 189 rfl) rfl
theorem q465 : (Jvm.Cond.static ({ cls := "BackdaterLaw", name := "change", desc := "(LBackdater;IIII[J)I" } : Jvm.MethodName)) ∈ lw_all := lw_g (lw_at lw_m2 190 rfl) rfl
theorem q466 : (Jvm.Cond.codeWith ({ cls := "BackdaterLaw", name := "change", desc := "(LBackdater;IIII[J)I" } : Jvm.MethodName) method_6_code (7 : Nat) (Option.some Jvm.ClassFile.FieldType.int) [((0 : Nat), (14 : Nat), (17 : Nat), (21 : Nat)), ((0 : Nat), (14 : Nat), (21 : Nat), (13 : Nat)), ((0 : Nat), (14 : Nat), (25 : Nat), (15 : Nat))]) ∈ lw_all := lw_g (lw_at lw_m2 191 rfl) rfl
theorem q467 : (Jvm.Cond.methodLink "BackdaterLaw" (26 : Nat) ({ cls := "Backdater", name := "change", desc := "(IIII)I" } : Jvm.MethodName)) ∈ lw_all := lw_g (lw_at lw_m2 192 rfl) rfl
theorem q673 : (Jvm.Cond.methodLink "BackdaterLaw" (106 : Nat) ({ cls := "BackdaterLaw", name := "add", desc := "(LBackdater;IIII[J)I" } : Jvm.MethodName)) ∈ lw_all := lw_g (lw_at lw_m3 158 rfl) rfl
theorem q674 : (Jvm.Cond.static ({ cls := "BackdaterLaw", name := "add", desc := "(LBackdater;IIII[J)I" } : Jvm.MethodName)) ∈ lw_all := lw_g (lw_at lw_m3 159 rfl) rfl
theorem q675 : (Jvm.Cond.codeWith ({ cls := "BackdaterLaw", name := "add", desc := "(LBackdater;IIII[J)I" } : Jvm.MethodName) method_7_code (7 : Nat) (Option.some Jvm.ClassFile.FieldType.int) [((0 : Nat), (14 : Nat), (17 : Nat), (21 : Nat)), ((0 : Nat), (14 : Nat), (21 : Nat), (13 : Nat)), ((0 : Nat), (14 : Nat), (25 : Nat), (15 : Nat))]) ∈ lw_all := lw_g (lw_at lw_m3 160 rfl) rfl
theorem q676 : (Jvm.Cond.methodLink "BackdaterLaw" (30 : Nat) ({ cls := "Backdater", name := "add", desc := "(IIII)I" } : Jvm.MethodName)) ∈ lw_all := lw_g (lw_at lw_m3 161 rfl) rfl
theorem q684 : (Jvm.Cond.methodLink "BackdaterLaw" (109 : Nat) ({ cls := "BackdaterLaw", name := "cancel", desc := "(LBackdater;II[J)I" } : Jvm.MethodName)) ∈ lw_all := lw_g (lw_at lw_m3 169 rfl) rfl
theorem q685 : (Jvm.Cond.static ({ cls := "BackdaterLaw", name := "cancel", desc := "(LBackdater;II[J)I" } : Jvm.MethodName)) ∈ lw_all := lw_g (lw_at lw_m3 170 rfl) rfl
theorem q686 : (Jvm.Cond.codeWith ({ cls := "BackdaterLaw", name := "cancel", desc := "(LBackdater;II[J)I" } : Jvm.MethodName) method_8_code (5 : Nat) (Option.some Jvm.ClassFile.FieldType.int) [((0 : Nat), (10 : Nat), (13 : Nat), (21 : Nat)), ((0 : Nat), (10 : Nat), (17 : Nat), (13 : Nat)), ((0 : Nat), (10 : Nat), (21 : Nat), (15 : Nat))]) ∈ lw_all := lw_g (lw_at lw_m3 171 rfl) rfl
theorem q687 : (Jvm.Cond.methodLink "BackdaterLaw" (33 : Nat) ({ cls := "Backdater", name := "cancel", desc := "(II)I" } : Jvm.MethodName)) ∈ lw_all := lw_g (lw_at lw_m3 172 rfl) rfl
theorem q693 : (Jvm.Cond.methodLink "BackdaterLaw" (113 : Nat) ({ cls := "BackdaterLaw", name := "reinstate", desc := "(LBackdater;II[J)I" } : Jvm.MethodName)) ∈ lw_all := lw_g (lw_at lw_m3 178 rfl) rfl
theorem q694 : (Jvm.Cond.static ({ cls := "BackdaterLaw", name := "reinstate", desc := "(LBackdater;II[J)I" } : Jvm.MethodName)) ∈ lw_all := lw_g (lw_at lw_m3 179 rfl) rfl
theorem q695 : (Jvm.Cond.codeWith ({ cls := "BackdaterLaw", name := "reinstate", desc := "(LBackdater;II[J)I" } : Jvm.MethodName) method_9_code (5 : Nat) (Option.some Jvm.ClassFile.FieldType.int) [((0 : Nat), (10 : Nat), (13 : Nat), (21 : Nat)), ((0 : Nat), (10 : Nat), (17 : Nat), (13 : Nat)), ((0 : Nat), (10 : Nat), (21 : Nat), (15 : Nat))]) ∈ lw_all := lw_g (lw_at lw_m3 180 rfl) rfl
theorem q696 : (Jvm.Cond.methodLink "BackdaterLaw" (37 : Nat) ({ cls := "Backdater", name := "reinstate", desc := "(II)I" } : Jvm.MethodName)) ∈ lw_all := lw_g (lw_at lw_m3 181 rfl) rfl
theorem q702 : (Jvm.Cond.methodLink "BackdaterLaw" (116 : Nat) ({ cls := "BackdaterLaw", name := "takeBack", desc := "(LBackdater;I[J)I" } : Jvm.MethodName)) ∈ lw_all := lw_g (lw_at lw_m3 187 rfl) rfl
theorem q703 : (Jvm.Cond.static ({ cls := "BackdaterLaw", name := "takeBack", desc := "(LBackdater;I[J)I" } : Jvm.MethodName)) ∈ lw_all := lw_g (lw_at lw_m3 188 rfl) rfl
theorem q704 : (Jvm.Cond.codeWith ({ cls := "BackdaterLaw", name := "takeBack", desc := "(LBackdater;I[J)I" } : Jvm.MethodName) method_10_code (4 : Nat) (Option.some Jvm.ClassFile.FieldType.int) [((0 : Nat), (9 : Nat), (12 : Nat), (21 : Nat)), ((0 : Nat), (9 : Nat), (15 : Nat), (15 : Nat))]) ∈ lw_all := lw_g (lw_at lw_m3 189 rfl) rfl
theorem q705 : (Jvm.Cond.methodLink "BackdaterLaw" (40 : Nat) ({ cls := "Backdater", name := "takeBack", desc := "(I)I" } : Jvm.MethodName)) ∈ lw_all := lw_g (lw_at lw_m3 190 rfl) rfl
theorem q714 : (Jvm.Cond.methodLink "BackdaterLaw" (123 : Nat) ({ cls := "BackdaterLaw", name := "laidAnew", desc := "(LBackdater;I[J)I" } : Jvm.MethodName)) ∈ lw_all := lw_g (lw_at lw_m3 199 rfl) rfl
theorem q715 : (Jvm.Cond.static ({ cls := "BackdaterLaw", name := "laidAnew", desc := "(LBackdater;I[J)I" } : Jvm.MethodName)) ∈ lw_all := lw_g (lw_at lw_m3 200 rfl) rfl
theorem q716 : (Jvm.Cond.codeWith ({ cls := "BackdaterLaw", name := "laidAnew", desc := "(LBackdater;I[J)I" } : Jvm.MethodName) method_11_code (4 : Nat) (Option.some Jvm.ClassFile.FieldType.int) [((0 : Nat), (9 : Nat), (12 : Nat), (21 : Nat))]) ∈ lw_all := lw_g (lw_at lw_m3 201 rfl) rfl
theorem q717 : (Jvm.Cond.methodLink "BackdaterLaw" (43 : Nat) ({ cls := "Backdater", name := "laidAnew", desc := "(I)I" } : Jvm.MethodName)) ∈ lw_all := lw_g (lw_at lw_m3 202 rfl) rfl
theorem q725 : (Jvm.Cond.methodLink "BackdaterLaw" (126 : Nat) ({ cls := "BackdaterLaw", name := "value", desc := "(LBackdater;IIII[J)I" } : Jvm.MethodName)) ∈ lw_all := lw_g (lw_at lw_m3 210 rfl) rfl
theorem q726 : (Jvm.Cond.static ({ cls := "BackdaterLaw", name := "value", desc := "(LBackdater;IIII[J)I" } : Jvm.MethodName)) ∈ lw_all := lw_g (lw_at lw_m3 211 rfl) rfl
theorem q727 : (Jvm.Cond.codeWith ({ cls := "BackdaterLaw", name := "value", desc := "(LBackdater;IIII[J)I" } : Jvm.MethodName) method_12_code (7 : Nat) (Option.some Jvm.ClassFile.FieldType.int) [((0 : Nat), (14 : Nat), (17 : Nat), (21 : Nat)), ((0 : Nat), (14 : Nat), (21 : Nat), (13 : Nat))]) ∈ lw_all := lw_g (lw_at lw_m3 212 rfl) rfl
theorem q728 : (Jvm.Cond.methodLink "BackdaterLaw" (46 : Nat) ({ cls := "Backdater", name := "value", desc := "(IIII)I" } : Jvm.MethodName)) ∈ lw_all := lw_g (lw_at lw_m3 213 rfl) rfl
theorem q1167 : (Jvm.Cond.methodLink "BackdaterLaw" (129 : Nat) ({ cls := "BackdaterLaw", name := "isCovered", desc := "(LBackdater;III[J)I" } : Jvm.MethodName)) ∈ lw_all := lw_g (lw_at lw_m5 172 rfl) rfl
theorem q1168 : (Jvm.Cond.static ({ cls := "BackdaterLaw", name := "isCovered", desc := "(LBackdater;III[J)I" } : Jvm.MethodName)) ∈ lw_all := lw_g (lw_at lw_m5 173 rfl) rfl
theorem q1169 : (Jvm.Cond.codeWith ({ cls := "BackdaterLaw", name := "isCovered", desc := "(LBackdater;III[J)I" } : Jvm.MethodName) method_13_code (6 : Nat) (Option.some Jvm.ClassFile.FieldType.int) [((0 : Nat), (19 : Nat), (22 : Nat), (21 : Nat)), ((0 : Nat), (19 : Nat), (26 : Nat), (13 : Nat))]) ∈ lw_all := lw_g (lw_at lw_m5 174 rfl) rfl
theorem q1170 : (Jvm.Cond.methodLink "BackdaterLaw" (49 : Nat) ({ cls := "Backdater", name := "isCovered", desc := "(III)Z" } : Jvm.MethodName)) ∈ lw_all := lw_g (lw_at lw_m5 175 rfl) rfl
theorem q1174 : (Jvm.Cond.methodLink "BackdaterLaw" (132 : Nat) ({ cls := "BackdaterLaw", name := "rate", desc := "(LBackdater;III[J)I" } : Jvm.MethodName)) ∈ lw_all := lw_g (lw_at lw_m5 179 rfl) rfl
theorem q1175 : (Jvm.Cond.static ({ cls := "BackdaterLaw", name := "rate", desc := "(LBackdater;III[J)I" } : Jvm.MethodName)) ∈ lw_all := lw_g (lw_at lw_m5 180 rfl) rfl
theorem q1176 : (Jvm.Cond.codeWith ({ cls := "BackdaterLaw", name := "rate", desc := "(LBackdater;III[J)I" } : Jvm.MethodName) method_14_code (6 : Nat) (Option.some Jvm.ClassFile.FieldType.int) [((0 : Nat), (12 : Nat), (15 : Nat), (21 : Nat)), ((0 : Nat), (12 : Nat), (19 : Nat), (13 : Nat))]) ∈ lw_all := lw_g (lw_at lw_m5 181 rfl) rfl
theorem q1177 : (Jvm.Cond.methodLink "BackdaterLaw" (53 : Nat) ({ cls := "Backdater", name := "rate", desc := "(III)I" } : Jvm.MethodName)) ∈ lw_all := lw_g (lw_at lw_m5 182 rfl) rfl
theorem q1201 : (Jvm.Cond.methodLink "BackdaterLaw" (135 : Nat) ({ cls := "BackdaterLaw", name := "segments", desc := "(LBackdater;II[J)I" } : Jvm.MethodName)) ∈ lw_all := lw_g (lw_at lw_m5 206 rfl) rfl
theorem q1202 : (Jvm.Cond.static ({ cls := "BackdaterLaw", name := "segments", desc := "(LBackdater;II[J)I" } : Jvm.MethodName)) ∈ lw_all := lw_g (lw_at lw_m5 207 rfl) rfl
theorem q1203 : (Jvm.Cond.codeWith ({ cls := "BackdaterLaw", name := "segments", desc := "(LBackdater;II[J)I" } : Jvm.MethodName) method_15_code (5 : Nat) (Option.some Jvm.ClassFile.FieldType.int) [((0 : Nat), (10 : Nat), (13 : Nat), (21 : Nat)), ((0 : Nat), (10 : Nat), (17 : Nat), (13 : Nat))]) ∈ lw_all := lw_g (lw_at lw_m5 208 rfl) rfl
theorem q1204 : (Jvm.Cond.methodLink "BackdaterLaw" (56 : Nat) ({ cls := "Backdater", name := "segments", desc := "(II)I" } : Jvm.MethodName)) ∈ lw_all := lw_g (lw_at lw_m5 209 rfl) rfl
theorem q1221 : (Jvm.Cond.methodLink "BackdaterLaw" (138 : Nat) ({ cls := "BackdaterLaw", name := "segmentStart", desc := "(LBackdater;III[J)I" } : Jvm.MethodName)) ∈ lw_all := lw_g (lw_at lw_m5 226 rfl) rfl
theorem q1222 : (Jvm.Cond.static ({ cls := "BackdaterLaw", name := "segmentStart", desc := "(LBackdater;III[J)I" } : Jvm.MethodName)) ∈ lw_all := lw_g (lw_at lw_m5 227 rfl) rfl
theorem q1223 : (Jvm.Cond.codeWith ({ cls := "BackdaterLaw", name := "segmentStart", desc := "(LBackdater;III[J)I" } : Jvm.MethodName) method_16_code (6 : Nat) (Option.some Jvm.ClassFile.FieldType.int) [((0 : Nat), (12 : Nat), (15 : Nat), (13 : Nat)), ((0 : Nat), (12 : Nat), (19 : Nat), (21 : Nat))]) ∈ lw_all := lw_g (lw_at lw_m5 228 rfl) rfl
theorem q1224 : (Jvm.Cond.methodLink "BackdaterLaw" (59 : Nat) ({ cls := "Backdater", name := "segmentStart", desc := "(III)I" } : Jvm.MethodName)) ∈ lw_all := lw_g (lw_at lw_m5 229 rfl) rfl
theorem q1237 : (Jvm.Cond.methodLink "BackdaterLaw" (141 : Nat) ({ cls := "BackdaterLaw", name := "segmentPremium", desc := "(LBackdater;III[J)I" } : Jvm.MethodName)) ∈ lw_all := lw_g (lw_at lw_m6 2 rfl) rfl
theorem q1238 : (Jvm.Cond.static ({ cls := "BackdaterLaw", name := "segmentPremium", desc := "(LBackdater;III[J)I" } : Jvm.MethodName)) ∈ lw_all := lw_g (lw_at lw_m6 3 rfl) rfl
theorem q1239 : (Jvm.Cond.codeWith ({ cls := "BackdaterLaw", name := "segmentPremium", desc := "(LBackdater;III[J)I" } : Jvm.MethodName) method_17_code (6 : Nat) (Option.some Jvm.ClassFile.FieldType.int) [((0 : Nat), (12 : Nat), (15 : Nat), (13 : Nat)), ((0 : Nat), (12 : Nat), (19 : Nat), (21 : Nat))]) ∈ lw_all := lw_g (lw_at lw_m6 4 rfl) rfl
theorem q1240 : (Jvm.Cond.methodLink "BackdaterLaw" (62 : Nat) ({ cls := "Backdater", name := "segmentPremium", desc := "(III)I" } : Jvm.MethodName)) ∈ lw_all := lw_g (lw_at lw_m6 5 rfl) rfl
theorem q1252 : (Jvm.Cond.methodLink "BackdaterLaw" (144 : Nat) ({ cls := "BackdaterLaw", name := "premium", desc := "(LBackdater;II[J)I" } : Jvm.MethodName)) ∈ lw_all := lw_g (lw_at lw_m6 17 rfl) rfl
theorem q1253 : (Jvm.Cond.static ({ cls := "BackdaterLaw", name := "premium", desc := "(LBackdater;II[J)I" } : Jvm.MethodName)) ∈ lw_all := lw_g (lw_at lw_m6 18 rfl) rfl
theorem q1254 : (Jvm.Cond.codeWith ({ cls := "BackdaterLaw", name := "premium", desc := "(LBackdater;II[J)I" } : Jvm.MethodName) method_18_code (5 : Nat) (Option.some Jvm.ClassFile.FieldType.int) [((0 : Nat), (10 : Nat), (13 : Nat), (21 : Nat)), ((0 : Nat), (10 : Nat), (17 : Nat), (13 : Nat))]) ∈ lw_all := lw_g (lw_at lw_m6 19 rfl) rfl
theorem q1255 : (Jvm.Cond.methodLink "BackdaterLaw" (65 : Nat) ({ cls := "Backdater", name := "premium", desc := "(II)I" } : Jvm.MethodName)) ∈ lw_all := lw_g (lw_at lw_m6 20 rfl) rfl
theorem q1268 : (Jvm.Cond.methodLink "BackdaterLaw" (147 : Nat) ({ cls := "BackdaterLaw", name := "premiumByDays", desc := "(LBackdater;II[J)I" } : Jvm.MethodName)) ∈ lw_all := lw_g (lw_at lw_m6 33 rfl) rfl
theorem q1269 : (Jvm.Cond.static ({ cls := "BackdaterLaw", name := "premiumByDays", desc := "(LBackdater;II[J)I" } : Jvm.MethodName)) ∈ lw_all := lw_g (lw_at lw_m6 34 rfl) rfl
theorem q1270 : (Jvm.Cond.codeWith ({ cls := "BackdaterLaw", name := "premiumByDays", desc := "(LBackdater;II[J)I" } : Jvm.MethodName) method_19_code (5 : Nat) (Option.some Jvm.ClassFile.FieldType.int) [((0 : Nat), (10 : Nat), (13 : Nat), (21 : Nat)), ((0 : Nat), (10 : Nat), (17 : Nat), (13 : Nat))]) ∈ lw_all := lw_g (lw_at lw_m6 35 rfl) rfl
theorem q1271 : (Jvm.Cond.methodLink "BackdaterLaw" (68 : Nat) ({ cls := "Backdater", name := "premiumByDays", desc := "(II)I" } : Jvm.MethodName)) ∈ lw_all := lw_g (lw_at lw_m6 36 rfl) rfl
theorem q1275 : (Jvm.Cond.methodLink "BackdaterLaw" (150 : Nat) ({ cls := "BackdaterLaw", name := "bill", desc := "(LBackdater;I[J)I" } : Jvm.MethodName)) ∈ lw_all := lw_g (lw_at lw_m6 40 rfl) rfl
theorem q1276 : (Jvm.Cond.static ({ cls := "BackdaterLaw", name := "bill", desc := "(LBackdater;I[J)I" } : Jvm.MethodName)) ∈ lw_all := lw_g (lw_at lw_m6 41 rfl) rfl
theorem q1277 : (Jvm.Cond.codeWith ({ cls := "BackdaterLaw", name := "bill", desc := "(LBackdater;I[J)I" } : Jvm.MethodName) method_20_code (4 : Nat) (Option.some Jvm.ClassFile.FieldType.int) [((0 : Nat), (9 : Nat), (12 : Nat), (21 : Nat))]) ∈ lw_all := lw_g (lw_at lw_m6 42 rfl) rfl
theorem q1278 : (Jvm.Cond.methodLink "BackdaterLaw" (71 : Nat) ({ cls := "Backdater", name := "bill", desc := "(I)I" } : Jvm.MethodName)) ∈ lw_all := lw_g (lw_at lw_m6 43 rfl) rfl
theorem q1282 : (Jvm.Cond.methodLink "BackdaterLaw" (153 : Nat) ({ cls := "BackdaterLaw", name := "billed", desc := "(LBackdater;I[J)I" } : Jvm.MethodName)) ∈ lw_all := lw_g (lw_at lw_m6 47 rfl) rfl
theorem q1283 : (Jvm.Cond.static ({ cls := "BackdaterLaw", name := "billed", desc := "(LBackdater;I[J)I" } : Jvm.MethodName)) ∈ lw_all := lw_g (lw_at lw_m6 48 rfl) rfl
theorem q1284 : (Jvm.Cond.codeWith ({ cls := "BackdaterLaw", name := "billed", desc := "(LBackdater;I[J)I" } : Jvm.MethodName) method_21_code (4 : Nat) (Option.some Jvm.ClassFile.FieldType.int) [((0 : Nat), (9 : Nat), (12 : Nat), (21 : Nat))]) ∈ lw_all := lw_g (lw_at lw_m6 49 rfl) rfl
theorem q1285 : (Jvm.Cond.methodLink "BackdaterLaw" (74 : Nat) ({ cls := "Backdater", name := "billed", desc := "(I)I" } : Jvm.MethodName)) ∈ lw_all := lw_g (lw_at lw_m6 50 rfl) rfl
theorem q1289 : (Jvm.Cond.classLink "BackdaterLaw" (78 : Nat) "BackdaterModel") ∈ lw_all := lw_g (lw_at lw_m6 54 rfl) rfl
theorem q1291 : (Jvm.Cond.methodLink "BackdaterLaw" (80 : Nat) ({ cls := "BackdaterModel", name := "<init>", desc := "()V" } : Jvm.MethodName)) ∈ lw_all := lw_g (lw_at lw_m6 56 rfl) rfl
theorem q1360 : (Jvm.Cond.methodLink "BackdaterLaw" (87 : Nat) ({ cls := "BackdaterModel", name := "thrown", desc := "()I" } : Jvm.MethodName)) ∈ lw_all := lw_g (lw_at lw_m6 125 rfl) rfl
theorem q1364 : (Jvm.Cond.methodLink "BackdaterLaw" (86 : Nat) ({ cls := "BackdaterModel", name := "open", desc := "(I)I" } : Jvm.MethodName)) ∈ lw_all := lw_g (lw_at lw_m6 129 rfl) rfl
theorem q1371 : (Jvm.Cond.methodLink "BackdaterLaw" (94 : Nat) ({ cls := "BackdaterModel", name := "setWeight", desc := "(III)I" } : Jvm.MethodName)) ∈ lw_all := lw_g (lw_at lw_m6 136 rfl) rfl
theorem q1381 : (Jvm.Cond.methodLink "BackdaterLaw" (97 : Nat) ({ cls := "BackdaterModel", name := "pass", desc := "(I)I" } : Jvm.MethodName)) ∈ lw_all := lw_g (lw_at lw_m6 146 rfl) rfl
theorem q1385 : (Jvm.Cond.methodLink "BackdaterLaw" (101 : Nat) ({ cls := "BackdaterModel", name := "today", desc := "()I" } : Jvm.MethodName)) ∈ lw_all := lw_g (lw_at lw_m6 150 rfl) rfl
theorem q1389 : (Jvm.Cond.methodLink "BackdaterLaw" (105 : Nat) ({ cls := "BackdaterModel", name := "change", desc := "(IIII)I" } : Jvm.MethodName)) ∈ lw_all := lw_g (lw_at lw_m6 154 rfl) rfl
theorem q1401 : (Jvm.Cond.methodLink "BackdaterLaw" (108 : Nat) ({ cls := "BackdaterModel", name := "add", desc := "(IIII)I" } : Jvm.MethodName)) ∈ lw_all := lw_g (lw_at lw_m6 166 rfl) rfl
theorem q1405 : (Jvm.Cond.methodLink "BackdaterLaw" (112 : Nat) ({ cls := "BackdaterModel", name := "cancel", desc := "(II)I" } : Jvm.MethodName)) ∈ lw_all := lw_g (lw_at lw_m6 170 rfl) rfl
theorem q1409 : (Jvm.Cond.methodLink "BackdaterLaw" (115 : Nat) ({ cls := "BackdaterModel", name := "reinstate", desc := "(II)I" } : Jvm.MethodName)) ∈ lw_all := lw_g (lw_at lw_m6 174 rfl) rfl
theorem q1413 : (Jvm.Cond.methodLink "BackdaterLaw" (118 : Nat) ({ cls := "BackdaterModel", name := "takeBack", desc := "(I)I" } : Jvm.MethodName)) ∈ lw_all := lw_g (lw_at lw_m6 178 rfl) rfl
theorem q1421 : (Jvm.Cond.methodLink "BackdaterLaw" (122 : Nat) ({ cls := "BackdaterModel", name := "changes", desc := "()I" } : Jvm.MethodName)) ∈ lw_all := lw_g (lw_at lw_m6 186 rfl) rfl
theorem q1425 : (Jvm.Cond.methodLink "BackdaterLaw" (125 : Nat) ({ cls := "BackdaterModel", name := "laidAnew", desc := "(I)I" } : Jvm.MethodName)) ∈ lw_all := lw_g (lw_at lw_m6 190 rfl) rfl
theorem q1433 : (Jvm.Cond.methodLink "BackdaterLaw" (128 : Nat) ({ cls := "BackdaterModel", name := "value", desc := "(IIII)I" } : Jvm.MethodName)) ∈ lw_all := lw_g (lw_at lw_m6 198 rfl) rfl
theorem q1452 : (Jvm.Cond.methodLink "BackdaterLaw" (131 : Nat) ({ cls := "BackdaterModel", name := "isCovered", desc := "(III)Z" } : Jvm.MethodName)) ∈ lw_all := lw_g (lw_at lw_m6 217 rfl) rfl
theorem q1456 : (Jvm.Cond.methodLink "BackdaterLaw" (134 : Nat) ({ cls := "BackdaterModel", name := "rate", desc := "(III)I" } : Jvm.MethodName)) ∈ lw_all := lw_g (lw_at lw_m6 221 rfl) rfl
theorem q1460 : (Jvm.Cond.methodLink "BackdaterLaw" (137 : Nat) ({ cls := "BackdaterModel", name := "segments", desc := "(II)I" } : Jvm.MethodName)) ∈ lw_all := lw_g (lw_at lw_m6 225 rfl) rfl
theorem q1468 : (Jvm.Cond.methodLink "BackdaterLaw" (140 : Nat) ({ cls := "BackdaterModel", name := "segmentStart", desc := "(III)I" } : Jvm.MethodName)) ∈ lw_all := lw_g (lw_at lw_m6 233 rfl) rfl
theorem q1476 : (Jvm.Cond.methodLink "BackdaterLaw" (143 : Nat) ({ cls := "BackdaterModel", name := "segmentPremium", desc := "(III)I" } : Jvm.MethodName)) ∈ lw_all := lw_g (lw_at lw_m7 1 rfl) rfl
theorem q1484 : (Jvm.Cond.methodLink "BackdaterLaw" (146 : Nat) ({ cls := "BackdaterModel", name := "premium", desc := "(II)I" } : Jvm.MethodName)) ∈ lw_all := lw_g (lw_at lw_m7 9 rfl) rfl
theorem q1492 : (Jvm.Cond.methodLink "BackdaterLaw" (149 : Nat) ({ cls := "BackdaterModel", name := "premiumByDays", desc := "(II)I" } : Jvm.MethodName)) ∈ lw_all := lw_g (lw_at lw_m7 17 rfl) rfl
theorem q1496 : (Jvm.Cond.methodLink "BackdaterLaw" (152 : Nat) ({ cls := "BackdaterModel", name := "bill", desc := "(I)I" } : Jvm.MethodName)) ∈ lw_all := lw_g (lw_at lw_m7 21 rfl) rfl
theorem q1500 : (Jvm.Cond.methodLink "BackdaterLaw" (155 : Nat) ({ cls := "BackdaterModel", name := "billed", desc := "(I)I" } : Jvm.MethodName)) ∈ lw_all := lw_g (lw_at lw_m7 25 rfl) rfl
/-! the law's own entry -/
set_option maxRecDepth 100000
abbrev cL_law : ByteArray := code
def dkwL_law_62 : List UInt8 := [167, 0, 3, 132, 4, 5, 167, 250, 35, 4, 172]
abbrev dktL_law_62 : List UInt8 := dkwL_law_62 ++ []
def dkwL_law_61 : List UInt8 := [21, 5, 159, 0, 5, 3, 172, 21, 5, 154, 0, 15, 45, 3, 47, 21, 6, 133, 148, 153, 0, 5, 3, 172]
abbrev dktL_law_61 : List UInt8 := dkwL_law_61 ++ dktL_law_62
def dkwL_law_60 : List UInt8 := [46, 45, 184, 0, 153, 54, 5, 44, 42, 21, 4, 4, 96, 46, 182, 0, 155, 54, 6, 44, 182, 0, 87]
abbrev dktL_law_60 : List UInt8 := dkwL_law_60 ++ dktL_law_61
def dkwL_law_59 : List UInt8 := [154, 0, 15, 45, 3, 47, 21, 6, 133, 148, 153, 0, 5, 3, 172, 167, 0, 59, 43, 42, 21, 4, 4, 96]
abbrev dktL_law_59 : List UInt8 := dkwL_law_59 ++ dktL_law_60
def dkwL_law_58 : List UInt8 := [21, 4, 4, 96, 46, 182, 0, 152, 54, 6, 44, 182, 0, 87, 21, 5, 159, 0, 5, 3, 172, 21, 5]
abbrev dktL_law_58 : List UInt8 := dkwL_law_58 ++ dktL_law_59
def dkwL_law_57 : List UInt8 := [153, 0, 5, 3, 172, 167, 0, 115, 43, 42, 21, 4, 4, 96, 46, 45, 184, 0, 150, 54, 5, 44, 42]
abbrev dktL_law_57 : List UInt8 := dkwL_law_57 ++ dktL_law_58
def dkwL_law_56 : List UInt8 := [182, 0, 87, 21, 5, 159, 0, 5, 3, 172, 21, 5, 154, 0, 15, 45, 3, 47, 21, 6, 133, 148]
abbrev dktL_law_56 : List UInt8 := dkwL_law_56 ++ dktL_law_57
def dkwL_law_55 : List UInt8 := [184, 0, 147, 54, 5, 44, 42, 21, 4, 4, 96, 46, 42, 21, 4, 5, 96, 46, 182, 0, 149, 54, 6, 44]
abbrev dktL_law_55 : List UInt8 := dkwL_law_55 ++ dktL_law_56
def dkwL_law_54 : List UInt8 := [148, 153, 0, 5, 3, 172, 167, 0, 183, 43, 42, 21, 4, 4, 96, 46, 42, 21, 4, 5, 96, 46, 45]
abbrev dktL_law_54 : List UInt8 := dkwL_law_54 ++ dktL_law_55
def dkwL_law_53 : List UInt8 := [54, 6, 44, 182, 0, 87, 21, 5, 159, 0, 5, 3, 172, 21, 5, 154, 0, 15, 45, 3, 47, 21, 6, 133]
abbrev dktL_law_53 : List UInt8 := dkwL_law_53 ++ dktL_law_54
def dkwL_law_52 : List UInt8 := [46, 45, 184, 0, 144, 54, 5, 44, 42, 21, 4, 4, 96, 46, 42, 21, 4, 5, 96, 46, 182, 0, 146]
abbrev dktL_law_52 : List UInt8 := dkwL_law_52 ++ dktL_law_53
def dkwL_law_51 : List UInt8 := [21, 6, 133, 148, 153, 0, 5, 3, 172, 167, 0, 251, 43, 42, 21, 4, 4, 96, 46, 42, 21, 4, 5, 96]
abbrev dktL_law_51 : List UInt8 := dkwL_law_51 ++ dktL_law_52
def dkwL_law_50 : List UInt8 := [182, 0, 143, 54, 6, 44, 182, 0, 87, 21, 5, 159, 0, 5, 3, 172, 21, 5, 154, 0, 15, 45, 3, 47]
abbrev dktL_law_50 : List UInt8 := dkwL_law_50 ++ dktL_law_51
def dkwL_law_49 : List UInt8 := [184, 0, 141, 54, 5, 44, 42, 21, 4, 4, 96, 46, 42, 21, 4, 5, 96, 46, 42, 21, 4, 6, 96, 46]
abbrev dktL_law_49 : List UInt8 := dkwL_law_49 ++ dktL_law_50
def dkwL_law_48 : List UInt8 := [167, 1, 75, 43, 42, 21, 4, 4, 96, 46, 42, 21, 4, 5, 96, 46, 42, 21, 4, 6, 96, 46, 45]
abbrev dktL_law_48 : List UInt8 := dkwL_law_48 ++ dktL_law_49
def dkwL_law_47 : List UInt8 := [159, 0, 5, 3, 172, 21, 5, 154, 0, 15, 45, 3, 47, 21, 6, 133, 148, 153, 0, 5, 3, 172]
abbrev dktL_law_47 : List UInt8 := dkwL_law_47 ++ dktL_law_48
def dkwL_law_46 : List UInt8 := [21, 4, 5, 96, 46, 42, 21, 4, 6, 96, 46, 182, 0, 140, 54, 6, 44, 182, 0, 87, 21, 5]
abbrev dktL_law_46 : List UInt8 := dkwL_law_46 ++ dktL_law_47
def dkwL_law_45 : List UInt8 := [5, 96, 46, 42, 21, 4, 6, 96, 46, 45, 184, 0, 138, 54, 5, 44, 42, 21, 4, 4, 96, 46, 42]
abbrev dktL_law_45 : List UInt8 := dkwL_law_45 ++ dktL_law_46
def dkwL_law_44 : List UInt8 := [3, 47, 21, 6, 133, 148, 153, 0, 5, 3, 172, 167, 1, 155, 43, 42, 21, 4, 4, 96, 46, 42, 21, 4]
abbrev dktL_law_44 : List UInt8 := dkwL_law_44 ++ dktL_law_45
def dkwL_law_43 : List UInt8 := [96, 46, 182, 0, 137, 54, 6, 44, 182, 0, 87, 21, 5, 159, 0, 5, 3, 172, 21, 5, 154, 0, 15, 45]
abbrev dktL_law_43 : List UInt8 := dkwL_law_43 ++ dktL_law_44
def dkwL_law_42 : List UInt8 := [46, 42, 21, 4, 5, 96, 46, 45, 184, 0, 135, 54, 5, 44, 42, 21, 4, 4, 96, 46, 42, 21, 4, 5]
abbrev dktL_law_42 : List UInt8 := dkwL_law_42 ++ dktL_law_43
def dkwL_law_41 : List UInt8 := [154, 0, 15, 45, 3, 47, 21, 6, 133, 148, 153, 0, 5, 3, 172, 167, 1, 223, 43, 42, 21, 4, 4, 96]
abbrev dktL_law_41 : List UInt8 := dkwL_law_41 ++ dktL_law_42
def dkwL_law_40 : List UInt8 := [21, 4, 6, 96, 46, 182, 0, 134, 54, 6, 44, 182, 0, 87, 21, 5, 159, 0, 5, 3, 172, 21, 5]
abbrev dktL_law_40 : List UInt8 := dkwL_law_40 ++ dktL_law_41
def dkwL_law_39 : List UInt8 := [6, 96, 46, 45, 184, 0, 132, 54, 5, 44, 42, 21, 4, 4, 96, 46, 42, 21, 4, 5, 96, 46, 42]
abbrev dktL_law_39 : List UInt8 := dkwL_law_39 ++ dktL_law_40
def dkwL_law_38 : List UInt8 := [153, 0, 5, 3, 172, 167, 2, 47, 43, 42, 21, 4, 4, 96, 46, 42, 21, 4, 5, 96, 46, 42, 21, 4]
abbrev dktL_law_38 : List UInt8 := dkwL_law_38 ++ dktL_law_39
def dkwL_law_37 : List UInt8 := [159, 0, 5, 3, 172, 21, 5, 154, 0, 22, 45, 3, 47, 21, 6, 153, 0, 7, 10, 167, 0, 4, 9, 148]
abbrev dktL_law_37 : List UInt8 := dkwL_law_37 ++ dktL_law_38
def dkwL_law_36 : List UInt8 := [42, 21, 4, 5, 96, 46, 42, 21, 4, 6, 96, 46, 182, 0, 131, 54, 6, 44, 182, 0, 87, 21, 5]
abbrev dktL_law_36 : List UInt8 := dkwL_law_36 ++ dktL_law_37
def dkwL_law_35 : List UInt8 := [21, 4, 5, 96, 46, 42, 21, 4, 6, 96, 46, 45, 184, 0, 129, 54, 5, 44, 42, 21, 4, 4, 96, 46]
abbrev dktL_law_35 : List UInt8 := dkwL_law_35 ++ dktL_law_36
def dkwL_law_34 : List UInt8 := [45, 3, 47, 21, 6, 133, 148, 153, 0, 5, 3, 172, 167, 2, 134, 43, 42, 21, 4, 4, 96, 46, 42]
abbrev dktL_law_34 : List UInt8 := dkwL_law_34 ++ dktL_law_35
def dkwL_law_33 : List UInt8 := [7, 96, 46, 182, 0, 128, 54, 6, 44, 182, 0, 87, 21, 5, 159, 0, 5, 3, 172, 21, 5, 154, 0, 15]
abbrev dktL_law_33 : List UInt8 := dkwL_law_33 ++ dktL_law_34
def dkwL_law_32 : List UInt8 := [54, 5, 44, 42, 21, 4, 4, 96, 46, 42, 21, 4, 5, 96, 46, 42, 21, 4, 6, 96, 46, 42, 21, 4]
abbrev dktL_law_32 : List UInt8 := dkwL_law_32 ++ dktL_law_33
def dkwL_law_31 : List UInt8 := [46, 42, 21, 4, 5, 96, 46, 42, 21, 4, 6, 96, 46, 42, 21, 4, 7, 96, 46, 45, 184, 0, 126]
abbrev dktL_law_31 : List UInt8 := dkwL_law_31 ++ dktL_law_32
def dkwL_law_30 : List UInt8 := [154, 0, 15, 45, 3, 47, 21, 6, 133, 148, 153, 0, 5, 3, 172, 167, 2, 226, 43, 42, 21, 4, 4, 96]
abbrev dktL_law_30 : List UInt8 := dkwL_law_30 ++ dktL_law_31
def dkwL_law_29 : List UInt8 := [21, 4, 4, 96, 46, 182, 0, 125, 54, 6, 44, 182, 0, 87, 21, 5, 159, 0, 5, 3, 172, 21, 5]
abbrev dktL_law_29 : List UInt8 := dkwL_law_29 ++ dktL_law_30
def dkwL_law_28 : List UInt8 := [182, 0, 122, 159, 3, 28, 3, 172, 43, 42, 21, 4, 4, 96, 46, 45, 184, 0, 123, 54, 5, 44, 42]
abbrev dktL_law_28 : List UInt8 := dkwL_law_28 ++ dktL_law_29
def dkwL_law_27 : List UInt8 := [154, 0, 15, 45, 3, 47, 21, 6, 133, 148, 153, 0, 5, 3, 172, 167, 3, 39, 43, 182, 0, 119, 44]
abbrev dktL_law_27 : List UInt8 := dkwL_law_27 ++ dktL_law_28
def dkwL_law_26 : List UInt8 := [21, 4, 4, 96, 46, 182, 0, 118, 54, 6, 44, 182, 0, 87, 21, 5, 159, 0, 5, 3, 172, 21, 5]
abbrev dktL_law_26 : List UInt8 := dkwL_law_26 ++ dktL_law_27
def dkwL_law_25 : List UInt8 := [153, 0, 5, 3, 172, 167, 3, 95, 43, 42, 21, 4, 4, 96, 46, 45, 184, 0, 116, 54, 5, 44, 42]
abbrev dktL_law_25 : List UInt8 := dkwL_law_25 ++ dktL_law_26
def dkwL_law_24 : List UInt8 := [182, 0, 87, 21, 5, 159, 0, 5, 3, 172, 21, 5, 154, 0, 15, 45, 3, 47, 21, 6, 133, 148]
abbrev dktL_law_24 : List UInt8 := dkwL_law_24 ++ dktL_law_25
def dkwL_law_23 : List UInt8 := [184, 0, 113, 54, 5, 44, 42, 21, 4, 4, 96, 46, 42, 21, 4, 5, 96, 46, 182, 0, 115, 54, 6, 44]
abbrev dktL_law_23 : List UInt8 := dkwL_law_23 ++ dktL_law_24
def dkwL_law_22 : List UInt8 := [153, 0, 5, 3, 172, 167, 3, 163, 43, 42, 21, 4, 4, 96, 46, 42, 21, 4, 5, 96, 46, 45]
abbrev dktL_law_22 : List UInt8 := dkwL_law_22 ++ dktL_law_23
def dkwL_law_21 : List UInt8 := [182, 0, 87, 21, 5, 159, 0, 5, 3, 172, 21, 5, 154, 0, 15, 45, 3, 47, 21, 6, 133, 148]
abbrev dktL_law_21 : List UInt8 := dkwL_law_21 ++ dktL_law_22
def dkwL_law_20 : List UInt8 := [184, 0, 109, 54, 5, 44, 42, 21, 4, 4, 96, 46, 42, 21, 4, 5, 96, 46, 182, 0, 112, 54, 6, 44]
abbrev dktL_law_20 : List UInt8 := dkwL_law_20 ++ dktL_law_21
def dkwL_law_19 : List UInt8 := [148, 153, 0, 5, 3, 172, 167, 3, 231, 43, 42, 21, 4, 4, 96, 46, 42, 21, 4, 5, 96, 46, 45]
abbrev dktL_law_19 : List UInt8 := dkwL_law_19 ++ dktL_law_20
def dkwL_law_18 : List UInt8 := [54, 6, 44, 182, 0, 87, 21, 5, 159, 0, 5, 3, 172, 21, 5, 154, 0, 15, 45, 3, 47, 21, 6, 133]
abbrev dktL_law_18 : List UInt8 := dkwL_law_18 ++ dktL_law_19
def dkwL_law_17 : List UInt8 := [96, 46, 42, 21, 4, 5, 96, 46, 42, 21, 4, 6, 96, 46, 42, 21, 4, 7, 96, 46, 182, 0, 108]
abbrev dktL_law_17 : List UInt8 := dkwL_law_17 ++ dktL_law_18
def dkwL_law_16 : List UInt8 := [46, 42, 21, 4, 6, 96, 46, 42, 21, 4, 7, 96, 46, 45, 184, 0, 106, 54, 5, 44, 42, 21, 4, 4]
abbrev dktL_law_16 : List UInt8 := dkwL_law_16 ++ dktL_law_17
def dkwL_law_15 : List UInt8 := [21, 6, 133, 148, 153, 0, 5, 3, 172, 167, 4, 67, 43, 42, 21, 4, 4, 96, 46, 42, 21, 4, 5, 96]
abbrev dktL_law_15 : List UInt8 := dkwL_law_15 ++ dktL_law_16
def dkwL_law_14 : List UInt8 := [182, 0, 105, 54, 6, 44, 182, 0, 87, 21, 5, 159, 0, 5, 3, 172, 21, 5, 154, 0, 15, 45, 3, 47]
abbrev dktL_law_14 : List UInt8 := dkwL_law_14 ++ dktL_law_15
def dkwL_law_13 : List UInt8 := [42, 21, 4, 4, 96, 46, 42, 21, 4, 5, 96, 46, 42, 21, 4, 6, 96, 46, 42, 21, 4, 7, 96, 46]
abbrev dktL_law_13 : List UInt8 := dkwL_law_13 ++ dktL_law_14
def dkwL_law_12 : List UInt8 := [21, 4, 5, 96, 46, 42, 21, 4, 6, 96, 46, 42, 21, 4, 7, 96, 46, 45, 184, 0, 102, 54, 5, 44]
abbrev dktL_law_12 : List UInt8 := dkwL_law_12 ++ dktL_law_13
def dkwL_law_11 : List UInt8 := [167, 4, 172, 43, 182, 0, 98, 44, 182, 0, 101, 159, 4, 161, 3, 172, 43, 42, 21, 4, 4, 96, 46, 42]
abbrev dktL_law_11 : List UInt8 := dkwL_law_11 ++ dktL_law_12
def dkwL_law_10 : List UInt8 := [21, 5, 159, 0, 5, 3, 172, 21, 5, 154, 0, 15, 45, 3, 47, 21, 6, 133, 148, 153, 0, 5, 3, 172]
abbrev dktL_law_10 : List UInt8 := dkwL_law_10 ++ dktL_law_11
def dkwL_law_9 : List UInt8 := [46, 45, 184, 0, 95, 54, 5, 44, 42, 21, 4, 4, 96, 46, 182, 0, 97, 54, 6, 44, 182, 0, 87]
abbrev dktL_law_9 : List UInt8 := dkwL_law_9 ++ dktL_law_10
def dkwL_law_8 : List UInt8 := [154, 0, 15, 45, 3, 47, 21, 6, 133, 148, 153, 0, 5, 3, 172, 167, 4, 228, 43, 42, 21, 4, 4, 96]
abbrev dktL_law_8 : List UInt8 := dkwL_law_8 ++ dktL_law_9
def dkwL_law_7 : List UInt8 := [42, 21, 4, 6, 96, 46, 182, 0, 94, 54, 6, 44, 182, 0, 87, 21, 5, 159, 0, 5, 3, 172, 21, 5]
abbrev dktL_law_7 : List UInt8 := dkwL_law_7 ++ dktL_law_8
def dkwL_law_6 : List UInt8 := [21, 4, 6, 96, 46, 45, 184, 0, 91, 54, 5, 44, 42, 21, 4, 4, 96, 46, 42, 21, 4, 5, 96, 46]
abbrev dktL_law_6 : List UInt8 := dkwL_law_6 ++ dktL_law_7
def dkwL_law_5 : List UInt8 := [148, 153, 0, 5, 3, 172, 167, 5, 52, 43, 42, 21, 4, 4, 96, 46, 42, 21, 4, 5, 96, 46, 42]
abbrev dktL_law_5 : List UInt8 := dkwL_law_5 ++ dktL_law_6
def dkwL_law_4 : List UInt8 := [54, 6, 44, 182, 0, 87, 21, 5, 159, 0, 5, 3, 172, 21, 5, 154, 0, 15, 45, 3, 47, 21, 6, 133]
abbrev dktL_law_4 : List UInt8 := dkwL_law_4 ++ dktL_law_5
def dkwL_law_3 : List UInt8 := [43, 42, 21, 4, 4, 96, 46, 45, 184, 0, 81, 54, 5, 44, 42, 21, 4, 4, 96, 46, 182, 0, 86]
abbrev dktL_law_3 : List UInt8 := dkwL_law_3 ++ dktL_law_4
def dkwL_law_2 : List UInt8 := [170, 0, 0, 5, 202, 0, 0, 0, 0, 0, 0, 0, 20, 0, 0, 0, 97, 0, 0, 0, 153, 0, 0, 0, 233, 0, 0, 1, 33, 0, 0, 1, 46, 0, 0, 1, 138, 0, 0, 1, 230, 0, 0, 2, 42, 0, 0, 2, 110, 0, 0, 2, 166, 0, 0, 2, 179, 0, 0, 2, 235, 0, 0, 3, 71, 0, 0, 3, 158, 0, 0, 3, 238, 0, 0, 4, 50, 0, 0, 4, 130, 0, 0, 4, 210, 0, 0, 5, 22, 0, 0, 5, 90, 0, 0, 5, 146]
abbrev dktL_law_2 : List UInt8 := dkwL_law_2 ++ dktL_law_3
def dkwL_law_1 : List UInt8 := [21, 4, 42, 190, 8, 100, 163, 5, 218, 42, 21, 4, 46, 16, 31, 126]
abbrev dktL_law_1 : List UInt8 := dkwL_law_1 ++ dktL_law_2
def dkwL_law_0 : List UInt8 := [187, 0, 8, 89, 183, 0, 77, 76, 187, 0, 78, 89, 183, 0, 80, 77, 4, 188, 11, 78, 3, 54, 4]
abbrev dktL_law_0 : List UInt8 := dkwL_law_0 ++ dktL_law_1
theorem dksL_law_0 : cL_law.data.toList.drop 0 = dktL_law_0 := by decide +kernel
theorem dksL_law_1 : cL_law.data.toList.drop 23 = dktL_law_1 := dk_seg dksL_law_0 23 rfl rfl
theorem dksL_law_2 : cL_law.data.toList.drop 39 = dktL_law_2 := dk_seg dksL_law_1 16 rfl rfl
theorem dksL_law_3 : cL_law.data.toList.drop 136 = dktL_law_3 := dk_seg dksL_law_2 97 rfl rfl
theorem dksL_law_4 : cL_law.data.toList.drop 159 = dktL_law_4 := dk_seg dksL_law_3 23 rfl rfl
theorem dksL_law_5 : cL_law.data.toList.drop 183 = dktL_law_5 := dk_seg dksL_law_4 24 rfl rfl
theorem dksL_law_6 : cL_law.data.toList.drop 206 = dktL_law_6 := dk_seg dksL_law_5 23 rfl rfl
theorem dksL_law_7 : cL_law.data.toList.drop 230 = dktL_law_7 := dk_seg dksL_law_6 24 rfl rfl
theorem dksL_law_8 : cL_law.data.toList.drop 254 = dktL_law_8 := dk_seg dksL_law_7 24 rfl rfl
theorem dksL_law_9 : cL_law.data.toList.drop 278 = dktL_law_9 := dk_seg dksL_law_8 24 rfl rfl
theorem dksL_law_10 : cL_law.data.toList.drop 301 = dktL_law_10 := dk_seg dksL_law_9 23 rfl rfl
theorem dksL_law_11 : cL_law.data.toList.drop 325 = dktL_law_11 := dk_seg dksL_law_10 24 rfl rfl
theorem dksL_law_12 : cL_law.data.toList.drop 349 = dktL_law_12 := dk_seg dksL_law_11 24 rfl rfl
theorem dksL_law_13 : cL_law.data.toList.drop 373 = dktL_law_13 := dk_seg dksL_law_12 24 rfl rfl
theorem dksL_law_14 : cL_law.data.toList.drop 397 = dktL_law_14 := dk_seg dksL_law_13 24 rfl rfl
theorem dksL_law_15 : cL_law.data.toList.drop 421 = dktL_law_15 := dk_seg dksL_law_14 24 rfl rfl
theorem dksL_law_16 : cL_law.data.toList.drop 445 = dktL_law_16 := dk_seg dksL_law_15 24 rfl rfl
theorem dksL_law_17 : cL_law.data.toList.drop 469 = dktL_law_17 := dk_seg dksL_law_16 24 rfl rfl
theorem dksL_law_18 : cL_law.data.toList.drop 492 = dktL_law_18 := dk_seg dksL_law_17 23 rfl rfl
theorem dksL_law_19 : cL_law.data.toList.drop 516 = dktL_law_19 := dk_seg dksL_law_18 24 rfl rfl
theorem dksL_law_20 : cL_law.data.toList.drop 539 = dktL_law_20 := dk_seg dksL_law_19 23 rfl rfl
theorem dksL_law_21 : cL_law.data.toList.drop 563 = dktL_law_21 := dk_seg dksL_law_20 24 rfl rfl
theorem dksL_law_22 : cL_law.data.toList.drop 585 = dktL_law_22 := dk_seg dksL_law_21 22 rfl rfl
theorem dksL_law_23 : cL_law.data.toList.drop 607 = dktL_law_23 := dk_seg dksL_law_22 22 rfl rfl
theorem dksL_law_24 : cL_law.data.toList.drop 631 = dktL_law_24 := dk_seg dksL_law_23 24 rfl rfl
theorem dksL_law_25 : cL_law.data.toList.drop 653 = dktL_law_25 := dk_seg dksL_law_24 22 rfl rfl
theorem dksL_law_26 : cL_law.data.toList.drop 676 = dktL_law_26 := dk_seg dksL_law_25 23 rfl rfl
theorem dksL_law_27 : cL_law.data.toList.drop 699 = dktL_law_27 := dk_seg dksL_law_26 23 rfl rfl
theorem dksL_law_28 : cL_law.data.toList.drop 722 = dktL_law_28 := dk_seg dksL_law_27 23 rfl rfl
theorem dksL_law_29 : cL_law.data.toList.drop 745 = dktL_law_29 := dk_seg dksL_law_28 23 rfl rfl
theorem dksL_law_30 : cL_law.data.toList.drop 768 = dktL_law_30 := dk_seg dksL_law_29 23 rfl rfl
theorem dksL_law_31 : cL_law.data.toList.drop 792 = dktL_law_31 := dk_seg dksL_law_30 24 rfl rfl
theorem dksL_law_32 : cL_law.data.toList.drop 815 = dktL_law_32 := dk_seg dksL_law_31 23 rfl rfl
theorem dksL_law_33 : cL_law.data.toList.drop 839 = dktL_law_33 := dk_seg dksL_law_32 24 rfl rfl
theorem dksL_law_34 : cL_law.data.toList.drop 863 = dktL_law_34 := dk_seg dksL_law_33 24 rfl rfl
theorem dksL_law_35 : cL_law.data.toList.drop 886 = dktL_law_35 := dk_seg dksL_law_34 23 rfl rfl
theorem dksL_law_36 : cL_law.data.toList.drop 910 = dktL_law_36 := dk_seg dksL_law_35 24 rfl rfl
theorem dksL_law_37 : cL_law.data.toList.drop 933 = dktL_law_37 := dk_seg dksL_law_36 23 rfl rfl
theorem dksL_law_38 : cL_law.data.toList.drop 957 = dktL_law_38 := dk_seg dksL_law_37 24 rfl rfl
theorem dksL_law_39 : cL_law.data.toList.drop 981 = dktL_law_39 := dk_seg dksL_law_38 24 rfl rfl
theorem dksL_law_40 : cL_law.data.toList.drop 1004 = dktL_law_40 := dk_seg dksL_law_39 23 rfl rfl
theorem dksL_law_41 : cL_law.data.toList.drop 1027 = dktL_law_41 := dk_seg dksL_law_40 23 rfl rfl
theorem dksL_law_42 : cL_law.data.toList.drop 1051 = dktL_law_42 := dk_seg dksL_law_41 24 rfl rfl
theorem dksL_law_43 : cL_law.data.toList.drop 1075 = dktL_law_43 := dk_seg dksL_law_42 24 rfl rfl
theorem dksL_law_44 : cL_law.data.toList.drop 1099 = dktL_law_44 := dk_seg dksL_law_43 24 rfl rfl
theorem dksL_law_45 : cL_law.data.toList.drop 1123 = dktL_law_45 := dk_seg dksL_law_44 24 rfl rfl
theorem dksL_law_46 : cL_law.data.toList.drop 1146 = dktL_law_46 := dk_seg dksL_law_45 23 rfl rfl
theorem dksL_law_47 : cL_law.data.toList.drop 1168 = dktL_law_47 := dk_seg dksL_law_46 22 rfl rfl
theorem dksL_law_48 : cL_law.data.toList.drop 1190 = dktL_law_48 := dk_seg dksL_law_47 22 rfl rfl
theorem dksL_law_49 : cL_law.data.toList.drop 1213 = dktL_law_49 := dk_seg dksL_law_48 23 rfl rfl
theorem dksL_law_50 : cL_law.data.toList.drop 1237 = dktL_law_50 := dk_seg dksL_law_49 24 rfl rfl
theorem dksL_law_51 : cL_law.data.toList.drop 1261 = dktL_law_51 := dk_seg dksL_law_50 24 rfl rfl
theorem dksL_law_52 : cL_law.data.toList.drop 1285 = dktL_law_52 := dk_seg dksL_law_51 24 rfl rfl
theorem dksL_law_53 : cL_law.data.toList.drop 1308 = dktL_law_53 := dk_seg dksL_law_52 23 rfl rfl
theorem dksL_law_54 : cL_law.data.toList.drop 1332 = dktL_law_54 := dk_seg dksL_law_53 24 rfl rfl
theorem dksL_law_55 : cL_law.data.toList.drop 1355 = dktL_law_55 := dk_seg dksL_law_54 23 rfl rfl
theorem dksL_law_56 : cL_law.data.toList.drop 1379 = dktL_law_56 := dk_seg dksL_law_55 24 rfl rfl
theorem dksL_law_57 : cL_law.data.toList.drop 1401 = dktL_law_57 := dk_seg dksL_law_56 22 rfl rfl
theorem dksL_law_58 : cL_law.data.toList.drop 1424 = dktL_law_58 := dk_seg dksL_law_57 23 rfl rfl
theorem dksL_law_59 : cL_law.data.toList.drop 1447 = dktL_law_59 := dk_seg dksL_law_58 23 rfl rfl
theorem dksL_law_60 : cL_law.data.toList.drop 1471 = dktL_law_60 := dk_seg dksL_law_59 24 rfl rfl
theorem dksL_law_61 : cL_law.data.toList.drop 1494 = dktL_law_61 := dk_seg dksL_law_60 23 rfl rfl
theorem dksL_law_62 : cL_law.data.toList.drop 1518 = dktL_law_62 := dk_seg dksL_law_61 24 rfl rfl
theorem dL_law_0 : decode cL_law 0 = .ok (.new 8, 3) := dk_187 0 8 (dk_at dksL_law_0 0 rfl rfl)
theorem dL_law_3 : decode cL_law 3 = .ok (.dup, 1) := dk_89 (dk_at dksL_law_0 3 rfl rfl)
theorem dL_law_4 : decode cL_law 4 = .ok (.invokespecial 77, 3) := dk_183 0 77 (dk_at dksL_law_0 4 rfl rfl)
theorem dL_law_7 : decode cL_law 7 = .ok (.astore_n 1, 1) := dk_76 (dk_at dksL_law_0 7 rfl rfl)
theorem dL_law_8 : decode cL_law 8 = .ok (.new 78, 3) := dk_187 0 78 (dk_at dksL_law_0 8 rfl rfl)
theorem dL_law_11 : decode cL_law 11 = .ok (.dup, 1) := dk_89 (dk_at dksL_law_0 11 rfl rfl)
theorem dL_law_12 : decode cL_law 12 = .ok (.invokespecial 80, 3) := dk_183 0 80 (dk_at dksL_law_0 12 rfl rfl)
theorem dL_law_15 : decode cL_law 15 = .ok (.astore_n 2, 1) := dk_77 (dk_at dksL_law_0 15 rfl rfl)
theorem dL_law_16 : decode cL_law 16 = .ok (.iconst 1, 1) := dk_4 (dk_at dksL_law_0 16 rfl rfl)
theorem dL_law_17 : decode cL_law 17 = .ok (.newarray .long, 2) := dk_188_11 (dk_at dksL_law_0 17 rfl rfl)
theorem dL_law_19 : decode cL_law 19 = .ok (.astore_n 3, 1) := dk_78 (dk_at dksL_law_0 19 rfl rfl)
theorem dL_law_20 : decode cL_law 20 = .ok (.iconst 0, 1) := dk_3 (dk_at dksL_law_0 20 rfl rfl)
theorem dL_law_21 : decode cL_law 21 = .ok (.istore 4, 2) := dk_54 4 (dk_at dksL_law_0 21 rfl rfl)
theorem dL_law_23 : decode cL_law 23 = .ok (.iload 4, 2) := dk_21 4 (dk_at dksL_law_1 0 rfl rfl)
theorem dL_law_25 : decode cL_law 25 = .ok (.aload_n 0, 1) := dk_42 (dk_at dksL_law_1 2 rfl rfl)
theorem dL_law_26 : decode cL_law 26 = .ok (.arraylength, 1) := dk_190 (dk_at dksL_law_1 3 rfl rfl)
theorem dL_law_27 : decode cL_law 27 = .ok (.iconst 5, 1) := dk_8 (dk_at dksL_law_1 4 rfl rfl)
theorem dL_law_28 : decode cL_law 28 = .ok (.isub, 1) := dk_100 (dk_at dksL_law_1 5 rfl rfl)
theorem dL_law_29 : decode cL_law 29 = .ok (.if_icmp .gt 1498, 3) := dk_163 5 218 (dk_at dksL_law_1 6 rfl rfl)
theorem dL_law_32 : decode cL_law 32 = .ok (.aload_n 0, 1) := dk_42 (dk_at dksL_law_1 9 rfl rfl)
theorem dL_law_33 : decode cL_law 33 = .ok (.iload 4, 2) := dk_21 4 (dk_at dksL_law_1 10 rfl rfl)
theorem dL_law_35 : decode cL_law 35 = .ok (.iaload, 1) := dk_46 (dk_at dksL_law_1 12 rfl rfl)
theorem dL_law_36 : decode cL_law 36 = .ok (.bipush 31, 2) := dk_16 31 (dk_at dksL_law_1 13 rfl rfl)
theorem dL_law_38 : decode cL_law 38 = .ok (.iand, 1) := dk_126 (dk_at dksL_law_1 15 rfl rfl)
theorem dL_law_39 : decode cL_law 39 = .ok (.tableswitch 1482 0 20 #[97, 153, 233, 289, 302, 394, 486, 554, 622, 678, 691, 747, 839, 926, 1006, 1074, 1154, 1234, 1302, 1370, 1426], 97) := by decide +kernel
theorem dL_law_136 : decode cL_law 136 = .ok (.aload_n 1, 1) := dk_43 (dk_at dksL_law_3 0 rfl rfl)
theorem dL_law_137 : decode cL_law 137 = .ok (.aload_n 0, 1) := dk_42 (dk_at dksL_law_3 1 rfl rfl)
theorem dL_law_138 : decode cL_law 138 = .ok (.iload 4, 2) := dk_21 4 (dk_at dksL_law_3 2 rfl rfl)
theorem dL_law_140 : decode cL_law 140 = .ok (.iconst 1, 1) := dk_4 (dk_at dksL_law_3 4 rfl rfl)
theorem dL_law_141 : decode cL_law 141 = .ok (.iadd, 1) := dk_96 (dk_at dksL_law_3 5 rfl rfl)
theorem dL_law_142 : decode cL_law 142 = .ok (.iaload, 1) := dk_46 (dk_at dksL_law_3 6 rfl rfl)
theorem dL_law_143 : decode cL_law 143 = .ok (.aload_n 3, 1) := dk_45 (dk_at dksL_law_3 7 rfl rfl)
theorem dL_law_144 : decode cL_law 144 = .ok (.invokestatic 81, 3) := dk_184 0 81 (dk_at dksL_law_3 8 rfl rfl)
theorem dL_law_147 : decode cL_law 147 = .ok (.istore 5, 2) := dk_54 5 (dk_at dksL_law_3 11 rfl rfl)
theorem dL_law_149 : decode cL_law 149 = .ok (.aload_n 2, 1) := dk_44 (dk_at dksL_law_3 13 rfl rfl)
theorem dL_law_150 : decode cL_law 150 = .ok (.aload_n 0, 1) := dk_42 (dk_at dksL_law_3 14 rfl rfl)
theorem dL_law_151 : decode cL_law 151 = .ok (.iload 4, 2) := dk_21 4 (dk_at dksL_law_3 15 rfl rfl)
theorem dL_law_153 : decode cL_law 153 = .ok (.iconst 1, 1) := dk_4 (dk_at dksL_law_3 17 rfl rfl)
theorem dL_law_154 : decode cL_law 154 = .ok (.iadd, 1) := dk_96 (dk_at dksL_law_3 18 rfl rfl)
theorem dL_law_155 : decode cL_law 155 = .ok (.iaload, 1) := dk_46 (dk_at dksL_law_3 19 rfl rfl)
theorem dL_law_156 : decode cL_law 156 = .ok (.invokevirtual 86, 3) := dk_182 0 86 (dk_at dksL_law_3 20 rfl rfl)
theorem dL_law_159 : decode cL_law 159 = .ok (.istore 6, 2) := dk_54 6 (dk_at dksL_law_4 0 rfl rfl)
theorem dL_law_161 : decode cL_law 161 = .ok (.aload_n 2, 1) := dk_44 (dk_at dksL_law_4 2 rfl rfl)
theorem dL_law_162 : decode cL_law 162 = .ok (.invokevirtual 87, 3) := dk_182 0 87 (dk_at dksL_law_4 3 rfl rfl)
theorem dL_law_165 : decode cL_law 165 = .ok (.iload 5, 2) := dk_21 5 (dk_at dksL_law_4 6 rfl rfl)
theorem dL_law_167 : decode cL_law 167 = .ok (.if_icmp .eq 5, 3) := dk_159 0 5 (dk_at dksL_law_4 8 rfl rfl)
theorem dL_law_170 : decode cL_law 170 = .ok (.iconst 0, 1) := dk_3 (dk_at dksL_law_4 11 rfl rfl)
theorem dL_law_171 : decode cL_law 171 = .ok (.ireturn, 1) := dk_172 (dk_at dksL_law_4 12 rfl rfl)
theorem dL_law_172 : decode cL_law 172 = .ok (.iload 5, 2) := dk_21 5 (dk_at dksL_law_4 13 rfl rfl)
theorem dL_law_174 : decode cL_law 174 = .ok (.ifCond .ne 15, 3) := dk_154 0 15 (dk_at dksL_law_4 15 rfl rfl)
theorem dL_law_177 : decode cL_law 177 = .ok (.aload_n 3, 1) := dk_45 (dk_at dksL_law_4 18 rfl rfl)
theorem dL_law_178 : decode cL_law 178 = .ok (.iconst 0, 1) := dk_3 (dk_at dksL_law_4 19 rfl rfl)
theorem dL_law_179 : decode cL_law 179 = .ok (.laload, 1) := dk_47 (dk_at dksL_law_4 20 rfl rfl)
theorem dL_law_180 : decode cL_law 180 = .ok (.iload 6, 2) := dk_21 6 (dk_at dksL_law_4 21 rfl rfl)
theorem dL_law_182 : decode cL_law 182 = .ok (.i2l, 1) := dk_133 (dk_at dksL_law_4 23 rfl rfl)
theorem dL_law_183 : decode cL_law 183 = .ok (.lcmp, 1) := dk_148 (dk_at dksL_law_5 0 rfl rfl)
theorem dL_law_184 : decode cL_law 184 = .ok (.ifCond .eq 5, 3) := dk_153 0 5 (dk_at dksL_law_5 1 rfl rfl)
theorem dL_law_187 : decode cL_law 187 = .ok (.iconst 0, 1) := dk_3 (dk_at dksL_law_5 4 rfl rfl)
theorem dL_law_188 : decode cL_law 188 = .ok (.ireturn, 1) := dk_172 (dk_at dksL_law_5 5 rfl rfl)
theorem dL_law_189 : decode cL_law 189 = .ok (.goto 1332, 3) := dk_167 5 52 (dk_at dksL_law_5 6 rfl rfl)
theorem dL_law_192 : decode cL_law 192 = .ok (.aload_n 1, 1) := dk_43 (dk_at dksL_law_5 9 rfl rfl)
theorem dL_law_193 : decode cL_law 193 = .ok (.aload_n 0, 1) := dk_42 (dk_at dksL_law_5 10 rfl rfl)
theorem dL_law_194 : decode cL_law 194 = .ok (.iload 4, 2) := dk_21 4 (dk_at dksL_law_5 11 rfl rfl)
theorem dL_law_196 : decode cL_law 196 = .ok (.iconst 1, 1) := dk_4 (dk_at dksL_law_5 13 rfl rfl)
theorem dL_law_197 : decode cL_law 197 = .ok (.iadd, 1) := dk_96 (dk_at dksL_law_5 14 rfl rfl)
theorem dL_law_198 : decode cL_law 198 = .ok (.iaload, 1) := dk_46 (dk_at dksL_law_5 15 rfl rfl)
theorem dL_law_199 : decode cL_law 199 = .ok (.aload_n 0, 1) := dk_42 (dk_at dksL_law_5 16 rfl rfl)
theorem dL_law_200 : decode cL_law 200 = .ok (.iload 4, 2) := dk_21 4 (dk_at dksL_law_5 17 rfl rfl)
theorem dL_law_202 : decode cL_law 202 = .ok (.iconst 2, 1) := dk_5 (dk_at dksL_law_5 19 rfl rfl)
theorem dL_law_203 : decode cL_law 203 = .ok (.iadd, 1) := dk_96 (dk_at dksL_law_5 20 rfl rfl)
theorem dL_law_204 : decode cL_law 204 = .ok (.iaload, 1) := dk_46 (dk_at dksL_law_5 21 rfl rfl)
theorem dL_law_205 : decode cL_law 205 = .ok (.aload_n 0, 1) := dk_42 (dk_at dksL_law_5 22 rfl rfl)
theorem dL_law_206 : decode cL_law 206 = .ok (.iload 4, 2) := dk_21 4 (dk_at dksL_law_6 0 rfl rfl)
theorem dL_law_208 : decode cL_law 208 = .ok (.iconst 3, 1) := dk_6 (dk_at dksL_law_6 2 rfl rfl)
theorem dL_law_209 : decode cL_law 209 = .ok (.iadd, 1) := dk_96 (dk_at dksL_law_6 3 rfl rfl)
theorem dL_law_210 : decode cL_law 210 = .ok (.iaload, 1) := dk_46 (dk_at dksL_law_6 4 rfl rfl)
theorem dL_law_211 : decode cL_law 211 = .ok (.aload_n 3, 1) := dk_45 (dk_at dksL_law_6 5 rfl rfl)
theorem dL_law_212 : decode cL_law 212 = .ok (.invokestatic 91, 3) := dk_184 0 91 (dk_at dksL_law_6 6 rfl rfl)
theorem dL_law_215 : decode cL_law 215 = .ok (.istore 5, 2) := dk_54 5 (dk_at dksL_law_6 9 rfl rfl)
theorem dL_law_217 : decode cL_law 217 = .ok (.aload_n 2, 1) := dk_44 (dk_at dksL_law_6 11 rfl rfl)
theorem dL_law_218 : decode cL_law 218 = .ok (.aload_n 0, 1) := dk_42 (dk_at dksL_law_6 12 rfl rfl)
theorem dL_law_219 : decode cL_law 219 = .ok (.iload 4, 2) := dk_21 4 (dk_at dksL_law_6 13 rfl rfl)
theorem dL_law_221 : decode cL_law 221 = .ok (.iconst 1, 1) := dk_4 (dk_at dksL_law_6 15 rfl rfl)
theorem dL_law_222 : decode cL_law 222 = .ok (.iadd, 1) := dk_96 (dk_at dksL_law_6 16 rfl rfl)
theorem dL_law_223 : decode cL_law 223 = .ok (.iaload, 1) := dk_46 (dk_at dksL_law_6 17 rfl rfl)
theorem dL_law_224 : decode cL_law 224 = .ok (.aload_n 0, 1) := dk_42 (dk_at dksL_law_6 18 rfl rfl)
theorem dL_law_225 : decode cL_law 225 = .ok (.iload 4, 2) := dk_21 4 (dk_at dksL_law_6 19 rfl rfl)
theorem dL_law_227 : decode cL_law 227 = .ok (.iconst 2, 1) := dk_5 (dk_at dksL_law_6 21 rfl rfl)
theorem dL_law_228 : decode cL_law 228 = .ok (.iadd, 1) := dk_96 (dk_at dksL_law_6 22 rfl rfl)
theorem dL_law_229 : decode cL_law 229 = .ok (.iaload, 1) := dk_46 (dk_at dksL_law_6 23 rfl rfl)
theorem dL_law_230 : decode cL_law 230 = .ok (.aload_n 0, 1) := dk_42 (dk_at dksL_law_7 0 rfl rfl)
theorem dL_law_231 : decode cL_law 231 = .ok (.iload 4, 2) := dk_21 4 (dk_at dksL_law_7 1 rfl rfl)
theorem dL_law_233 : decode cL_law 233 = .ok (.iconst 3, 1) := dk_6 (dk_at dksL_law_7 3 rfl rfl)
theorem dL_law_234 : decode cL_law 234 = .ok (.iadd, 1) := dk_96 (dk_at dksL_law_7 4 rfl rfl)
theorem dL_law_235 : decode cL_law 235 = .ok (.iaload, 1) := dk_46 (dk_at dksL_law_7 5 rfl rfl)
theorem dL_law_236 : decode cL_law 236 = .ok (.invokevirtual 94, 3) := dk_182 0 94 (dk_at dksL_law_7 6 rfl rfl)
theorem dL_law_239 : decode cL_law 239 = .ok (.istore 6, 2) := dk_54 6 (dk_at dksL_law_7 9 rfl rfl)
theorem dL_law_241 : decode cL_law 241 = .ok (.aload_n 2, 1) := dk_44 (dk_at dksL_law_7 11 rfl rfl)
theorem dL_law_242 : decode cL_law 242 = .ok (.invokevirtual 87, 3) := dk_182 0 87 (dk_at dksL_law_7 12 rfl rfl)
theorem dL_law_245 : decode cL_law 245 = .ok (.iload 5, 2) := dk_21 5 (dk_at dksL_law_7 15 rfl rfl)
theorem dL_law_247 : decode cL_law 247 = .ok (.if_icmp .eq 5, 3) := dk_159 0 5 (dk_at dksL_law_7 17 rfl rfl)
theorem dL_law_250 : decode cL_law 250 = .ok (.iconst 0, 1) := dk_3 (dk_at dksL_law_7 20 rfl rfl)
theorem dL_law_251 : decode cL_law 251 = .ok (.ireturn, 1) := dk_172 (dk_at dksL_law_7 21 rfl rfl)
theorem dL_law_252 : decode cL_law 252 = .ok (.iload 5, 2) := dk_21 5 (dk_at dksL_law_7 22 rfl rfl)
theorem dL_law_254 : decode cL_law 254 = .ok (.ifCond .ne 15, 3) := dk_154 0 15 (dk_at dksL_law_8 0 rfl rfl)
theorem dL_law_257 : decode cL_law 257 = .ok (.aload_n 3, 1) := dk_45 (dk_at dksL_law_8 3 rfl rfl)
theorem dL_law_258 : decode cL_law 258 = .ok (.iconst 0, 1) := dk_3 (dk_at dksL_law_8 4 rfl rfl)
theorem dL_law_259 : decode cL_law 259 = .ok (.laload, 1) := dk_47 (dk_at dksL_law_8 5 rfl rfl)
theorem dL_law_260 : decode cL_law 260 = .ok (.iload 6, 2) := dk_21 6 (dk_at dksL_law_8 6 rfl rfl)
theorem dL_law_262 : decode cL_law 262 = .ok (.i2l, 1) := dk_133 (dk_at dksL_law_8 8 rfl rfl)
theorem dL_law_263 : decode cL_law 263 = .ok (.lcmp, 1) := dk_148 (dk_at dksL_law_8 9 rfl rfl)
theorem dL_law_264 : decode cL_law 264 = .ok (.ifCond .eq 5, 3) := dk_153 0 5 (dk_at dksL_law_8 10 rfl rfl)
theorem dL_law_267 : decode cL_law 267 = .ok (.iconst 0, 1) := dk_3 (dk_at dksL_law_8 13 rfl rfl)
theorem dL_law_268 : decode cL_law 268 = .ok (.ireturn, 1) := dk_172 (dk_at dksL_law_8 14 rfl rfl)
theorem dL_law_269 : decode cL_law 269 = .ok (.goto 1252, 3) := dk_167 4 228 (dk_at dksL_law_8 15 rfl rfl)
theorem dL_law_272 : decode cL_law 272 = .ok (.aload_n 1, 1) := dk_43 (dk_at dksL_law_8 18 rfl rfl)
theorem dL_law_273 : decode cL_law 273 = .ok (.aload_n 0, 1) := dk_42 (dk_at dksL_law_8 19 rfl rfl)
theorem dL_law_274 : decode cL_law 274 = .ok (.iload 4, 2) := dk_21 4 (dk_at dksL_law_8 20 rfl rfl)
theorem dL_law_276 : decode cL_law 276 = .ok (.iconst 1, 1) := dk_4 (dk_at dksL_law_8 22 rfl rfl)
theorem dL_law_277 : decode cL_law 277 = .ok (.iadd, 1) := dk_96 (dk_at dksL_law_8 23 rfl rfl)
theorem dL_law_278 : decode cL_law 278 = .ok (.iaload, 1) := dk_46 (dk_at dksL_law_9 0 rfl rfl)
theorem dL_law_279 : decode cL_law 279 = .ok (.aload_n 3, 1) := dk_45 (dk_at dksL_law_9 1 rfl rfl)
theorem dL_law_280 : decode cL_law 280 = .ok (.invokestatic 95, 3) := dk_184 0 95 (dk_at dksL_law_9 2 rfl rfl)
theorem dL_law_283 : decode cL_law 283 = .ok (.istore 5, 2) := dk_54 5 (dk_at dksL_law_9 5 rfl rfl)
theorem dL_law_285 : decode cL_law 285 = .ok (.aload_n 2, 1) := dk_44 (dk_at dksL_law_9 7 rfl rfl)
theorem dL_law_286 : decode cL_law 286 = .ok (.aload_n 0, 1) := dk_42 (dk_at dksL_law_9 8 rfl rfl)
theorem dL_law_287 : decode cL_law 287 = .ok (.iload 4, 2) := dk_21 4 (dk_at dksL_law_9 9 rfl rfl)
theorem dL_law_289 : decode cL_law 289 = .ok (.iconst 1, 1) := dk_4 (dk_at dksL_law_9 11 rfl rfl)
theorem dL_law_290 : decode cL_law 290 = .ok (.iadd, 1) := dk_96 (dk_at dksL_law_9 12 rfl rfl)
theorem dL_law_291 : decode cL_law 291 = .ok (.iaload, 1) := dk_46 (dk_at dksL_law_9 13 rfl rfl)
theorem dL_law_292 : decode cL_law 292 = .ok (.invokevirtual 97, 3) := dk_182 0 97 (dk_at dksL_law_9 14 rfl rfl)
theorem dL_law_295 : decode cL_law 295 = .ok (.istore 6, 2) := dk_54 6 (dk_at dksL_law_9 17 rfl rfl)
theorem dL_law_297 : decode cL_law 297 = .ok (.aload_n 2, 1) := dk_44 (dk_at dksL_law_9 19 rfl rfl)
theorem dL_law_298 : decode cL_law 298 = .ok (.invokevirtual 87, 3) := dk_182 0 87 (dk_at dksL_law_9 20 rfl rfl)
theorem dL_law_301 : decode cL_law 301 = .ok (.iload 5, 2) := dk_21 5 (dk_at dksL_law_10 0 rfl rfl)
theorem dL_law_303 : decode cL_law 303 = .ok (.if_icmp .eq 5, 3) := dk_159 0 5 (dk_at dksL_law_10 2 rfl rfl)
theorem dL_law_306 : decode cL_law 306 = .ok (.iconst 0, 1) := dk_3 (dk_at dksL_law_10 5 rfl rfl)
theorem dL_law_307 : decode cL_law 307 = .ok (.ireturn, 1) := dk_172 (dk_at dksL_law_10 6 rfl rfl)
theorem dL_law_308 : decode cL_law 308 = .ok (.iload 5, 2) := dk_21 5 (dk_at dksL_law_10 7 rfl rfl)
theorem dL_law_310 : decode cL_law 310 = .ok (.ifCond .ne 15, 3) := dk_154 0 15 (dk_at dksL_law_10 9 rfl rfl)
theorem dL_law_313 : decode cL_law 313 = .ok (.aload_n 3, 1) := dk_45 (dk_at dksL_law_10 12 rfl rfl)
theorem dL_law_314 : decode cL_law 314 = .ok (.iconst 0, 1) := dk_3 (dk_at dksL_law_10 13 rfl rfl)
theorem dL_law_315 : decode cL_law 315 = .ok (.laload, 1) := dk_47 (dk_at dksL_law_10 14 rfl rfl)
theorem dL_law_316 : decode cL_law 316 = .ok (.iload 6, 2) := dk_21 6 (dk_at dksL_law_10 15 rfl rfl)
theorem dL_law_318 : decode cL_law 318 = .ok (.i2l, 1) := dk_133 (dk_at dksL_law_10 17 rfl rfl)
theorem dL_law_319 : decode cL_law 319 = .ok (.lcmp, 1) := dk_148 (dk_at dksL_law_10 18 rfl rfl)
theorem dL_law_320 : decode cL_law 320 = .ok (.ifCond .eq 5, 3) := dk_153 0 5 (dk_at dksL_law_10 19 rfl rfl)
theorem dL_law_323 : decode cL_law 323 = .ok (.iconst 0, 1) := dk_3 (dk_at dksL_law_10 22 rfl rfl)
theorem dL_law_324 : decode cL_law 324 = .ok (.ireturn, 1) := dk_172 (dk_at dksL_law_10 23 rfl rfl)
theorem dL_law_325 : decode cL_law 325 = .ok (.goto 1196, 3) := dk_167 4 172 (dk_at dksL_law_11 0 rfl rfl)
theorem dL_law_328 : decode cL_law 328 = .ok (.aload_n 1, 1) := dk_43 (dk_at dksL_law_11 3 rfl rfl)
theorem dL_law_329 : decode cL_law 329 = .ok (.invokevirtual 98, 3) := dk_182 0 98 (dk_at dksL_law_11 4 rfl rfl)
theorem dL_law_332 : decode cL_law 332 = .ok (.aload_n 2, 1) := dk_44 (dk_at dksL_law_11 7 rfl rfl)
theorem dL_law_333 : decode cL_law 333 = .ok (.invokevirtual 101, 3) := dk_182 0 101 (dk_at dksL_law_11 8 rfl rfl)
theorem dL_law_336 : decode cL_law 336 = .ok (.if_icmp .eq 1185, 3) := dk_159 4 161 (dk_at dksL_law_11 11 rfl rfl)
theorem dL_law_339 : decode cL_law 339 = .ok (.iconst 0, 1) := dk_3 (dk_at dksL_law_11 14 rfl rfl)
theorem dL_law_340 : decode cL_law 340 = .ok (.ireturn, 1) := dk_172 (dk_at dksL_law_11 15 rfl rfl)
theorem dL_law_341 : decode cL_law 341 = .ok (.aload_n 1, 1) := dk_43 (dk_at dksL_law_11 16 rfl rfl)
theorem dL_law_342 : decode cL_law 342 = .ok (.aload_n 0, 1) := dk_42 (dk_at dksL_law_11 17 rfl rfl)
theorem dL_law_343 : decode cL_law 343 = .ok (.iload 4, 2) := dk_21 4 (dk_at dksL_law_11 18 rfl rfl)
theorem dL_law_345 : decode cL_law 345 = .ok (.iconst 1, 1) := dk_4 (dk_at dksL_law_11 20 rfl rfl)
theorem dL_law_346 : decode cL_law 346 = .ok (.iadd, 1) := dk_96 (dk_at dksL_law_11 21 rfl rfl)
theorem dL_law_347 : decode cL_law 347 = .ok (.iaload, 1) := dk_46 (dk_at dksL_law_11 22 rfl rfl)
theorem dL_law_348 : decode cL_law 348 = .ok (.aload_n 0, 1) := dk_42 (dk_at dksL_law_11 23 rfl rfl)
theorem dL_law_349 : decode cL_law 349 = .ok (.iload 4, 2) := dk_21 4 (dk_at dksL_law_12 0 rfl rfl)
theorem dL_law_351 : decode cL_law 351 = .ok (.iconst 2, 1) := dk_5 (dk_at dksL_law_12 2 rfl rfl)
theorem dL_law_352 : decode cL_law 352 = .ok (.iadd, 1) := dk_96 (dk_at dksL_law_12 3 rfl rfl)
theorem dL_law_353 : decode cL_law 353 = .ok (.iaload, 1) := dk_46 (dk_at dksL_law_12 4 rfl rfl)
theorem dL_law_354 : decode cL_law 354 = .ok (.aload_n 0, 1) := dk_42 (dk_at dksL_law_12 5 rfl rfl)
theorem dL_law_355 : decode cL_law 355 = .ok (.iload 4, 2) := dk_21 4 (dk_at dksL_law_12 6 rfl rfl)
theorem dL_law_357 : decode cL_law 357 = .ok (.iconst 3, 1) := dk_6 (dk_at dksL_law_12 8 rfl rfl)
theorem dL_law_358 : decode cL_law 358 = .ok (.iadd, 1) := dk_96 (dk_at dksL_law_12 9 rfl rfl)
theorem dL_law_359 : decode cL_law 359 = .ok (.iaload, 1) := dk_46 (dk_at dksL_law_12 10 rfl rfl)
theorem dL_law_360 : decode cL_law 360 = .ok (.aload_n 0, 1) := dk_42 (dk_at dksL_law_12 11 rfl rfl)
theorem dL_law_361 : decode cL_law 361 = .ok (.iload 4, 2) := dk_21 4 (dk_at dksL_law_12 12 rfl rfl)
theorem dL_law_363 : decode cL_law 363 = .ok (.iconst 4, 1) := dk_7 (dk_at dksL_law_12 14 rfl rfl)
theorem dL_law_364 : decode cL_law 364 = .ok (.iadd, 1) := dk_96 (dk_at dksL_law_12 15 rfl rfl)
theorem dL_law_365 : decode cL_law 365 = .ok (.iaload, 1) := dk_46 (dk_at dksL_law_12 16 rfl rfl)
theorem dL_law_366 : decode cL_law 366 = .ok (.aload_n 3, 1) := dk_45 (dk_at dksL_law_12 17 rfl rfl)
theorem dL_law_367 : decode cL_law 367 = .ok (.invokestatic 102, 3) := dk_184 0 102 (dk_at dksL_law_12 18 rfl rfl)
theorem dL_law_370 : decode cL_law 370 = .ok (.istore 5, 2) := dk_54 5 (dk_at dksL_law_12 21 rfl rfl)
theorem dL_law_372 : decode cL_law 372 = .ok (.aload_n 2, 1) := dk_44 (dk_at dksL_law_12 23 rfl rfl)
theorem dL_law_373 : decode cL_law 373 = .ok (.aload_n 0, 1) := dk_42 (dk_at dksL_law_13 0 rfl rfl)
theorem dL_law_374 : decode cL_law 374 = .ok (.iload 4, 2) := dk_21 4 (dk_at dksL_law_13 1 rfl rfl)
theorem dL_law_376 : decode cL_law 376 = .ok (.iconst 1, 1) := dk_4 (dk_at dksL_law_13 3 rfl rfl)
theorem dL_law_377 : decode cL_law 377 = .ok (.iadd, 1) := dk_96 (dk_at dksL_law_13 4 rfl rfl)
theorem dL_law_378 : decode cL_law 378 = .ok (.iaload, 1) := dk_46 (dk_at dksL_law_13 5 rfl rfl)
theorem dL_law_379 : decode cL_law 379 = .ok (.aload_n 0, 1) := dk_42 (dk_at dksL_law_13 6 rfl rfl)
theorem dL_law_380 : decode cL_law 380 = .ok (.iload 4, 2) := dk_21 4 (dk_at dksL_law_13 7 rfl rfl)
theorem dL_law_382 : decode cL_law 382 = .ok (.iconst 2, 1) := dk_5 (dk_at dksL_law_13 9 rfl rfl)
theorem dL_law_383 : decode cL_law 383 = .ok (.iadd, 1) := dk_96 (dk_at dksL_law_13 10 rfl rfl)
theorem dL_law_384 : decode cL_law 384 = .ok (.iaload, 1) := dk_46 (dk_at dksL_law_13 11 rfl rfl)
theorem dL_law_385 : decode cL_law 385 = .ok (.aload_n 0, 1) := dk_42 (dk_at dksL_law_13 12 rfl rfl)
theorem dL_law_386 : decode cL_law 386 = .ok (.iload 4, 2) := dk_21 4 (dk_at dksL_law_13 13 rfl rfl)
theorem dL_law_388 : decode cL_law 388 = .ok (.iconst 3, 1) := dk_6 (dk_at dksL_law_13 15 rfl rfl)
theorem dL_law_389 : decode cL_law 389 = .ok (.iadd, 1) := dk_96 (dk_at dksL_law_13 16 rfl rfl)
theorem dL_law_390 : decode cL_law 390 = .ok (.iaload, 1) := dk_46 (dk_at dksL_law_13 17 rfl rfl)
theorem dL_law_391 : decode cL_law 391 = .ok (.aload_n 0, 1) := dk_42 (dk_at dksL_law_13 18 rfl rfl)
theorem dL_law_392 : decode cL_law 392 = .ok (.iload 4, 2) := dk_21 4 (dk_at dksL_law_13 19 rfl rfl)
theorem dL_law_394 : decode cL_law 394 = .ok (.iconst 4, 1) := dk_7 (dk_at dksL_law_13 21 rfl rfl)
theorem dL_law_395 : decode cL_law 395 = .ok (.iadd, 1) := dk_96 (dk_at dksL_law_13 22 rfl rfl)
theorem dL_law_396 : decode cL_law 396 = .ok (.iaload, 1) := dk_46 (dk_at dksL_law_13 23 rfl rfl)
theorem dL_law_397 : decode cL_law 397 = .ok (.invokevirtual 105, 3) := dk_182 0 105 (dk_at dksL_law_14 0 rfl rfl)
theorem dL_law_400 : decode cL_law 400 = .ok (.istore 6, 2) := dk_54 6 (dk_at dksL_law_14 3 rfl rfl)
theorem dL_law_402 : decode cL_law 402 = .ok (.aload_n 2, 1) := dk_44 (dk_at dksL_law_14 5 rfl rfl)
theorem dL_law_403 : decode cL_law 403 = .ok (.invokevirtual 87, 3) := dk_182 0 87 (dk_at dksL_law_14 6 rfl rfl)
theorem dL_law_406 : decode cL_law 406 = .ok (.iload 5, 2) := dk_21 5 (dk_at dksL_law_14 9 rfl rfl)
theorem dL_law_408 : decode cL_law 408 = .ok (.if_icmp .eq 5, 3) := dk_159 0 5 (dk_at dksL_law_14 11 rfl rfl)
theorem dL_law_411 : decode cL_law 411 = .ok (.iconst 0, 1) := dk_3 (dk_at dksL_law_14 14 rfl rfl)
theorem dL_law_412 : decode cL_law 412 = .ok (.ireturn, 1) := dk_172 (dk_at dksL_law_14 15 rfl rfl)
theorem dL_law_413 : decode cL_law 413 = .ok (.iload 5, 2) := dk_21 5 (dk_at dksL_law_14 16 rfl rfl)
theorem dL_law_415 : decode cL_law 415 = .ok (.ifCond .ne 15, 3) := dk_154 0 15 (dk_at dksL_law_14 18 rfl rfl)
theorem dL_law_418 : decode cL_law 418 = .ok (.aload_n 3, 1) := dk_45 (dk_at dksL_law_14 21 rfl rfl)
theorem dL_law_419 : decode cL_law 419 = .ok (.iconst 0, 1) := dk_3 (dk_at dksL_law_14 22 rfl rfl)
theorem dL_law_420 : decode cL_law 420 = .ok (.laload, 1) := dk_47 (dk_at dksL_law_14 23 rfl rfl)
theorem dL_law_421 : decode cL_law 421 = .ok (.iload 6, 2) := dk_21 6 (dk_at dksL_law_15 0 rfl rfl)
theorem dL_law_423 : decode cL_law 423 = .ok (.i2l, 1) := dk_133 (dk_at dksL_law_15 2 rfl rfl)
theorem dL_law_424 : decode cL_law 424 = .ok (.lcmp, 1) := dk_148 (dk_at dksL_law_15 3 rfl rfl)
theorem dL_law_425 : decode cL_law 425 = .ok (.ifCond .eq 5, 3) := dk_153 0 5 (dk_at dksL_law_15 4 rfl rfl)
theorem dL_law_428 : decode cL_law 428 = .ok (.iconst 0, 1) := dk_3 (dk_at dksL_law_15 7 rfl rfl)
theorem dL_law_429 : decode cL_law 429 = .ok (.ireturn, 1) := dk_172 (dk_at dksL_law_15 8 rfl rfl)
theorem dL_law_430 : decode cL_law 430 = .ok (.goto 1091, 3) := dk_167 4 67 (dk_at dksL_law_15 9 rfl rfl)
theorem dL_law_433 : decode cL_law 433 = .ok (.aload_n 1, 1) := dk_43 (dk_at dksL_law_15 12 rfl rfl)
theorem dL_law_434 : decode cL_law 434 = .ok (.aload_n 0, 1) := dk_42 (dk_at dksL_law_15 13 rfl rfl)
theorem dL_law_435 : decode cL_law 435 = .ok (.iload 4, 2) := dk_21 4 (dk_at dksL_law_15 14 rfl rfl)
theorem dL_law_437 : decode cL_law 437 = .ok (.iconst 1, 1) := dk_4 (dk_at dksL_law_15 16 rfl rfl)
theorem dL_law_438 : decode cL_law 438 = .ok (.iadd, 1) := dk_96 (dk_at dksL_law_15 17 rfl rfl)
theorem dL_law_439 : decode cL_law 439 = .ok (.iaload, 1) := dk_46 (dk_at dksL_law_15 18 rfl rfl)
theorem dL_law_440 : decode cL_law 440 = .ok (.aload_n 0, 1) := dk_42 (dk_at dksL_law_15 19 rfl rfl)
theorem dL_law_441 : decode cL_law 441 = .ok (.iload 4, 2) := dk_21 4 (dk_at dksL_law_15 20 rfl rfl)
theorem dL_law_443 : decode cL_law 443 = .ok (.iconst 2, 1) := dk_5 (dk_at dksL_law_15 22 rfl rfl)
theorem dL_law_444 : decode cL_law 444 = .ok (.iadd, 1) := dk_96 (dk_at dksL_law_15 23 rfl rfl)
theorem dL_law_445 : decode cL_law 445 = .ok (.iaload, 1) := dk_46 (dk_at dksL_law_16 0 rfl rfl)
theorem dL_law_446 : decode cL_law 446 = .ok (.aload_n 0, 1) := dk_42 (dk_at dksL_law_16 1 rfl rfl)
theorem dL_law_447 : decode cL_law 447 = .ok (.iload 4, 2) := dk_21 4 (dk_at dksL_law_16 2 rfl rfl)
theorem dL_law_449 : decode cL_law 449 = .ok (.iconst 3, 1) := dk_6 (dk_at dksL_law_16 4 rfl rfl)
theorem dL_law_450 : decode cL_law 450 = .ok (.iadd, 1) := dk_96 (dk_at dksL_law_16 5 rfl rfl)
theorem dL_law_451 : decode cL_law 451 = .ok (.iaload, 1) := dk_46 (dk_at dksL_law_16 6 rfl rfl)
theorem dL_law_452 : decode cL_law 452 = .ok (.aload_n 0, 1) := dk_42 (dk_at dksL_law_16 7 rfl rfl)
theorem dL_law_453 : decode cL_law 453 = .ok (.iload 4, 2) := dk_21 4 (dk_at dksL_law_16 8 rfl rfl)
theorem dL_law_455 : decode cL_law 455 = .ok (.iconst 4, 1) := dk_7 (dk_at dksL_law_16 10 rfl rfl)
theorem dL_law_456 : decode cL_law 456 = .ok (.iadd, 1) := dk_96 (dk_at dksL_law_16 11 rfl rfl)
theorem dL_law_457 : decode cL_law 457 = .ok (.iaload, 1) := dk_46 (dk_at dksL_law_16 12 rfl rfl)
theorem dL_law_458 : decode cL_law 458 = .ok (.aload_n 3, 1) := dk_45 (dk_at dksL_law_16 13 rfl rfl)
theorem dL_law_459 : decode cL_law 459 = .ok (.invokestatic 106, 3) := dk_184 0 106 (dk_at dksL_law_16 14 rfl rfl)
theorem dL_law_462 : decode cL_law 462 = .ok (.istore 5, 2) := dk_54 5 (dk_at dksL_law_16 17 rfl rfl)
theorem dL_law_464 : decode cL_law 464 = .ok (.aload_n 2, 1) := dk_44 (dk_at dksL_law_16 19 rfl rfl)
theorem dL_law_465 : decode cL_law 465 = .ok (.aload_n 0, 1) := dk_42 (dk_at dksL_law_16 20 rfl rfl)
theorem dL_law_466 : decode cL_law 466 = .ok (.iload 4, 2) := dk_21 4 (dk_at dksL_law_16 21 rfl rfl)
theorem dL_law_468 : decode cL_law 468 = .ok (.iconst 1, 1) := dk_4 (dk_at dksL_law_16 23 rfl rfl)
theorem dL_law_469 : decode cL_law 469 = .ok (.iadd, 1) := dk_96 (dk_at dksL_law_17 0 rfl rfl)
theorem dL_law_470 : decode cL_law 470 = .ok (.iaload, 1) := dk_46 (dk_at dksL_law_17 1 rfl rfl)
theorem dL_law_471 : decode cL_law 471 = .ok (.aload_n 0, 1) := dk_42 (dk_at dksL_law_17 2 rfl rfl)
theorem dL_law_472 : decode cL_law 472 = .ok (.iload 4, 2) := dk_21 4 (dk_at dksL_law_17 3 rfl rfl)
theorem dL_law_474 : decode cL_law 474 = .ok (.iconst 2, 1) := dk_5 (dk_at dksL_law_17 5 rfl rfl)
theorem dL_law_475 : decode cL_law 475 = .ok (.iadd, 1) := dk_96 (dk_at dksL_law_17 6 rfl rfl)
theorem dL_law_476 : decode cL_law 476 = .ok (.iaload, 1) := dk_46 (dk_at dksL_law_17 7 rfl rfl)
theorem dL_law_477 : decode cL_law 477 = .ok (.aload_n 0, 1) := dk_42 (dk_at dksL_law_17 8 rfl rfl)
theorem dL_law_478 : decode cL_law 478 = .ok (.iload 4, 2) := dk_21 4 (dk_at dksL_law_17 9 rfl rfl)
theorem dL_law_480 : decode cL_law 480 = .ok (.iconst 3, 1) := dk_6 (dk_at dksL_law_17 11 rfl rfl)
theorem dL_law_481 : decode cL_law 481 = .ok (.iadd, 1) := dk_96 (dk_at dksL_law_17 12 rfl rfl)
theorem dL_law_482 : decode cL_law 482 = .ok (.iaload, 1) := dk_46 (dk_at dksL_law_17 13 rfl rfl)
theorem dL_law_483 : decode cL_law 483 = .ok (.aload_n 0, 1) := dk_42 (dk_at dksL_law_17 14 rfl rfl)
theorem dL_law_484 : decode cL_law 484 = .ok (.iload 4, 2) := dk_21 4 (dk_at dksL_law_17 15 rfl rfl)
theorem dL_law_486 : decode cL_law 486 = .ok (.iconst 4, 1) := dk_7 (dk_at dksL_law_17 17 rfl rfl)
theorem dL_law_487 : decode cL_law 487 = .ok (.iadd, 1) := dk_96 (dk_at dksL_law_17 18 rfl rfl)
theorem dL_law_488 : decode cL_law 488 = .ok (.iaload, 1) := dk_46 (dk_at dksL_law_17 19 rfl rfl)
theorem dL_law_489 : decode cL_law 489 = .ok (.invokevirtual 108, 3) := dk_182 0 108 (dk_at dksL_law_17 20 rfl rfl)
theorem dL_law_492 : decode cL_law 492 = .ok (.istore 6, 2) := dk_54 6 (dk_at dksL_law_18 0 rfl rfl)
theorem dL_law_494 : decode cL_law 494 = .ok (.aload_n 2, 1) := dk_44 (dk_at dksL_law_18 2 rfl rfl)
theorem dL_law_495 : decode cL_law 495 = .ok (.invokevirtual 87, 3) := dk_182 0 87 (dk_at dksL_law_18 3 rfl rfl)
theorem dL_law_498 : decode cL_law 498 = .ok (.iload 5, 2) := dk_21 5 (dk_at dksL_law_18 6 rfl rfl)
theorem dL_law_500 : decode cL_law 500 = .ok (.if_icmp .eq 5, 3) := dk_159 0 5 (dk_at dksL_law_18 8 rfl rfl)
theorem dL_law_503 : decode cL_law 503 = .ok (.iconst 0, 1) := dk_3 (dk_at dksL_law_18 11 rfl rfl)
theorem dL_law_504 : decode cL_law 504 = .ok (.ireturn, 1) := dk_172 (dk_at dksL_law_18 12 rfl rfl)
theorem dL_law_505 : decode cL_law 505 = .ok (.iload 5, 2) := dk_21 5 (dk_at dksL_law_18 13 rfl rfl)
theorem dL_law_507 : decode cL_law 507 = .ok (.ifCond .ne 15, 3) := dk_154 0 15 (dk_at dksL_law_18 15 rfl rfl)
theorem dL_law_510 : decode cL_law 510 = .ok (.aload_n 3, 1) := dk_45 (dk_at dksL_law_18 18 rfl rfl)
theorem dL_law_511 : decode cL_law 511 = .ok (.iconst 0, 1) := dk_3 (dk_at dksL_law_18 19 rfl rfl)
theorem dL_law_512 : decode cL_law 512 = .ok (.laload, 1) := dk_47 (dk_at dksL_law_18 20 rfl rfl)
theorem dL_law_513 : decode cL_law 513 = .ok (.iload 6, 2) := dk_21 6 (dk_at dksL_law_18 21 rfl rfl)
theorem dL_law_515 : decode cL_law 515 = .ok (.i2l, 1) := dk_133 (dk_at dksL_law_18 23 rfl rfl)
theorem dL_law_516 : decode cL_law 516 = .ok (.lcmp, 1) := dk_148 (dk_at dksL_law_19 0 rfl rfl)
theorem dL_law_517 : decode cL_law 517 = .ok (.ifCond .eq 5, 3) := dk_153 0 5 (dk_at dksL_law_19 1 rfl rfl)
theorem dL_law_520 : decode cL_law 520 = .ok (.iconst 0, 1) := dk_3 (dk_at dksL_law_19 4 rfl rfl)
theorem dL_law_521 : decode cL_law 521 = .ok (.ireturn, 1) := dk_172 (dk_at dksL_law_19 5 rfl rfl)
theorem dL_law_522 : decode cL_law 522 = .ok (.goto 999, 3) := dk_167 3 231 (dk_at dksL_law_19 6 rfl rfl)
theorem dL_law_525 : decode cL_law 525 = .ok (.aload_n 1, 1) := dk_43 (dk_at dksL_law_19 9 rfl rfl)
theorem dL_law_526 : decode cL_law 526 = .ok (.aload_n 0, 1) := dk_42 (dk_at dksL_law_19 10 rfl rfl)
theorem dL_law_527 : decode cL_law 527 = .ok (.iload 4, 2) := dk_21 4 (dk_at dksL_law_19 11 rfl rfl)
theorem dL_law_529 : decode cL_law 529 = .ok (.iconst 1, 1) := dk_4 (dk_at dksL_law_19 13 rfl rfl)
theorem dL_law_530 : decode cL_law 530 = .ok (.iadd, 1) := dk_96 (dk_at dksL_law_19 14 rfl rfl)
theorem dL_law_531 : decode cL_law 531 = .ok (.iaload, 1) := dk_46 (dk_at dksL_law_19 15 rfl rfl)
theorem dL_law_532 : decode cL_law 532 = .ok (.aload_n 0, 1) := dk_42 (dk_at dksL_law_19 16 rfl rfl)
theorem dL_law_533 : decode cL_law 533 = .ok (.iload 4, 2) := dk_21 4 (dk_at dksL_law_19 17 rfl rfl)
theorem dL_law_535 : decode cL_law 535 = .ok (.iconst 2, 1) := dk_5 (dk_at dksL_law_19 19 rfl rfl)
theorem dL_law_536 : decode cL_law 536 = .ok (.iadd, 1) := dk_96 (dk_at dksL_law_19 20 rfl rfl)
theorem dL_law_537 : decode cL_law 537 = .ok (.iaload, 1) := dk_46 (dk_at dksL_law_19 21 rfl rfl)
theorem dL_law_538 : decode cL_law 538 = .ok (.aload_n 3, 1) := dk_45 (dk_at dksL_law_19 22 rfl rfl)
theorem dL_law_539 : decode cL_law 539 = .ok (.invokestatic 109, 3) := dk_184 0 109 (dk_at dksL_law_20 0 rfl rfl)
theorem dL_law_542 : decode cL_law 542 = .ok (.istore 5, 2) := dk_54 5 (dk_at dksL_law_20 3 rfl rfl)
theorem dL_law_544 : decode cL_law 544 = .ok (.aload_n 2, 1) := dk_44 (dk_at dksL_law_20 5 rfl rfl)
theorem dL_law_545 : decode cL_law 545 = .ok (.aload_n 0, 1) := dk_42 (dk_at dksL_law_20 6 rfl rfl)
theorem dL_law_546 : decode cL_law 546 = .ok (.iload 4, 2) := dk_21 4 (dk_at dksL_law_20 7 rfl rfl)
theorem dL_law_548 : decode cL_law 548 = .ok (.iconst 1, 1) := dk_4 (dk_at dksL_law_20 9 rfl rfl)
theorem dL_law_549 : decode cL_law 549 = .ok (.iadd, 1) := dk_96 (dk_at dksL_law_20 10 rfl rfl)
theorem dL_law_550 : decode cL_law 550 = .ok (.iaload, 1) := dk_46 (dk_at dksL_law_20 11 rfl rfl)
theorem dL_law_551 : decode cL_law 551 = .ok (.aload_n 0, 1) := dk_42 (dk_at dksL_law_20 12 rfl rfl)
theorem dL_law_552 : decode cL_law 552 = .ok (.iload 4, 2) := dk_21 4 (dk_at dksL_law_20 13 rfl rfl)
theorem dL_law_554 : decode cL_law 554 = .ok (.iconst 2, 1) := dk_5 (dk_at dksL_law_20 15 rfl rfl)
theorem dL_law_555 : decode cL_law 555 = .ok (.iadd, 1) := dk_96 (dk_at dksL_law_20 16 rfl rfl)
theorem dL_law_556 : decode cL_law 556 = .ok (.iaload, 1) := dk_46 (dk_at dksL_law_20 17 rfl rfl)
theorem dL_law_557 : decode cL_law 557 = .ok (.invokevirtual 112, 3) := dk_182 0 112 (dk_at dksL_law_20 18 rfl rfl)
theorem dL_law_560 : decode cL_law 560 = .ok (.istore 6, 2) := dk_54 6 (dk_at dksL_law_20 21 rfl rfl)
theorem dL_law_562 : decode cL_law 562 = .ok (.aload_n 2, 1) := dk_44 (dk_at dksL_law_20 23 rfl rfl)
theorem dL_law_563 : decode cL_law 563 = .ok (.invokevirtual 87, 3) := dk_182 0 87 (dk_at dksL_law_21 0 rfl rfl)
theorem dL_law_566 : decode cL_law 566 = .ok (.iload 5, 2) := dk_21 5 (dk_at dksL_law_21 3 rfl rfl)
theorem dL_law_568 : decode cL_law 568 = .ok (.if_icmp .eq 5, 3) := dk_159 0 5 (dk_at dksL_law_21 5 rfl rfl)
theorem dL_law_571 : decode cL_law 571 = .ok (.iconst 0, 1) := dk_3 (dk_at dksL_law_21 8 rfl rfl)
theorem dL_law_572 : decode cL_law 572 = .ok (.ireturn, 1) := dk_172 (dk_at dksL_law_21 9 rfl rfl)
theorem dL_law_573 : decode cL_law 573 = .ok (.iload 5, 2) := dk_21 5 (dk_at dksL_law_21 10 rfl rfl)
theorem dL_law_575 : decode cL_law 575 = .ok (.ifCond .ne 15, 3) := dk_154 0 15 (dk_at dksL_law_21 12 rfl rfl)
theorem dL_law_578 : decode cL_law 578 = .ok (.aload_n 3, 1) := dk_45 (dk_at dksL_law_21 15 rfl rfl)
theorem dL_law_579 : decode cL_law 579 = .ok (.iconst 0, 1) := dk_3 (dk_at dksL_law_21 16 rfl rfl)
theorem dL_law_580 : decode cL_law 580 = .ok (.laload, 1) := dk_47 (dk_at dksL_law_21 17 rfl rfl)
theorem dL_law_581 : decode cL_law 581 = .ok (.iload 6, 2) := dk_21 6 (dk_at dksL_law_21 18 rfl rfl)
theorem dL_law_583 : decode cL_law 583 = .ok (.i2l, 1) := dk_133 (dk_at dksL_law_21 20 rfl rfl)
theorem dL_law_584 : decode cL_law 584 = .ok (.lcmp, 1) := dk_148 (dk_at dksL_law_21 21 rfl rfl)
theorem dL_law_585 : decode cL_law 585 = .ok (.ifCond .eq 5, 3) := dk_153 0 5 (dk_at dksL_law_22 0 rfl rfl)
theorem dL_law_588 : decode cL_law 588 = .ok (.iconst 0, 1) := dk_3 (dk_at dksL_law_22 3 rfl rfl)
theorem dL_law_589 : decode cL_law 589 = .ok (.ireturn, 1) := dk_172 (dk_at dksL_law_22 4 rfl rfl)
theorem dL_law_590 : decode cL_law 590 = .ok (.goto 931, 3) := dk_167 3 163 (dk_at dksL_law_22 5 rfl rfl)
theorem dL_law_593 : decode cL_law 593 = .ok (.aload_n 1, 1) := dk_43 (dk_at dksL_law_22 8 rfl rfl)
theorem dL_law_594 : decode cL_law 594 = .ok (.aload_n 0, 1) := dk_42 (dk_at dksL_law_22 9 rfl rfl)
theorem dL_law_595 : decode cL_law 595 = .ok (.iload 4, 2) := dk_21 4 (dk_at dksL_law_22 10 rfl rfl)
theorem dL_law_597 : decode cL_law 597 = .ok (.iconst 1, 1) := dk_4 (dk_at dksL_law_22 12 rfl rfl)
theorem dL_law_598 : decode cL_law 598 = .ok (.iadd, 1) := dk_96 (dk_at dksL_law_22 13 rfl rfl)
theorem dL_law_599 : decode cL_law 599 = .ok (.iaload, 1) := dk_46 (dk_at dksL_law_22 14 rfl rfl)
theorem dL_law_600 : decode cL_law 600 = .ok (.aload_n 0, 1) := dk_42 (dk_at dksL_law_22 15 rfl rfl)
theorem dL_law_601 : decode cL_law 601 = .ok (.iload 4, 2) := dk_21 4 (dk_at dksL_law_22 16 rfl rfl)
theorem dL_law_603 : decode cL_law 603 = .ok (.iconst 2, 1) := dk_5 (dk_at dksL_law_22 18 rfl rfl)
theorem dL_law_604 : decode cL_law 604 = .ok (.iadd, 1) := dk_96 (dk_at dksL_law_22 19 rfl rfl)
theorem dL_law_605 : decode cL_law 605 = .ok (.iaload, 1) := dk_46 (dk_at dksL_law_22 20 rfl rfl)
theorem dL_law_606 : decode cL_law 606 = .ok (.aload_n 3, 1) := dk_45 (dk_at dksL_law_22 21 rfl rfl)
theorem dL_law_607 : decode cL_law 607 = .ok (.invokestatic 113, 3) := dk_184 0 113 (dk_at dksL_law_23 0 rfl rfl)
theorem dL_law_610 : decode cL_law 610 = .ok (.istore 5, 2) := dk_54 5 (dk_at dksL_law_23 3 rfl rfl)
theorem dL_law_612 : decode cL_law 612 = .ok (.aload_n 2, 1) := dk_44 (dk_at dksL_law_23 5 rfl rfl)
theorem dL_law_613 : decode cL_law 613 = .ok (.aload_n 0, 1) := dk_42 (dk_at dksL_law_23 6 rfl rfl)
theorem dL_law_614 : decode cL_law 614 = .ok (.iload 4, 2) := dk_21 4 (dk_at dksL_law_23 7 rfl rfl)
theorem dL_law_616 : decode cL_law 616 = .ok (.iconst 1, 1) := dk_4 (dk_at dksL_law_23 9 rfl rfl)
theorem dL_law_617 : decode cL_law 617 = .ok (.iadd, 1) := dk_96 (dk_at dksL_law_23 10 rfl rfl)
theorem dL_law_618 : decode cL_law 618 = .ok (.iaload, 1) := dk_46 (dk_at dksL_law_23 11 rfl rfl)
theorem dL_law_619 : decode cL_law 619 = .ok (.aload_n 0, 1) := dk_42 (dk_at dksL_law_23 12 rfl rfl)
theorem dL_law_620 : decode cL_law 620 = .ok (.iload 4, 2) := dk_21 4 (dk_at dksL_law_23 13 rfl rfl)
theorem dL_law_622 : decode cL_law 622 = .ok (.iconst 2, 1) := dk_5 (dk_at dksL_law_23 15 rfl rfl)
theorem dL_law_623 : decode cL_law 623 = .ok (.iadd, 1) := dk_96 (dk_at dksL_law_23 16 rfl rfl)
theorem dL_law_624 : decode cL_law 624 = .ok (.iaload, 1) := dk_46 (dk_at dksL_law_23 17 rfl rfl)
theorem dL_law_625 : decode cL_law 625 = .ok (.invokevirtual 115, 3) := dk_182 0 115 (dk_at dksL_law_23 18 rfl rfl)
theorem dL_law_628 : decode cL_law 628 = .ok (.istore 6, 2) := dk_54 6 (dk_at dksL_law_23 21 rfl rfl)
theorem dL_law_630 : decode cL_law 630 = .ok (.aload_n 2, 1) := dk_44 (dk_at dksL_law_23 23 rfl rfl)
theorem dL_law_631 : decode cL_law 631 = .ok (.invokevirtual 87, 3) := dk_182 0 87 (dk_at dksL_law_24 0 rfl rfl)
theorem dL_law_634 : decode cL_law 634 = .ok (.iload 5, 2) := dk_21 5 (dk_at dksL_law_24 3 rfl rfl)
theorem dL_law_636 : decode cL_law 636 = .ok (.if_icmp .eq 5, 3) := dk_159 0 5 (dk_at dksL_law_24 5 rfl rfl)
theorem dL_law_639 : decode cL_law 639 = .ok (.iconst 0, 1) := dk_3 (dk_at dksL_law_24 8 rfl rfl)
theorem dL_law_640 : decode cL_law 640 = .ok (.ireturn, 1) := dk_172 (dk_at dksL_law_24 9 rfl rfl)
theorem dL_law_641 : decode cL_law 641 = .ok (.iload 5, 2) := dk_21 5 (dk_at dksL_law_24 10 rfl rfl)
theorem dL_law_643 : decode cL_law 643 = .ok (.ifCond .ne 15, 3) := dk_154 0 15 (dk_at dksL_law_24 12 rfl rfl)
theorem dL_law_646 : decode cL_law 646 = .ok (.aload_n 3, 1) := dk_45 (dk_at dksL_law_24 15 rfl rfl)
theorem dL_law_647 : decode cL_law 647 = .ok (.iconst 0, 1) := dk_3 (dk_at dksL_law_24 16 rfl rfl)
theorem dL_law_648 : decode cL_law 648 = .ok (.laload, 1) := dk_47 (dk_at dksL_law_24 17 rfl rfl)
theorem dL_law_649 : decode cL_law 649 = .ok (.iload 6, 2) := dk_21 6 (dk_at dksL_law_24 18 rfl rfl)
theorem dL_law_651 : decode cL_law 651 = .ok (.i2l, 1) := dk_133 (dk_at dksL_law_24 20 rfl rfl)
theorem dL_law_652 : decode cL_law 652 = .ok (.lcmp, 1) := dk_148 (dk_at dksL_law_24 21 rfl rfl)
theorem dL_law_653 : decode cL_law 653 = .ok (.ifCond .eq 5, 3) := dk_153 0 5 (dk_at dksL_law_25 0 rfl rfl)
theorem dL_law_656 : decode cL_law 656 = .ok (.iconst 0, 1) := dk_3 (dk_at dksL_law_25 3 rfl rfl)
theorem dL_law_657 : decode cL_law 657 = .ok (.ireturn, 1) := dk_172 (dk_at dksL_law_25 4 rfl rfl)
theorem dL_law_658 : decode cL_law 658 = .ok (.goto 863, 3) := dk_167 3 95 (dk_at dksL_law_25 5 rfl rfl)
theorem dL_law_661 : decode cL_law 661 = .ok (.aload_n 1, 1) := dk_43 (dk_at dksL_law_25 8 rfl rfl)
theorem dL_law_662 : decode cL_law 662 = .ok (.aload_n 0, 1) := dk_42 (dk_at dksL_law_25 9 rfl rfl)
theorem dL_law_663 : decode cL_law 663 = .ok (.iload 4, 2) := dk_21 4 (dk_at dksL_law_25 10 rfl rfl)
theorem dL_law_665 : decode cL_law 665 = .ok (.iconst 1, 1) := dk_4 (dk_at dksL_law_25 12 rfl rfl)
theorem dL_law_666 : decode cL_law 666 = .ok (.iadd, 1) := dk_96 (dk_at dksL_law_25 13 rfl rfl)
theorem dL_law_667 : decode cL_law 667 = .ok (.iaload, 1) := dk_46 (dk_at dksL_law_25 14 rfl rfl)
theorem dL_law_668 : decode cL_law 668 = .ok (.aload_n 3, 1) := dk_45 (dk_at dksL_law_25 15 rfl rfl)
theorem dL_law_669 : decode cL_law 669 = .ok (.invokestatic 116, 3) := dk_184 0 116 (dk_at dksL_law_25 16 rfl rfl)
theorem dL_law_672 : decode cL_law 672 = .ok (.istore 5, 2) := dk_54 5 (dk_at dksL_law_25 19 rfl rfl)
theorem dL_law_674 : decode cL_law 674 = .ok (.aload_n 2, 1) := dk_44 (dk_at dksL_law_25 21 rfl rfl)
theorem dL_law_675 : decode cL_law 675 = .ok (.aload_n 0, 1) := dk_42 (dk_at dksL_law_25 22 rfl rfl)
theorem dL_law_676 : decode cL_law 676 = .ok (.iload 4, 2) := dk_21 4 (dk_at dksL_law_26 0 rfl rfl)
theorem dL_law_678 : decode cL_law 678 = .ok (.iconst 1, 1) := dk_4 (dk_at dksL_law_26 2 rfl rfl)
theorem dL_law_679 : decode cL_law 679 = .ok (.iadd, 1) := dk_96 (dk_at dksL_law_26 3 rfl rfl)
theorem dL_law_680 : decode cL_law 680 = .ok (.iaload, 1) := dk_46 (dk_at dksL_law_26 4 rfl rfl)
theorem dL_law_681 : decode cL_law 681 = .ok (.invokevirtual 118, 3) := dk_182 0 118 (dk_at dksL_law_26 5 rfl rfl)
theorem dL_law_684 : decode cL_law 684 = .ok (.istore 6, 2) := dk_54 6 (dk_at dksL_law_26 8 rfl rfl)
theorem dL_law_686 : decode cL_law 686 = .ok (.aload_n 2, 1) := dk_44 (dk_at dksL_law_26 10 rfl rfl)
theorem dL_law_687 : decode cL_law 687 = .ok (.invokevirtual 87, 3) := dk_182 0 87 (dk_at dksL_law_26 11 rfl rfl)
theorem dL_law_690 : decode cL_law 690 = .ok (.iload 5, 2) := dk_21 5 (dk_at dksL_law_26 14 rfl rfl)
theorem dL_law_692 : decode cL_law 692 = .ok (.if_icmp .eq 5, 3) := dk_159 0 5 (dk_at dksL_law_26 16 rfl rfl)
theorem dL_law_695 : decode cL_law 695 = .ok (.iconst 0, 1) := dk_3 (dk_at dksL_law_26 19 rfl rfl)
theorem dL_law_696 : decode cL_law 696 = .ok (.ireturn, 1) := dk_172 (dk_at dksL_law_26 20 rfl rfl)
theorem dL_law_697 : decode cL_law 697 = .ok (.iload 5, 2) := dk_21 5 (dk_at dksL_law_26 21 rfl rfl)
theorem dL_law_699 : decode cL_law 699 = .ok (.ifCond .ne 15, 3) := dk_154 0 15 (dk_at dksL_law_27 0 rfl rfl)
theorem dL_law_702 : decode cL_law 702 = .ok (.aload_n 3, 1) := dk_45 (dk_at dksL_law_27 3 rfl rfl)
theorem dL_law_703 : decode cL_law 703 = .ok (.iconst 0, 1) := dk_3 (dk_at dksL_law_27 4 rfl rfl)
theorem dL_law_704 : decode cL_law 704 = .ok (.laload, 1) := dk_47 (dk_at dksL_law_27 5 rfl rfl)
theorem dL_law_705 : decode cL_law 705 = .ok (.iload 6, 2) := dk_21 6 (dk_at dksL_law_27 6 rfl rfl)
theorem dL_law_707 : decode cL_law 707 = .ok (.i2l, 1) := dk_133 (dk_at dksL_law_27 8 rfl rfl)
theorem dL_law_708 : decode cL_law 708 = .ok (.lcmp, 1) := dk_148 (dk_at dksL_law_27 9 rfl rfl)
theorem dL_law_709 : decode cL_law 709 = .ok (.ifCond .eq 5, 3) := dk_153 0 5 (dk_at dksL_law_27 10 rfl rfl)
theorem dL_law_712 : decode cL_law 712 = .ok (.iconst 0, 1) := dk_3 (dk_at dksL_law_27 13 rfl rfl)
theorem dL_law_713 : decode cL_law 713 = .ok (.ireturn, 1) := dk_172 (dk_at dksL_law_27 14 rfl rfl)
theorem dL_law_714 : decode cL_law 714 = .ok (.goto 807, 3) := dk_167 3 39 (dk_at dksL_law_27 15 rfl rfl)
theorem dL_law_717 : decode cL_law 717 = .ok (.aload_n 1, 1) := dk_43 (dk_at dksL_law_27 18 rfl rfl)
theorem dL_law_718 : decode cL_law 718 = .ok (.invokevirtual 119, 3) := dk_182 0 119 (dk_at dksL_law_27 19 rfl rfl)
theorem dL_law_721 : decode cL_law 721 = .ok (.aload_n 2, 1) := dk_44 (dk_at dksL_law_27 22 rfl rfl)
theorem dL_law_722 : decode cL_law 722 = .ok (.invokevirtual 122, 3) := dk_182 0 122 (dk_at dksL_law_28 0 rfl rfl)
theorem dL_law_725 : decode cL_law 725 = .ok (.if_icmp .eq 796, 3) := dk_159 3 28 (dk_at dksL_law_28 3 rfl rfl)
theorem dL_law_728 : decode cL_law 728 = .ok (.iconst 0, 1) := dk_3 (dk_at dksL_law_28 6 rfl rfl)
theorem dL_law_729 : decode cL_law 729 = .ok (.ireturn, 1) := dk_172 (dk_at dksL_law_28 7 rfl rfl)
theorem dL_law_730 : decode cL_law 730 = .ok (.aload_n 1, 1) := dk_43 (dk_at dksL_law_28 8 rfl rfl)
theorem dL_law_731 : decode cL_law 731 = .ok (.aload_n 0, 1) := dk_42 (dk_at dksL_law_28 9 rfl rfl)
theorem dL_law_732 : decode cL_law 732 = .ok (.iload 4, 2) := dk_21 4 (dk_at dksL_law_28 10 rfl rfl)
theorem dL_law_734 : decode cL_law 734 = .ok (.iconst 1, 1) := dk_4 (dk_at dksL_law_28 12 rfl rfl)
theorem dL_law_735 : decode cL_law 735 = .ok (.iadd, 1) := dk_96 (dk_at dksL_law_28 13 rfl rfl)
theorem dL_law_736 : decode cL_law 736 = .ok (.iaload, 1) := dk_46 (dk_at dksL_law_28 14 rfl rfl)
theorem dL_law_737 : decode cL_law 737 = .ok (.aload_n 3, 1) := dk_45 (dk_at dksL_law_28 15 rfl rfl)
theorem dL_law_738 : decode cL_law 738 = .ok (.invokestatic 123, 3) := dk_184 0 123 (dk_at dksL_law_28 16 rfl rfl)
theorem dL_law_741 : decode cL_law 741 = .ok (.istore 5, 2) := dk_54 5 (dk_at dksL_law_28 19 rfl rfl)
theorem dL_law_743 : decode cL_law 743 = .ok (.aload_n 2, 1) := dk_44 (dk_at dksL_law_28 21 rfl rfl)
theorem dL_law_744 : decode cL_law 744 = .ok (.aload_n 0, 1) := dk_42 (dk_at dksL_law_28 22 rfl rfl)
theorem dL_law_745 : decode cL_law 745 = .ok (.iload 4, 2) := dk_21 4 (dk_at dksL_law_29 0 rfl rfl)
theorem dL_law_747 : decode cL_law 747 = .ok (.iconst 1, 1) := dk_4 (dk_at dksL_law_29 2 rfl rfl)
theorem dL_law_748 : decode cL_law 748 = .ok (.iadd, 1) := dk_96 (dk_at dksL_law_29 3 rfl rfl)
theorem dL_law_749 : decode cL_law 749 = .ok (.iaload, 1) := dk_46 (dk_at dksL_law_29 4 rfl rfl)
theorem dL_law_750 : decode cL_law 750 = .ok (.invokevirtual 125, 3) := dk_182 0 125 (dk_at dksL_law_29 5 rfl rfl)
theorem dL_law_753 : decode cL_law 753 = .ok (.istore 6, 2) := dk_54 6 (dk_at dksL_law_29 8 rfl rfl)
theorem dL_law_755 : decode cL_law 755 = .ok (.aload_n 2, 1) := dk_44 (dk_at dksL_law_29 10 rfl rfl)
theorem dL_law_756 : decode cL_law 756 = .ok (.invokevirtual 87, 3) := dk_182 0 87 (dk_at dksL_law_29 11 rfl rfl)
theorem dL_law_759 : decode cL_law 759 = .ok (.iload 5, 2) := dk_21 5 (dk_at dksL_law_29 14 rfl rfl)
theorem dL_law_761 : decode cL_law 761 = .ok (.if_icmp .eq 5, 3) := dk_159 0 5 (dk_at dksL_law_29 16 rfl rfl)
theorem dL_law_764 : decode cL_law 764 = .ok (.iconst 0, 1) := dk_3 (dk_at dksL_law_29 19 rfl rfl)
theorem dL_law_765 : decode cL_law 765 = .ok (.ireturn, 1) := dk_172 (dk_at dksL_law_29 20 rfl rfl)
theorem dL_law_766 : decode cL_law 766 = .ok (.iload 5, 2) := dk_21 5 (dk_at dksL_law_29 21 rfl rfl)
theorem dL_law_768 : decode cL_law 768 = .ok (.ifCond .ne 15, 3) := dk_154 0 15 (dk_at dksL_law_30 0 rfl rfl)
theorem dL_law_771 : decode cL_law 771 = .ok (.aload_n 3, 1) := dk_45 (dk_at dksL_law_30 3 rfl rfl)
theorem dL_law_772 : decode cL_law 772 = .ok (.iconst 0, 1) := dk_3 (dk_at dksL_law_30 4 rfl rfl)
theorem dL_law_773 : decode cL_law 773 = .ok (.laload, 1) := dk_47 (dk_at dksL_law_30 5 rfl rfl)
theorem dL_law_774 : decode cL_law 774 = .ok (.iload 6, 2) := dk_21 6 (dk_at dksL_law_30 6 rfl rfl)
theorem dL_law_776 : decode cL_law 776 = .ok (.i2l, 1) := dk_133 (dk_at dksL_law_30 8 rfl rfl)
theorem dL_law_777 : decode cL_law 777 = .ok (.lcmp, 1) := dk_148 (dk_at dksL_law_30 9 rfl rfl)
theorem dL_law_778 : decode cL_law 778 = .ok (.ifCond .eq 5, 3) := dk_153 0 5 (dk_at dksL_law_30 10 rfl rfl)
theorem dL_law_781 : decode cL_law 781 = .ok (.iconst 0, 1) := dk_3 (dk_at dksL_law_30 13 rfl rfl)
theorem dL_law_782 : decode cL_law 782 = .ok (.ireturn, 1) := dk_172 (dk_at dksL_law_30 14 rfl rfl)
theorem dL_law_783 : decode cL_law 783 = .ok (.goto 738, 3) := dk_167 2 226 (dk_at dksL_law_30 15 rfl rfl)
theorem dL_law_786 : decode cL_law 786 = .ok (.aload_n 1, 1) := dk_43 (dk_at dksL_law_30 18 rfl rfl)
theorem dL_law_787 : decode cL_law 787 = .ok (.aload_n 0, 1) := dk_42 (dk_at dksL_law_30 19 rfl rfl)
theorem dL_law_788 : decode cL_law 788 = .ok (.iload 4, 2) := dk_21 4 (dk_at dksL_law_30 20 rfl rfl)
theorem dL_law_790 : decode cL_law 790 = .ok (.iconst 1, 1) := dk_4 (dk_at dksL_law_30 22 rfl rfl)
theorem dL_law_791 : decode cL_law 791 = .ok (.iadd, 1) := dk_96 (dk_at dksL_law_30 23 rfl rfl)
theorem dL_law_792 : decode cL_law 792 = .ok (.iaload, 1) := dk_46 (dk_at dksL_law_31 0 rfl rfl)
theorem dL_law_793 : decode cL_law 793 = .ok (.aload_n 0, 1) := dk_42 (dk_at dksL_law_31 1 rfl rfl)
theorem dL_law_794 : decode cL_law 794 = .ok (.iload 4, 2) := dk_21 4 (dk_at dksL_law_31 2 rfl rfl)
theorem dL_law_796 : decode cL_law 796 = .ok (.iconst 2, 1) := dk_5 (dk_at dksL_law_31 4 rfl rfl)
theorem dL_law_797 : decode cL_law 797 = .ok (.iadd, 1) := dk_96 (dk_at dksL_law_31 5 rfl rfl)
theorem dL_law_798 : decode cL_law 798 = .ok (.iaload, 1) := dk_46 (dk_at dksL_law_31 6 rfl rfl)
theorem dL_law_799 : decode cL_law 799 = .ok (.aload_n 0, 1) := dk_42 (dk_at dksL_law_31 7 rfl rfl)
theorem dL_law_800 : decode cL_law 800 = .ok (.iload 4, 2) := dk_21 4 (dk_at dksL_law_31 8 rfl rfl)
theorem dL_law_802 : decode cL_law 802 = .ok (.iconst 3, 1) := dk_6 (dk_at dksL_law_31 10 rfl rfl)
theorem dL_law_803 : decode cL_law 803 = .ok (.iadd, 1) := dk_96 (dk_at dksL_law_31 11 rfl rfl)
theorem dL_law_804 : decode cL_law 804 = .ok (.iaload, 1) := dk_46 (dk_at dksL_law_31 12 rfl rfl)
theorem dL_law_805 : decode cL_law 805 = .ok (.aload_n 0, 1) := dk_42 (dk_at dksL_law_31 13 rfl rfl)
theorem dL_law_806 : decode cL_law 806 = .ok (.iload 4, 2) := dk_21 4 (dk_at dksL_law_31 14 rfl rfl)
theorem dL_law_808 : decode cL_law 808 = .ok (.iconst 4, 1) := dk_7 (dk_at dksL_law_31 16 rfl rfl)
theorem dL_law_809 : decode cL_law 809 = .ok (.iadd, 1) := dk_96 (dk_at dksL_law_31 17 rfl rfl)
theorem dL_law_810 : decode cL_law 810 = .ok (.iaload, 1) := dk_46 (dk_at dksL_law_31 18 rfl rfl)
theorem dL_law_811 : decode cL_law 811 = .ok (.aload_n 3, 1) := dk_45 (dk_at dksL_law_31 19 rfl rfl)
theorem dL_law_812 : decode cL_law 812 = .ok (.invokestatic 126, 3) := dk_184 0 126 (dk_at dksL_law_31 20 rfl rfl)
theorem dL_law_815 : decode cL_law 815 = .ok (.istore 5, 2) := dk_54 5 (dk_at dksL_law_32 0 rfl rfl)
theorem dL_law_817 : decode cL_law 817 = .ok (.aload_n 2, 1) := dk_44 (dk_at dksL_law_32 2 rfl rfl)
theorem dL_law_818 : decode cL_law 818 = .ok (.aload_n 0, 1) := dk_42 (dk_at dksL_law_32 3 rfl rfl)
theorem dL_law_819 : decode cL_law 819 = .ok (.iload 4, 2) := dk_21 4 (dk_at dksL_law_32 4 rfl rfl)
theorem dL_law_821 : decode cL_law 821 = .ok (.iconst 1, 1) := dk_4 (dk_at dksL_law_32 6 rfl rfl)
theorem dL_law_822 : decode cL_law 822 = .ok (.iadd, 1) := dk_96 (dk_at dksL_law_32 7 rfl rfl)
theorem dL_law_823 : decode cL_law 823 = .ok (.iaload, 1) := dk_46 (dk_at dksL_law_32 8 rfl rfl)
theorem dL_law_824 : decode cL_law 824 = .ok (.aload_n 0, 1) := dk_42 (dk_at dksL_law_32 9 rfl rfl)
theorem dL_law_825 : decode cL_law 825 = .ok (.iload 4, 2) := dk_21 4 (dk_at dksL_law_32 10 rfl rfl)
theorem dL_law_827 : decode cL_law 827 = .ok (.iconst 2, 1) := dk_5 (dk_at dksL_law_32 12 rfl rfl)
theorem dL_law_828 : decode cL_law 828 = .ok (.iadd, 1) := dk_96 (dk_at dksL_law_32 13 rfl rfl)
theorem dL_law_829 : decode cL_law 829 = .ok (.iaload, 1) := dk_46 (dk_at dksL_law_32 14 rfl rfl)
theorem dL_law_830 : decode cL_law 830 = .ok (.aload_n 0, 1) := dk_42 (dk_at dksL_law_32 15 rfl rfl)
theorem dL_law_831 : decode cL_law 831 = .ok (.iload 4, 2) := dk_21 4 (dk_at dksL_law_32 16 rfl rfl)
theorem dL_law_833 : decode cL_law 833 = .ok (.iconst 3, 1) := dk_6 (dk_at dksL_law_32 18 rfl rfl)
theorem dL_law_834 : decode cL_law 834 = .ok (.iadd, 1) := dk_96 (dk_at dksL_law_32 19 rfl rfl)
theorem dL_law_835 : decode cL_law 835 = .ok (.iaload, 1) := dk_46 (dk_at dksL_law_32 20 rfl rfl)
theorem dL_law_836 : decode cL_law 836 = .ok (.aload_n 0, 1) := dk_42 (dk_at dksL_law_32 21 rfl rfl)
theorem dL_law_837 : decode cL_law 837 = .ok (.iload 4, 2) := dk_21 4 (dk_at dksL_law_32 22 rfl rfl)
theorem dL_law_839 : decode cL_law 839 = .ok (.iconst 4, 1) := dk_7 (dk_at dksL_law_33 0 rfl rfl)
theorem dL_law_840 : decode cL_law 840 = .ok (.iadd, 1) := dk_96 (dk_at dksL_law_33 1 rfl rfl)
theorem dL_law_841 : decode cL_law 841 = .ok (.iaload, 1) := dk_46 (dk_at dksL_law_33 2 rfl rfl)
theorem dL_law_842 : decode cL_law 842 = .ok (.invokevirtual 128, 3) := dk_182 0 128 (dk_at dksL_law_33 3 rfl rfl)
theorem dL_law_845 : decode cL_law 845 = .ok (.istore 6, 2) := dk_54 6 (dk_at dksL_law_33 6 rfl rfl)
theorem dL_law_847 : decode cL_law 847 = .ok (.aload_n 2, 1) := dk_44 (dk_at dksL_law_33 8 rfl rfl)
theorem dL_law_848 : decode cL_law 848 = .ok (.invokevirtual 87, 3) := dk_182 0 87 (dk_at dksL_law_33 9 rfl rfl)
theorem dL_law_851 : decode cL_law 851 = .ok (.iload 5, 2) := dk_21 5 (dk_at dksL_law_33 12 rfl rfl)
theorem dL_law_853 : decode cL_law 853 = .ok (.if_icmp .eq 5, 3) := dk_159 0 5 (dk_at dksL_law_33 14 rfl rfl)
theorem dL_law_856 : decode cL_law 856 = .ok (.iconst 0, 1) := dk_3 (dk_at dksL_law_33 17 rfl rfl)
theorem dL_law_857 : decode cL_law 857 = .ok (.ireturn, 1) := dk_172 (dk_at dksL_law_33 18 rfl rfl)
theorem dL_law_858 : decode cL_law 858 = .ok (.iload 5, 2) := dk_21 5 (dk_at dksL_law_33 19 rfl rfl)
theorem dL_law_860 : decode cL_law 860 = .ok (.ifCond .ne 15, 3) := dk_154 0 15 (dk_at dksL_law_33 21 rfl rfl)
theorem dL_law_863 : decode cL_law 863 = .ok (.aload_n 3, 1) := dk_45 (dk_at dksL_law_34 0 rfl rfl)
theorem dL_law_864 : decode cL_law 864 = .ok (.iconst 0, 1) := dk_3 (dk_at dksL_law_34 1 rfl rfl)
theorem dL_law_865 : decode cL_law 865 = .ok (.laload, 1) := dk_47 (dk_at dksL_law_34 2 rfl rfl)
theorem dL_law_866 : decode cL_law 866 = .ok (.iload 6, 2) := dk_21 6 (dk_at dksL_law_34 3 rfl rfl)
theorem dL_law_868 : decode cL_law 868 = .ok (.i2l, 1) := dk_133 (dk_at dksL_law_34 5 rfl rfl)
theorem dL_law_869 : decode cL_law 869 = .ok (.lcmp, 1) := dk_148 (dk_at dksL_law_34 6 rfl rfl)
theorem dL_law_870 : decode cL_law 870 = .ok (.ifCond .eq 5, 3) := dk_153 0 5 (dk_at dksL_law_34 7 rfl rfl)
theorem dL_law_873 : decode cL_law 873 = .ok (.iconst 0, 1) := dk_3 (dk_at dksL_law_34 10 rfl rfl)
theorem dL_law_874 : decode cL_law 874 = .ok (.ireturn, 1) := dk_172 (dk_at dksL_law_34 11 rfl rfl)
theorem dL_law_875 : decode cL_law 875 = .ok (.goto 646, 3) := dk_167 2 134 (dk_at dksL_law_34 12 rfl rfl)
theorem dL_law_878 : decode cL_law 878 = .ok (.aload_n 1, 1) := dk_43 (dk_at dksL_law_34 15 rfl rfl)
theorem dL_law_879 : decode cL_law 879 = .ok (.aload_n 0, 1) := dk_42 (dk_at dksL_law_34 16 rfl rfl)
theorem dL_law_880 : decode cL_law 880 = .ok (.iload 4, 2) := dk_21 4 (dk_at dksL_law_34 17 rfl rfl)
theorem dL_law_882 : decode cL_law 882 = .ok (.iconst 1, 1) := dk_4 (dk_at dksL_law_34 19 rfl rfl)
theorem dL_law_883 : decode cL_law 883 = .ok (.iadd, 1) := dk_96 (dk_at dksL_law_34 20 rfl rfl)
theorem dL_law_884 : decode cL_law 884 = .ok (.iaload, 1) := dk_46 (dk_at dksL_law_34 21 rfl rfl)
theorem dL_law_885 : decode cL_law 885 = .ok (.aload_n 0, 1) := dk_42 (dk_at dksL_law_34 22 rfl rfl)
theorem dL_law_886 : decode cL_law 886 = .ok (.iload 4, 2) := dk_21 4 (dk_at dksL_law_35 0 rfl rfl)
theorem dL_law_888 : decode cL_law 888 = .ok (.iconst 2, 1) := dk_5 (dk_at dksL_law_35 2 rfl rfl)
theorem dL_law_889 : decode cL_law 889 = .ok (.iadd, 1) := dk_96 (dk_at dksL_law_35 3 rfl rfl)
theorem dL_law_890 : decode cL_law 890 = .ok (.iaload, 1) := dk_46 (dk_at dksL_law_35 4 rfl rfl)
theorem dL_law_891 : decode cL_law 891 = .ok (.aload_n 0, 1) := dk_42 (dk_at dksL_law_35 5 rfl rfl)
theorem dL_law_892 : decode cL_law 892 = .ok (.iload 4, 2) := dk_21 4 (dk_at dksL_law_35 6 rfl rfl)
theorem dL_law_894 : decode cL_law 894 = .ok (.iconst 3, 1) := dk_6 (dk_at dksL_law_35 8 rfl rfl)
theorem dL_law_895 : decode cL_law 895 = .ok (.iadd, 1) := dk_96 (dk_at dksL_law_35 9 rfl rfl)
theorem dL_law_896 : decode cL_law 896 = .ok (.iaload, 1) := dk_46 (dk_at dksL_law_35 10 rfl rfl)
theorem dL_law_897 : decode cL_law 897 = .ok (.aload_n 3, 1) := dk_45 (dk_at dksL_law_35 11 rfl rfl)
theorem dL_law_898 : decode cL_law 898 = .ok (.invokestatic 129, 3) := dk_184 0 129 (dk_at dksL_law_35 12 rfl rfl)
theorem dL_law_901 : decode cL_law 901 = .ok (.istore 5, 2) := dk_54 5 (dk_at dksL_law_35 15 rfl rfl)
theorem dL_law_903 : decode cL_law 903 = .ok (.aload_n 2, 1) := dk_44 (dk_at dksL_law_35 17 rfl rfl)
theorem dL_law_904 : decode cL_law 904 = .ok (.aload_n 0, 1) := dk_42 (dk_at dksL_law_35 18 rfl rfl)
theorem dL_law_905 : decode cL_law 905 = .ok (.iload 4, 2) := dk_21 4 (dk_at dksL_law_35 19 rfl rfl)
theorem dL_law_907 : decode cL_law 907 = .ok (.iconst 1, 1) := dk_4 (dk_at dksL_law_35 21 rfl rfl)
theorem dL_law_908 : decode cL_law 908 = .ok (.iadd, 1) := dk_96 (dk_at dksL_law_35 22 rfl rfl)
theorem dL_law_909 : decode cL_law 909 = .ok (.iaload, 1) := dk_46 (dk_at dksL_law_35 23 rfl rfl)
theorem dL_law_910 : decode cL_law 910 = .ok (.aload_n 0, 1) := dk_42 (dk_at dksL_law_36 0 rfl rfl)
theorem dL_law_911 : decode cL_law 911 = .ok (.iload 4, 2) := dk_21 4 (dk_at dksL_law_36 1 rfl rfl)
theorem dL_law_913 : decode cL_law 913 = .ok (.iconst 2, 1) := dk_5 (dk_at dksL_law_36 3 rfl rfl)
theorem dL_law_914 : decode cL_law 914 = .ok (.iadd, 1) := dk_96 (dk_at dksL_law_36 4 rfl rfl)
theorem dL_law_915 : decode cL_law 915 = .ok (.iaload, 1) := dk_46 (dk_at dksL_law_36 5 rfl rfl)
theorem dL_law_916 : decode cL_law 916 = .ok (.aload_n 0, 1) := dk_42 (dk_at dksL_law_36 6 rfl rfl)
theorem dL_law_917 : decode cL_law 917 = .ok (.iload 4, 2) := dk_21 4 (dk_at dksL_law_36 7 rfl rfl)
theorem dL_law_919 : decode cL_law 919 = .ok (.iconst 3, 1) := dk_6 (dk_at dksL_law_36 9 rfl rfl)
theorem dL_law_920 : decode cL_law 920 = .ok (.iadd, 1) := dk_96 (dk_at dksL_law_36 10 rfl rfl)
theorem dL_law_921 : decode cL_law 921 = .ok (.iaload, 1) := dk_46 (dk_at dksL_law_36 11 rfl rfl)
theorem dL_law_922 : decode cL_law 922 = .ok (.invokevirtual 131, 3) := dk_182 0 131 (dk_at dksL_law_36 12 rfl rfl)
theorem dL_law_925 : decode cL_law 925 = .ok (.istore 6, 2) := dk_54 6 (dk_at dksL_law_36 15 rfl rfl)
theorem dL_law_927 : decode cL_law 927 = .ok (.aload_n 2, 1) := dk_44 (dk_at dksL_law_36 17 rfl rfl)
theorem dL_law_928 : decode cL_law 928 = .ok (.invokevirtual 87, 3) := dk_182 0 87 (dk_at dksL_law_36 18 rfl rfl)
theorem dL_law_931 : decode cL_law 931 = .ok (.iload 5, 2) := dk_21 5 (dk_at dksL_law_36 21 rfl rfl)
theorem dL_law_933 : decode cL_law 933 = .ok (.if_icmp .eq 5, 3) := dk_159 0 5 (dk_at dksL_law_37 0 rfl rfl)
theorem dL_law_936 : decode cL_law 936 = .ok (.iconst 0, 1) := dk_3 (dk_at dksL_law_37 3 rfl rfl)
theorem dL_law_937 : decode cL_law 937 = .ok (.ireturn, 1) := dk_172 (dk_at dksL_law_37 4 rfl rfl)
theorem dL_law_938 : decode cL_law 938 = .ok (.iload 5, 2) := dk_21 5 (dk_at dksL_law_37 5 rfl rfl)
theorem dL_law_940 : decode cL_law 940 = .ok (.ifCond .ne 22, 3) := dk_154 0 22 (dk_at dksL_law_37 7 rfl rfl)
theorem dL_law_943 : decode cL_law 943 = .ok (.aload_n 3, 1) := dk_45 (dk_at dksL_law_37 10 rfl rfl)
theorem dL_law_944 : decode cL_law 944 = .ok (.iconst 0, 1) := dk_3 (dk_at dksL_law_37 11 rfl rfl)
theorem dL_law_945 : decode cL_law 945 = .ok (.laload, 1) := dk_47 (dk_at dksL_law_37 12 rfl rfl)
theorem dL_law_946 : decode cL_law 946 = .ok (.iload 6, 2) := dk_21 6 (dk_at dksL_law_37 13 rfl rfl)
theorem dL_law_948 : decode cL_law 948 = .ok (.ifCond .eq 7, 3) := dk_153 0 7 (dk_at dksL_law_37 15 rfl rfl)
theorem dL_law_951 : decode cL_law 951 = .ok (.lconst 1, 1) := dk_10 (dk_at dksL_law_37 18 rfl rfl)
theorem dL_law_952 : decode cL_law 952 = .ok (.goto 4, 3) := dk_167 0 4 (dk_at dksL_law_37 19 rfl rfl)
theorem dL_law_955 : decode cL_law 955 = .ok (.lconst 0, 1) := dk_9 (dk_at dksL_law_37 22 rfl rfl)
theorem dL_law_956 : decode cL_law 956 = .ok (.lcmp, 1) := dk_148 (dk_at dksL_law_37 23 rfl rfl)
theorem dL_law_957 : decode cL_law 957 = .ok (.ifCond .eq 5, 3) := dk_153 0 5 (dk_at dksL_law_38 0 rfl rfl)
theorem dL_law_960 : decode cL_law 960 = .ok (.iconst 0, 1) := dk_3 (dk_at dksL_law_38 3 rfl rfl)
theorem dL_law_961 : decode cL_law 961 = .ok (.ireturn, 1) := dk_172 (dk_at dksL_law_38 4 rfl rfl)
theorem dL_law_962 : decode cL_law 962 = .ok (.goto 559, 3) := dk_167 2 47 (dk_at dksL_law_38 5 rfl rfl)
theorem dL_law_965 : decode cL_law 965 = .ok (.aload_n 1, 1) := dk_43 (dk_at dksL_law_38 8 rfl rfl)
theorem dL_law_966 : decode cL_law 966 = .ok (.aload_n 0, 1) := dk_42 (dk_at dksL_law_38 9 rfl rfl)
theorem dL_law_967 : decode cL_law 967 = .ok (.iload 4, 2) := dk_21 4 (dk_at dksL_law_38 10 rfl rfl)
theorem dL_law_969 : decode cL_law 969 = .ok (.iconst 1, 1) := dk_4 (dk_at dksL_law_38 12 rfl rfl)
theorem dL_law_970 : decode cL_law 970 = .ok (.iadd, 1) := dk_96 (dk_at dksL_law_38 13 rfl rfl)
theorem dL_law_971 : decode cL_law 971 = .ok (.iaload, 1) := dk_46 (dk_at dksL_law_38 14 rfl rfl)
theorem dL_law_972 : decode cL_law 972 = .ok (.aload_n 0, 1) := dk_42 (dk_at dksL_law_38 15 rfl rfl)
theorem dL_law_973 : decode cL_law 973 = .ok (.iload 4, 2) := dk_21 4 (dk_at dksL_law_38 16 rfl rfl)
theorem dL_law_975 : decode cL_law 975 = .ok (.iconst 2, 1) := dk_5 (dk_at dksL_law_38 18 rfl rfl)
theorem dL_law_976 : decode cL_law 976 = .ok (.iadd, 1) := dk_96 (dk_at dksL_law_38 19 rfl rfl)
theorem dL_law_977 : decode cL_law 977 = .ok (.iaload, 1) := dk_46 (dk_at dksL_law_38 20 rfl rfl)
theorem dL_law_978 : decode cL_law 978 = .ok (.aload_n 0, 1) := dk_42 (dk_at dksL_law_38 21 rfl rfl)
theorem dL_law_979 : decode cL_law 979 = .ok (.iload 4, 2) := dk_21 4 (dk_at dksL_law_38 22 rfl rfl)
theorem dL_law_981 : decode cL_law 981 = .ok (.iconst 3, 1) := dk_6 (dk_at dksL_law_39 0 rfl rfl)
theorem dL_law_982 : decode cL_law 982 = .ok (.iadd, 1) := dk_96 (dk_at dksL_law_39 1 rfl rfl)
theorem dL_law_983 : decode cL_law 983 = .ok (.iaload, 1) := dk_46 (dk_at dksL_law_39 2 rfl rfl)
theorem dL_law_984 : decode cL_law 984 = .ok (.aload_n 3, 1) := dk_45 (dk_at dksL_law_39 3 rfl rfl)
theorem dL_law_985 : decode cL_law 985 = .ok (.invokestatic 132, 3) := dk_184 0 132 (dk_at dksL_law_39 4 rfl rfl)
theorem dL_law_988 : decode cL_law 988 = .ok (.istore 5, 2) := dk_54 5 (dk_at dksL_law_39 7 rfl rfl)
theorem dL_law_990 : decode cL_law 990 = .ok (.aload_n 2, 1) := dk_44 (dk_at dksL_law_39 9 rfl rfl)
theorem dL_law_991 : decode cL_law 991 = .ok (.aload_n 0, 1) := dk_42 (dk_at dksL_law_39 10 rfl rfl)
theorem dL_law_992 : decode cL_law 992 = .ok (.iload 4, 2) := dk_21 4 (dk_at dksL_law_39 11 rfl rfl)
theorem dL_law_994 : decode cL_law 994 = .ok (.iconst 1, 1) := dk_4 (dk_at dksL_law_39 13 rfl rfl)
theorem dL_law_995 : decode cL_law 995 = .ok (.iadd, 1) := dk_96 (dk_at dksL_law_39 14 rfl rfl)
theorem dL_law_996 : decode cL_law 996 = .ok (.iaload, 1) := dk_46 (dk_at dksL_law_39 15 rfl rfl)
theorem dL_law_997 : decode cL_law 997 = .ok (.aload_n 0, 1) := dk_42 (dk_at dksL_law_39 16 rfl rfl)
theorem dL_law_998 : decode cL_law 998 = .ok (.iload 4, 2) := dk_21 4 (dk_at dksL_law_39 17 rfl rfl)
theorem dL_law_1000 : decode cL_law 1000 = .ok (.iconst 2, 1) := dk_5 (dk_at dksL_law_39 19 rfl rfl)
theorem dL_law_1001 : decode cL_law 1001 = .ok (.iadd, 1) := dk_96 (dk_at dksL_law_39 20 rfl rfl)
theorem dL_law_1002 : decode cL_law 1002 = .ok (.iaload, 1) := dk_46 (dk_at dksL_law_39 21 rfl rfl)
theorem dL_law_1003 : decode cL_law 1003 = .ok (.aload_n 0, 1) := dk_42 (dk_at dksL_law_39 22 rfl rfl)
theorem dL_law_1004 : decode cL_law 1004 = .ok (.iload 4, 2) := dk_21 4 (dk_at dksL_law_40 0 rfl rfl)
theorem dL_law_1006 : decode cL_law 1006 = .ok (.iconst 3, 1) := dk_6 (dk_at dksL_law_40 2 rfl rfl)
theorem dL_law_1007 : decode cL_law 1007 = .ok (.iadd, 1) := dk_96 (dk_at dksL_law_40 3 rfl rfl)
theorem dL_law_1008 : decode cL_law 1008 = .ok (.iaload, 1) := dk_46 (dk_at dksL_law_40 4 rfl rfl)
theorem dL_law_1009 : decode cL_law 1009 = .ok (.invokevirtual 134, 3) := dk_182 0 134 (dk_at dksL_law_40 5 rfl rfl)
theorem dL_law_1012 : decode cL_law 1012 = .ok (.istore 6, 2) := dk_54 6 (dk_at dksL_law_40 8 rfl rfl)
theorem dL_law_1014 : decode cL_law 1014 = .ok (.aload_n 2, 1) := dk_44 (dk_at dksL_law_40 10 rfl rfl)
theorem dL_law_1015 : decode cL_law 1015 = .ok (.invokevirtual 87, 3) := dk_182 0 87 (dk_at dksL_law_40 11 rfl rfl)
theorem dL_law_1018 : decode cL_law 1018 = .ok (.iload 5, 2) := dk_21 5 (dk_at dksL_law_40 14 rfl rfl)
theorem dL_law_1020 : decode cL_law 1020 = .ok (.if_icmp .eq 5, 3) := dk_159 0 5 (dk_at dksL_law_40 16 rfl rfl)
theorem dL_law_1023 : decode cL_law 1023 = .ok (.iconst 0, 1) := dk_3 (dk_at dksL_law_40 19 rfl rfl)
theorem dL_law_1024 : decode cL_law 1024 = .ok (.ireturn, 1) := dk_172 (dk_at dksL_law_40 20 rfl rfl)
theorem dL_law_1025 : decode cL_law 1025 = .ok (.iload 5, 2) := dk_21 5 (dk_at dksL_law_40 21 rfl rfl)
theorem dL_law_1027 : decode cL_law 1027 = .ok (.ifCond .ne 15, 3) := dk_154 0 15 (dk_at dksL_law_41 0 rfl rfl)
theorem dL_law_1030 : decode cL_law 1030 = .ok (.aload_n 3, 1) := dk_45 (dk_at dksL_law_41 3 rfl rfl)
theorem dL_law_1031 : decode cL_law 1031 = .ok (.iconst 0, 1) := dk_3 (dk_at dksL_law_41 4 rfl rfl)
theorem dL_law_1032 : decode cL_law 1032 = .ok (.laload, 1) := dk_47 (dk_at dksL_law_41 5 rfl rfl)
theorem dL_law_1033 : decode cL_law 1033 = .ok (.iload 6, 2) := dk_21 6 (dk_at dksL_law_41 6 rfl rfl)
theorem dL_law_1035 : decode cL_law 1035 = .ok (.i2l, 1) := dk_133 (dk_at dksL_law_41 8 rfl rfl)
theorem dL_law_1036 : decode cL_law 1036 = .ok (.lcmp, 1) := dk_148 (dk_at dksL_law_41 9 rfl rfl)
theorem dL_law_1037 : decode cL_law 1037 = .ok (.ifCond .eq 5, 3) := dk_153 0 5 (dk_at dksL_law_41 10 rfl rfl)
theorem dL_law_1040 : decode cL_law 1040 = .ok (.iconst 0, 1) := dk_3 (dk_at dksL_law_41 13 rfl rfl)
theorem dL_law_1041 : decode cL_law 1041 = .ok (.ireturn, 1) := dk_172 (dk_at dksL_law_41 14 rfl rfl)
theorem dL_law_1042 : decode cL_law 1042 = .ok (.goto 479, 3) := dk_167 1 223 (dk_at dksL_law_41 15 rfl rfl)
theorem dL_law_1045 : decode cL_law 1045 = .ok (.aload_n 1, 1) := dk_43 (dk_at dksL_law_41 18 rfl rfl)
theorem dL_law_1046 : decode cL_law 1046 = .ok (.aload_n 0, 1) := dk_42 (dk_at dksL_law_41 19 rfl rfl)
theorem dL_law_1047 : decode cL_law 1047 = .ok (.iload 4, 2) := dk_21 4 (dk_at dksL_law_41 20 rfl rfl)
theorem dL_law_1049 : decode cL_law 1049 = .ok (.iconst 1, 1) := dk_4 (dk_at dksL_law_41 22 rfl rfl)
theorem dL_law_1050 : decode cL_law 1050 = .ok (.iadd, 1) := dk_96 (dk_at dksL_law_41 23 rfl rfl)
theorem dL_law_1051 : decode cL_law 1051 = .ok (.iaload, 1) := dk_46 (dk_at dksL_law_42 0 rfl rfl)
theorem dL_law_1052 : decode cL_law 1052 = .ok (.aload_n 0, 1) := dk_42 (dk_at dksL_law_42 1 rfl rfl)
theorem dL_law_1053 : decode cL_law 1053 = .ok (.iload 4, 2) := dk_21 4 (dk_at dksL_law_42 2 rfl rfl)
theorem dL_law_1055 : decode cL_law 1055 = .ok (.iconst 2, 1) := dk_5 (dk_at dksL_law_42 4 rfl rfl)
theorem dL_law_1056 : decode cL_law 1056 = .ok (.iadd, 1) := dk_96 (dk_at dksL_law_42 5 rfl rfl)
theorem dL_law_1057 : decode cL_law 1057 = .ok (.iaload, 1) := dk_46 (dk_at dksL_law_42 6 rfl rfl)
theorem dL_law_1058 : decode cL_law 1058 = .ok (.aload_n 3, 1) := dk_45 (dk_at dksL_law_42 7 rfl rfl)
theorem dL_law_1059 : decode cL_law 1059 = .ok (.invokestatic 135, 3) := dk_184 0 135 (dk_at dksL_law_42 8 rfl rfl)
theorem dL_law_1062 : decode cL_law 1062 = .ok (.istore 5, 2) := dk_54 5 (dk_at dksL_law_42 11 rfl rfl)
theorem dL_law_1064 : decode cL_law 1064 = .ok (.aload_n 2, 1) := dk_44 (dk_at dksL_law_42 13 rfl rfl)
theorem dL_law_1065 : decode cL_law 1065 = .ok (.aload_n 0, 1) := dk_42 (dk_at dksL_law_42 14 rfl rfl)
theorem dL_law_1066 : decode cL_law 1066 = .ok (.iload 4, 2) := dk_21 4 (dk_at dksL_law_42 15 rfl rfl)
theorem dL_law_1068 : decode cL_law 1068 = .ok (.iconst 1, 1) := dk_4 (dk_at dksL_law_42 17 rfl rfl)
theorem dL_law_1069 : decode cL_law 1069 = .ok (.iadd, 1) := dk_96 (dk_at dksL_law_42 18 rfl rfl)
theorem dL_law_1070 : decode cL_law 1070 = .ok (.iaload, 1) := dk_46 (dk_at dksL_law_42 19 rfl rfl)
theorem dL_law_1071 : decode cL_law 1071 = .ok (.aload_n 0, 1) := dk_42 (dk_at dksL_law_42 20 rfl rfl)
theorem dL_law_1072 : decode cL_law 1072 = .ok (.iload 4, 2) := dk_21 4 (dk_at dksL_law_42 21 rfl rfl)
theorem dL_law_1074 : decode cL_law 1074 = .ok (.iconst 2, 1) := dk_5 (dk_at dksL_law_42 23 rfl rfl)
theorem dL_law_1075 : decode cL_law 1075 = .ok (.iadd, 1) := dk_96 (dk_at dksL_law_43 0 rfl rfl)
theorem dL_law_1076 : decode cL_law 1076 = .ok (.iaload, 1) := dk_46 (dk_at dksL_law_43 1 rfl rfl)
theorem dL_law_1077 : decode cL_law 1077 = .ok (.invokevirtual 137, 3) := dk_182 0 137 (dk_at dksL_law_43 2 rfl rfl)
theorem dL_law_1080 : decode cL_law 1080 = .ok (.istore 6, 2) := dk_54 6 (dk_at dksL_law_43 5 rfl rfl)
theorem dL_law_1082 : decode cL_law 1082 = .ok (.aload_n 2, 1) := dk_44 (dk_at dksL_law_43 7 rfl rfl)
theorem dL_law_1083 : decode cL_law 1083 = .ok (.invokevirtual 87, 3) := dk_182 0 87 (dk_at dksL_law_43 8 rfl rfl)
theorem dL_law_1086 : decode cL_law 1086 = .ok (.iload 5, 2) := dk_21 5 (dk_at dksL_law_43 11 rfl rfl)
theorem dL_law_1088 : decode cL_law 1088 = .ok (.if_icmp .eq 5, 3) := dk_159 0 5 (dk_at dksL_law_43 13 rfl rfl)
theorem dL_law_1091 : decode cL_law 1091 = .ok (.iconst 0, 1) := dk_3 (dk_at dksL_law_43 16 rfl rfl)
theorem dL_law_1092 : decode cL_law 1092 = .ok (.ireturn, 1) := dk_172 (dk_at dksL_law_43 17 rfl rfl)
theorem dL_law_1093 : decode cL_law 1093 = .ok (.iload 5, 2) := dk_21 5 (dk_at dksL_law_43 18 rfl rfl)
theorem dL_law_1095 : decode cL_law 1095 = .ok (.ifCond .ne 15, 3) := dk_154 0 15 (dk_at dksL_law_43 20 rfl rfl)
theorem dL_law_1098 : decode cL_law 1098 = .ok (.aload_n 3, 1) := dk_45 (dk_at dksL_law_43 23 rfl rfl)
theorem dL_law_1099 : decode cL_law 1099 = .ok (.iconst 0, 1) := dk_3 (dk_at dksL_law_44 0 rfl rfl)
theorem dL_law_1100 : decode cL_law 1100 = .ok (.laload, 1) := dk_47 (dk_at dksL_law_44 1 rfl rfl)
theorem dL_law_1101 : decode cL_law 1101 = .ok (.iload 6, 2) := dk_21 6 (dk_at dksL_law_44 2 rfl rfl)
theorem dL_law_1103 : decode cL_law 1103 = .ok (.i2l, 1) := dk_133 (dk_at dksL_law_44 4 rfl rfl)
theorem dL_law_1104 : decode cL_law 1104 = .ok (.lcmp, 1) := dk_148 (dk_at dksL_law_44 5 rfl rfl)
theorem dL_law_1105 : decode cL_law 1105 = .ok (.ifCond .eq 5, 3) := dk_153 0 5 (dk_at dksL_law_44 6 rfl rfl)
theorem dL_law_1108 : decode cL_law 1108 = .ok (.iconst 0, 1) := dk_3 (dk_at dksL_law_44 9 rfl rfl)
theorem dL_law_1109 : decode cL_law 1109 = .ok (.ireturn, 1) := dk_172 (dk_at dksL_law_44 10 rfl rfl)
theorem dL_law_1110 : decode cL_law 1110 = .ok (.goto 411, 3) := dk_167 1 155 (dk_at dksL_law_44 11 rfl rfl)
theorem dL_law_1113 : decode cL_law 1113 = .ok (.aload_n 1, 1) := dk_43 (dk_at dksL_law_44 14 rfl rfl)
theorem dL_law_1114 : decode cL_law 1114 = .ok (.aload_n 0, 1) := dk_42 (dk_at dksL_law_44 15 rfl rfl)
theorem dL_law_1115 : decode cL_law 1115 = .ok (.iload 4, 2) := dk_21 4 (dk_at dksL_law_44 16 rfl rfl)
theorem dL_law_1117 : decode cL_law 1117 = .ok (.iconst 1, 1) := dk_4 (dk_at dksL_law_44 18 rfl rfl)
theorem dL_law_1118 : decode cL_law 1118 = .ok (.iadd, 1) := dk_96 (dk_at dksL_law_44 19 rfl rfl)
theorem dL_law_1119 : decode cL_law 1119 = .ok (.iaload, 1) := dk_46 (dk_at dksL_law_44 20 rfl rfl)
theorem dL_law_1120 : decode cL_law 1120 = .ok (.aload_n 0, 1) := dk_42 (dk_at dksL_law_44 21 rfl rfl)
theorem dL_law_1121 : decode cL_law 1121 = .ok (.iload 4, 2) := dk_21 4 (dk_at dksL_law_44 22 rfl rfl)
theorem dL_law_1123 : decode cL_law 1123 = .ok (.iconst 2, 1) := dk_5 (dk_at dksL_law_45 0 rfl rfl)
theorem dL_law_1124 : decode cL_law 1124 = .ok (.iadd, 1) := dk_96 (dk_at dksL_law_45 1 rfl rfl)
theorem dL_law_1125 : decode cL_law 1125 = .ok (.iaload, 1) := dk_46 (dk_at dksL_law_45 2 rfl rfl)
theorem dL_law_1126 : decode cL_law 1126 = .ok (.aload_n 0, 1) := dk_42 (dk_at dksL_law_45 3 rfl rfl)
theorem dL_law_1127 : decode cL_law 1127 = .ok (.iload 4, 2) := dk_21 4 (dk_at dksL_law_45 4 rfl rfl)
theorem dL_law_1129 : decode cL_law 1129 = .ok (.iconst 3, 1) := dk_6 (dk_at dksL_law_45 6 rfl rfl)
theorem dL_law_1130 : decode cL_law 1130 = .ok (.iadd, 1) := dk_96 (dk_at dksL_law_45 7 rfl rfl)
theorem dL_law_1131 : decode cL_law 1131 = .ok (.iaload, 1) := dk_46 (dk_at dksL_law_45 8 rfl rfl)
theorem dL_law_1132 : decode cL_law 1132 = .ok (.aload_n 3, 1) := dk_45 (dk_at dksL_law_45 9 rfl rfl)
theorem dL_law_1133 : decode cL_law 1133 = .ok (.invokestatic 138, 3) := dk_184 0 138 (dk_at dksL_law_45 10 rfl rfl)
theorem dL_law_1136 : decode cL_law 1136 = .ok (.istore 5, 2) := dk_54 5 (dk_at dksL_law_45 13 rfl rfl)
theorem dL_law_1138 : decode cL_law 1138 = .ok (.aload_n 2, 1) := dk_44 (dk_at dksL_law_45 15 rfl rfl)
theorem dL_law_1139 : decode cL_law 1139 = .ok (.aload_n 0, 1) := dk_42 (dk_at dksL_law_45 16 rfl rfl)
theorem dL_law_1140 : decode cL_law 1140 = .ok (.iload 4, 2) := dk_21 4 (dk_at dksL_law_45 17 rfl rfl)
theorem dL_law_1142 : decode cL_law 1142 = .ok (.iconst 1, 1) := dk_4 (dk_at dksL_law_45 19 rfl rfl)
theorem dL_law_1143 : decode cL_law 1143 = .ok (.iadd, 1) := dk_96 (dk_at dksL_law_45 20 rfl rfl)
theorem dL_law_1144 : decode cL_law 1144 = .ok (.iaload, 1) := dk_46 (dk_at dksL_law_45 21 rfl rfl)
theorem dL_law_1145 : decode cL_law 1145 = .ok (.aload_n 0, 1) := dk_42 (dk_at dksL_law_45 22 rfl rfl)
theorem dL_law_1146 : decode cL_law 1146 = .ok (.iload 4, 2) := dk_21 4 (dk_at dksL_law_46 0 rfl rfl)
theorem dL_law_1148 : decode cL_law 1148 = .ok (.iconst 2, 1) := dk_5 (dk_at dksL_law_46 2 rfl rfl)
theorem dL_law_1149 : decode cL_law 1149 = .ok (.iadd, 1) := dk_96 (dk_at dksL_law_46 3 rfl rfl)
theorem dL_law_1150 : decode cL_law 1150 = .ok (.iaload, 1) := dk_46 (dk_at dksL_law_46 4 rfl rfl)
theorem dL_law_1151 : decode cL_law 1151 = .ok (.aload_n 0, 1) := dk_42 (dk_at dksL_law_46 5 rfl rfl)
theorem dL_law_1152 : decode cL_law 1152 = .ok (.iload 4, 2) := dk_21 4 (dk_at dksL_law_46 6 rfl rfl)
theorem dL_law_1154 : decode cL_law 1154 = .ok (.iconst 3, 1) := dk_6 (dk_at dksL_law_46 8 rfl rfl)
theorem dL_law_1155 : decode cL_law 1155 = .ok (.iadd, 1) := dk_96 (dk_at dksL_law_46 9 rfl rfl)
theorem dL_law_1156 : decode cL_law 1156 = .ok (.iaload, 1) := dk_46 (dk_at dksL_law_46 10 rfl rfl)
theorem dL_law_1157 : decode cL_law 1157 = .ok (.invokevirtual 140, 3) := dk_182 0 140 (dk_at dksL_law_46 11 rfl rfl)
theorem dL_law_1160 : decode cL_law 1160 = .ok (.istore 6, 2) := dk_54 6 (dk_at dksL_law_46 14 rfl rfl)
theorem dL_law_1162 : decode cL_law 1162 = .ok (.aload_n 2, 1) := dk_44 (dk_at dksL_law_46 16 rfl rfl)
theorem dL_law_1163 : decode cL_law 1163 = .ok (.invokevirtual 87, 3) := dk_182 0 87 (dk_at dksL_law_46 17 rfl rfl)
theorem dL_law_1166 : decode cL_law 1166 = .ok (.iload 5, 2) := dk_21 5 (dk_at dksL_law_46 20 rfl rfl)
theorem dL_law_1168 : decode cL_law 1168 = .ok (.if_icmp .eq 5, 3) := dk_159 0 5 (dk_at dksL_law_47 0 rfl rfl)
theorem dL_law_1171 : decode cL_law 1171 = .ok (.iconst 0, 1) := dk_3 (dk_at dksL_law_47 3 rfl rfl)
theorem dL_law_1172 : decode cL_law 1172 = .ok (.ireturn, 1) := dk_172 (dk_at dksL_law_47 4 rfl rfl)
theorem dL_law_1173 : decode cL_law 1173 = .ok (.iload 5, 2) := dk_21 5 (dk_at dksL_law_47 5 rfl rfl)
theorem dL_law_1175 : decode cL_law 1175 = .ok (.ifCond .ne 15, 3) := dk_154 0 15 (dk_at dksL_law_47 7 rfl rfl)
theorem dL_law_1178 : decode cL_law 1178 = .ok (.aload_n 3, 1) := dk_45 (dk_at dksL_law_47 10 rfl rfl)
theorem dL_law_1179 : decode cL_law 1179 = .ok (.iconst 0, 1) := dk_3 (dk_at dksL_law_47 11 rfl rfl)
theorem dL_law_1180 : decode cL_law 1180 = .ok (.laload, 1) := dk_47 (dk_at dksL_law_47 12 rfl rfl)
theorem dL_law_1181 : decode cL_law 1181 = .ok (.iload 6, 2) := dk_21 6 (dk_at dksL_law_47 13 rfl rfl)
theorem dL_law_1183 : decode cL_law 1183 = .ok (.i2l, 1) := dk_133 (dk_at dksL_law_47 15 rfl rfl)
theorem dL_law_1184 : decode cL_law 1184 = .ok (.lcmp, 1) := dk_148 (dk_at dksL_law_47 16 rfl rfl)
theorem dL_law_1185 : decode cL_law 1185 = .ok (.ifCond .eq 5, 3) := dk_153 0 5 (dk_at dksL_law_47 17 rfl rfl)
theorem dL_law_1188 : decode cL_law 1188 = .ok (.iconst 0, 1) := dk_3 (dk_at dksL_law_47 20 rfl rfl)
theorem dL_law_1189 : decode cL_law 1189 = .ok (.ireturn, 1) := dk_172 (dk_at dksL_law_47 21 rfl rfl)
theorem dL_law_1190 : decode cL_law 1190 = .ok (.goto 331, 3) := dk_167 1 75 (dk_at dksL_law_48 0 rfl rfl)
theorem dL_law_1193 : decode cL_law 1193 = .ok (.aload_n 1, 1) := dk_43 (dk_at dksL_law_48 3 rfl rfl)
theorem dL_law_1194 : decode cL_law 1194 = .ok (.aload_n 0, 1) := dk_42 (dk_at dksL_law_48 4 rfl rfl)
theorem dL_law_1195 : decode cL_law 1195 = .ok (.iload 4, 2) := dk_21 4 (dk_at dksL_law_48 5 rfl rfl)
theorem dL_law_1197 : decode cL_law 1197 = .ok (.iconst 1, 1) := dk_4 (dk_at dksL_law_48 7 rfl rfl)
theorem dL_law_1198 : decode cL_law 1198 = .ok (.iadd, 1) := dk_96 (dk_at dksL_law_48 8 rfl rfl)
theorem dL_law_1199 : decode cL_law 1199 = .ok (.iaload, 1) := dk_46 (dk_at dksL_law_48 9 rfl rfl)
theorem dL_law_1200 : decode cL_law 1200 = .ok (.aload_n 0, 1) := dk_42 (dk_at dksL_law_48 10 rfl rfl)
theorem dL_law_1201 : decode cL_law 1201 = .ok (.iload 4, 2) := dk_21 4 (dk_at dksL_law_48 11 rfl rfl)
theorem dL_law_1203 : decode cL_law 1203 = .ok (.iconst 2, 1) := dk_5 (dk_at dksL_law_48 13 rfl rfl)
theorem dL_law_1204 : decode cL_law 1204 = .ok (.iadd, 1) := dk_96 (dk_at dksL_law_48 14 rfl rfl)
theorem dL_law_1205 : decode cL_law 1205 = .ok (.iaload, 1) := dk_46 (dk_at dksL_law_48 15 rfl rfl)
theorem dL_law_1206 : decode cL_law 1206 = .ok (.aload_n 0, 1) := dk_42 (dk_at dksL_law_48 16 rfl rfl)
theorem dL_law_1207 : decode cL_law 1207 = .ok (.iload 4, 2) := dk_21 4 (dk_at dksL_law_48 17 rfl rfl)
theorem dL_law_1209 : decode cL_law 1209 = .ok (.iconst 3, 1) := dk_6 (dk_at dksL_law_48 19 rfl rfl)
theorem dL_law_1210 : decode cL_law 1210 = .ok (.iadd, 1) := dk_96 (dk_at dksL_law_48 20 rfl rfl)
theorem dL_law_1211 : decode cL_law 1211 = .ok (.iaload, 1) := dk_46 (dk_at dksL_law_48 21 rfl rfl)
theorem dL_law_1212 : decode cL_law 1212 = .ok (.aload_n 3, 1) := dk_45 (dk_at dksL_law_48 22 rfl rfl)
theorem dL_law_1213 : decode cL_law 1213 = .ok (.invokestatic 141, 3) := dk_184 0 141 (dk_at dksL_law_49 0 rfl rfl)
theorem dL_law_1216 : decode cL_law 1216 = .ok (.istore 5, 2) := dk_54 5 (dk_at dksL_law_49 3 rfl rfl)
theorem dL_law_1218 : decode cL_law 1218 = .ok (.aload_n 2, 1) := dk_44 (dk_at dksL_law_49 5 rfl rfl)
theorem dL_law_1219 : decode cL_law 1219 = .ok (.aload_n 0, 1) := dk_42 (dk_at dksL_law_49 6 rfl rfl)
theorem dL_law_1220 : decode cL_law 1220 = .ok (.iload 4, 2) := dk_21 4 (dk_at dksL_law_49 7 rfl rfl)
theorem dL_law_1222 : decode cL_law 1222 = .ok (.iconst 1, 1) := dk_4 (dk_at dksL_law_49 9 rfl rfl)
theorem dL_law_1223 : decode cL_law 1223 = .ok (.iadd, 1) := dk_96 (dk_at dksL_law_49 10 rfl rfl)
theorem dL_law_1224 : decode cL_law 1224 = .ok (.iaload, 1) := dk_46 (dk_at dksL_law_49 11 rfl rfl)
theorem dL_law_1225 : decode cL_law 1225 = .ok (.aload_n 0, 1) := dk_42 (dk_at dksL_law_49 12 rfl rfl)
theorem dL_law_1226 : decode cL_law 1226 = .ok (.iload 4, 2) := dk_21 4 (dk_at dksL_law_49 13 rfl rfl)
theorem dL_law_1228 : decode cL_law 1228 = .ok (.iconst 2, 1) := dk_5 (dk_at dksL_law_49 15 rfl rfl)
theorem dL_law_1229 : decode cL_law 1229 = .ok (.iadd, 1) := dk_96 (dk_at dksL_law_49 16 rfl rfl)
theorem dL_law_1230 : decode cL_law 1230 = .ok (.iaload, 1) := dk_46 (dk_at dksL_law_49 17 rfl rfl)
theorem dL_law_1231 : decode cL_law 1231 = .ok (.aload_n 0, 1) := dk_42 (dk_at dksL_law_49 18 rfl rfl)
theorem dL_law_1232 : decode cL_law 1232 = .ok (.iload 4, 2) := dk_21 4 (dk_at dksL_law_49 19 rfl rfl)
theorem dL_law_1234 : decode cL_law 1234 = .ok (.iconst 3, 1) := dk_6 (dk_at dksL_law_49 21 rfl rfl)
theorem dL_law_1235 : decode cL_law 1235 = .ok (.iadd, 1) := dk_96 (dk_at dksL_law_49 22 rfl rfl)
theorem dL_law_1236 : decode cL_law 1236 = .ok (.iaload, 1) := dk_46 (dk_at dksL_law_49 23 rfl rfl)
theorem dL_law_1237 : decode cL_law 1237 = .ok (.invokevirtual 143, 3) := dk_182 0 143 (dk_at dksL_law_50 0 rfl rfl)
theorem dL_law_1240 : decode cL_law 1240 = .ok (.istore 6, 2) := dk_54 6 (dk_at dksL_law_50 3 rfl rfl)
theorem dL_law_1242 : decode cL_law 1242 = .ok (.aload_n 2, 1) := dk_44 (dk_at dksL_law_50 5 rfl rfl)
theorem dL_law_1243 : decode cL_law 1243 = .ok (.invokevirtual 87, 3) := dk_182 0 87 (dk_at dksL_law_50 6 rfl rfl)
theorem dL_law_1246 : decode cL_law 1246 = .ok (.iload 5, 2) := dk_21 5 (dk_at dksL_law_50 9 rfl rfl)
theorem dL_law_1248 : decode cL_law 1248 = .ok (.if_icmp .eq 5, 3) := dk_159 0 5 (dk_at dksL_law_50 11 rfl rfl)
theorem dL_law_1251 : decode cL_law 1251 = .ok (.iconst 0, 1) := dk_3 (dk_at dksL_law_50 14 rfl rfl)
theorem dL_law_1252 : decode cL_law 1252 = .ok (.ireturn, 1) := dk_172 (dk_at dksL_law_50 15 rfl rfl)
theorem dL_law_1253 : decode cL_law 1253 = .ok (.iload 5, 2) := dk_21 5 (dk_at dksL_law_50 16 rfl rfl)
theorem dL_law_1255 : decode cL_law 1255 = .ok (.ifCond .ne 15, 3) := dk_154 0 15 (dk_at dksL_law_50 18 rfl rfl)
theorem dL_law_1258 : decode cL_law 1258 = .ok (.aload_n 3, 1) := dk_45 (dk_at dksL_law_50 21 rfl rfl)
theorem dL_law_1259 : decode cL_law 1259 = .ok (.iconst 0, 1) := dk_3 (dk_at dksL_law_50 22 rfl rfl)
theorem dL_law_1260 : decode cL_law 1260 = .ok (.laload, 1) := dk_47 (dk_at dksL_law_50 23 rfl rfl)
theorem dL_law_1261 : decode cL_law 1261 = .ok (.iload 6, 2) := dk_21 6 (dk_at dksL_law_51 0 rfl rfl)
theorem dL_law_1263 : decode cL_law 1263 = .ok (.i2l, 1) := dk_133 (dk_at dksL_law_51 2 rfl rfl)
theorem dL_law_1264 : decode cL_law 1264 = .ok (.lcmp, 1) := dk_148 (dk_at dksL_law_51 3 rfl rfl)
theorem dL_law_1265 : decode cL_law 1265 = .ok (.ifCond .eq 5, 3) := dk_153 0 5 (dk_at dksL_law_51 4 rfl rfl)
theorem dL_law_1268 : decode cL_law 1268 = .ok (.iconst 0, 1) := dk_3 (dk_at dksL_law_51 7 rfl rfl)
theorem dL_law_1269 : decode cL_law 1269 = .ok (.ireturn, 1) := dk_172 (dk_at dksL_law_51 8 rfl rfl)
theorem dL_law_1270 : decode cL_law 1270 = .ok (.goto 251, 3) := dk_167 0 251 (dk_at dksL_law_51 9 rfl rfl)
theorem dL_law_1273 : decode cL_law 1273 = .ok (.aload_n 1, 1) := dk_43 (dk_at dksL_law_51 12 rfl rfl)
theorem dL_law_1274 : decode cL_law 1274 = .ok (.aload_n 0, 1) := dk_42 (dk_at dksL_law_51 13 rfl rfl)
theorem dL_law_1275 : decode cL_law 1275 = .ok (.iload 4, 2) := dk_21 4 (dk_at dksL_law_51 14 rfl rfl)
theorem dL_law_1277 : decode cL_law 1277 = .ok (.iconst 1, 1) := dk_4 (dk_at dksL_law_51 16 rfl rfl)
theorem dL_law_1278 : decode cL_law 1278 = .ok (.iadd, 1) := dk_96 (dk_at dksL_law_51 17 rfl rfl)
theorem dL_law_1279 : decode cL_law 1279 = .ok (.iaload, 1) := dk_46 (dk_at dksL_law_51 18 rfl rfl)
theorem dL_law_1280 : decode cL_law 1280 = .ok (.aload_n 0, 1) := dk_42 (dk_at dksL_law_51 19 rfl rfl)
theorem dL_law_1281 : decode cL_law 1281 = .ok (.iload 4, 2) := dk_21 4 (dk_at dksL_law_51 20 rfl rfl)
theorem dL_law_1283 : decode cL_law 1283 = .ok (.iconst 2, 1) := dk_5 (dk_at dksL_law_51 22 rfl rfl)
theorem dL_law_1284 : decode cL_law 1284 = .ok (.iadd, 1) := dk_96 (dk_at dksL_law_51 23 rfl rfl)
theorem dL_law_1285 : decode cL_law 1285 = .ok (.iaload, 1) := dk_46 (dk_at dksL_law_52 0 rfl rfl)
theorem dL_law_1286 : decode cL_law 1286 = .ok (.aload_n 3, 1) := dk_45 (dk_at dksL_law_52 1 rfl rfl)
theorem dL_law_1287 : decode cL_law 1287 = .ok (.invokestatic 144, 3) := dk_184 0 144 (dk_at dksL_law_52 2 rfl rfl)
theorem dL_law_1290 : decode cL_law 1290 = .ok (.istore 5, 2) := dk_54 5 (dk_at dksL_law_52 5 rfl rfl)
theorem dL_law_1292 : decode cL_law 1292 = .ok (.aload_n 2, 1) := dk_44 (dk_at dksL_law_52 7 rfl rfl)
theorem dL_law_1293 : decode cL_law 1293 = .ok (.aload_n 0, 1) := dk_42 (dk_at dksL_law_52 8 rfl rfl)
theorem dL_law_1294 : decode cL_law 1294 = .ok (.iload 4, 2) := dk_21 4 (dk_at dksL_law_52 9 rfl rfl)
theorem dL_law_1296 : decode cL_law 1296 = .ok (.iconst 1, 1) := dk_4 (dk_at dksL_law_52 11 rfl rfl)
theorem dL_law_1297 : decode cL_law 1297 = .ok (.iadd, 1) := dk_96 (dk_at dksL_law_52 12 rfl rfl)
theorem dL_law_1298 : decode cL_law 1298 = .ok (.iaload, 1) := dk_46 (dk_at dksL_law_52 13 rfl rfl)
theorem dL_law_1299 : decode cL_law 1299 = .ok (.aload_n 0, 1) := dk_42 (dk_at dksL_law_52 14 rfl rfl)
theorem dL_law_1300 : decode cL_law 1300 = .ok (.iload 4, 2) := dk_21 4 (dk_at dksL_law_52 15 rfl rfl)
theorem dL_law_1302 : decode cL_law 1302 = .ok (.iconst 2, 1) := dk_5 (dk_at dksL_law_52 17 rfl rfl)
theorem dL_law_1303 : decode cL_law 1303 = .ok (.iadd, 1) := dk_96 (dk_at dksL_law_52 18 rfl rfl)
theorem dL_law_1304 : decode cL_law 1304 = .ok (.iaload, 1) := dk_46 (dk_at dksL_law_52 19 rfl rfl)
theorem dL_law_1305 : decode cL_law 1305 = .ok (.invokevirtual 146, 3) := dk_182 0 146 (dk_at dksL_law_52 20 rfl rfl)
theorem dL_law_1308 : decode cL_law 1308 = .ok (.istore 6, 2) := dk_54 6 (dk_at dksL_law_53 0 rfl rfl)
theorem dL_law_1310 : decode cL_law 1310 = .ok (.aload_n 2, 1) := dk_44 (dk_at dksL_law_53 2 rfl rfl)
theorem dL_law_1311 : decode cL_law 1311 = .ok (.invokevirtual 87, 3) := dk_182 0 87 (dk_at dksL_law_53 3 rfl rfl)
theorem dL_law_1314 : decode cL_law 1314 = .ok (.iload 5, 2) := dk_21 5 (dk_at dksL_law_53 6 rfl rfl)
theorem dL_law_1316 : decode cL_law 1316 = .ok (.if_icmp .eq 5, 3) := dk_159 0 5 (dk_at dksL_law_53 8 rfl rfl)
theorem dL_law_1319 : decode cL_law 1319 = .ok (.iconst 0, 1) := dk_3 (dk_at dksL_law_53 11 rfl rfl)
theorem dL_law_1320 : decode cL_law 1320 = .ok (.ireturn, 1) := dk_172 (dk_at dksL_law_53 12 rfl rfl)
theorem dL_law_1321 : decode cL_law 1321 = .ok (.iload 5, 2) := dk_21 5 (dk_at dksL_law_53 13 rfl rfl)
theorem dL_law_1323 : decode cL_law 1323 = .ok (.ifCond .ne 15, 3) := dk_154 0 15 (dk_at dksL_law_53 15 rfl rfl)
theorem dL_law_1326 : decode cL_law 1326 = .ok (.aload_n 3, 1) := dk_45 (dk_at dksL_law_53 18 rfl rfl)
theorem dL_law_1327 : decode cL_law 1327 = .ok (.iconst 0, 1) := dk_3 (dk_at dksL_law_53 19 rfl rfl)
theorem dL_law_1328 : decode cL_law 1328 = .ok (.laload, 1) := dk_47 (dk_at dksL_law_53 20 rfl rfl)
theorem dL_law_1329 : decode cL_law 1329 = .ok (.iload 6, 2) := dk_21 6 (dk_at dksL_law_53 21 rfl rfl)
theorem dL_law_1331 : decode cL_law 1331 = .ok (.i2l, 1) := dk_133 (dk_at dksL_law_53 23 rfl rfl)
theorem dL_law_1332 : decode cL_law 1332 = .ok (.lcmp, 1) := dk_148 (dk_at dksL_law_54 0 rfl rfl)
theorem dL_law_1333 : decode cL_law 1333 = .ok (.ifCond .eq 5, 3) := dk_153 0 5 (dk_at dksL_law_54 1 rfl rfl)
theorem dL_law_1336 : decode cL_law 1336 = .ok (.iconst 0, 1) := dk_3 (dk_at dksL_law_54 4 rfl rfl)
theorem dL_law_1337 : decode cL_law 1337 = .ok (.ireturn, 1) := dk_172 (dk_at dksL_law_54 5 rfl rfl)
theorem dL_law_1338 : decode cL_law 1338 = .ok (.goto 183, 3) := dk_167 0 183 (dk_at dksL_law_54 6 rfl rfl)
theorem dL_law_1341 : decode cL_law 1341 = .ok (.aload_n 1, 1) := dk_43 (dk_at dksL_law_54 9 rfl rfl)
theorem dL_law_1342 : decode cL_law 1342 = .ok (.aload_n 0, 1) := dk_42 (dk_at dksL_law_54 10 rfl rfl)
theorem dL_law_1343 : decode cL_law 1343 = .ok (.iload 4, 2) := dk_21 4 (dk_at dksL_law_54 11 rfl rfl)
theorem dL_law_1345 : decode cL_law 1345 = .ok (.iconst 1, 1) := dk_4 (dk_at dksL_law_54 13 rfl rfl)
theorem dL_law_1346 : decode cL_law 1346 = .ok (.iadd, 1) := dk_96 (dk_at dksL_law_54 14 rfl rfl)
theorem dL_law_1347 : decode cL_law 1347 = .ok (.iaload, 1) := dk_46 (dk_at dksL_law_54 15 rfl rfl)
theorem dL_law_1348 : decode cL_law 1348 = .ok (.aload_n 0, 1) := dk_42 (dk_at dksL_law_54 16 rfl rfl)
theorem dL_law_1349 : decode cL_law 1349 = .ok (.iload 4, 2) := dk_21 4 (dk_at dksL_law_54 17 rfl rfl)
theorem dL_law_1351 : decode cL_law 1351 = .ok (.iconst 2, 1) := dk_5 (dk_at dksL_law_54 19 rfl rfl)
theorem dL_law_1352 : decode cL_law 1352 = .ok (.iadd, 1) := dk_96 (dk_at dksL_law_54 20 rfl rfl)
theorem dL_law_1353 : decode cL_law 1353 = .ok (.iaload, 1) := dk_46 (dk_at dksL_law_54 21 rfl rfl)
theorem dL_law_1354 : decode cL_law 1354 = .ok (.aload_n 3, 1) := dk_45 (dk_at dksL_law_54 22 rfl rfl)
theorem dL_law_1355 : decode cL_law 1355 = .ok (.invokestatic 147, 3) := dk_184 0 147 (dk_at dksL_law_55 0 rfl rfl)
theorem dL_law_1358 : decode cL_law 1358 = .ok (.istore 5, 2) := dk_54 5 (dk_at dksL_law_55 3 rfl rfl)
theorem dL_law_1360 : decode cL_law 1360 = .ok (.aload_n 2, 1) := dk_44 (dk_at dksL_law_55 5 rfl rfl)
theorem dL_law_1361 : decode cL_law 1361 = .ok (.aload_n 0, 1) := dk_42 (dk_at dksL_law_55 6 rfl rfl)
theorem dL_law_1362 : decode cL_law 1362 = .ok (.iload 4, 2) := dk_21 4 (dk_at dksL_law_55 7 rfl rfl)
theorem dL_law_1364 : decode cL_law 1364 = .ok (.iconst 1, 1) := dk_4 (dk_at dksL_law_55 9 rfl rfl)
theorem dL_law_1365 : decode cL_law 1365 = .ok (.iadd, 1) := dk_96 (dk_at dksL_law_55 10 rfl rfl)
theorem dL_law_1366 : decode cL_law 1366 = .ok (.iaload, 1) := dk_46 (dk_at dksL_law_55 11 rfl rfl)
theorem dL_law_1367 : decode cL_law 1367 = .ok (.aload_n 0, 1) := dk_42 (dk_at dksL_law_55 12 rfl rfl)
theorem dL_law_1368 : decode cL_law 1368 = .ok (.iload 4, 2) := dk_21 4 (dk_at dksL_law_55 13 rfl rfl)
theorem dL_law_1370 : decode cL_law 1370 = .ok (.iconst 2, 1) := dk_5 (dk_at dksL_law_55 15 rfl rfl)
theorem dL_law_1371 : decode cL_law 1371 = .ok (.iadd, 1) := dk_96 (dk_at dksL_law_55 16 rfl rfl)
theorem dL_law_1372 : decode cL_law 1372 = .ok (.iaload, 1) := dk_46 (dk_at dksL_law_55 17 rfl rfl)
theorem dL_law_1373 : decode cL_law 1373 = .ok (.invokevirtual 149, 3) := dk_182 0 149 (dk_at dksL_law_55 18 rfl rfl)
theorem dL_law_1376 : decode cL_law 1376 = .ok (.istore 6, 2) := dk_54 6 (dk_at dksL_law_55 21 rfl rfl)
theorem dL_law_1378 : decode cL_law 1378 = .ok (.aload_n 2, 1) := dk_44 (dk_at dksL_law_55 23 rfl rfl)
theorem dL_law_1379 : decode cL_law 1379 = .ok (.invokevirtual 87, 3) := dk_182 0 87 (dk_at dksL_law_56 0 rfl rfl)
theorem dL_law_1382 : decode cL_law 1382 = .ok (.iload 5, 2) := dk_21 5 (dk_at dksL_law_56 3 rfl rfl)
theorem dL_law_1384 : decode cL_law 1384 = .ok (.if_icmp .eq 5, 3) := dk_159 0 5 (dk_at dksL_law_56 5 rfl rfl)
theorem dL_law_1387 : decode cL_law 1387 = .ok (.iconst 0, 1) := dk_3 (dk_at dksL_law_56 8 rfl rfl)
theorem dL_law_1388 : decode cL_law 1388 = .ok (.ireturn, 1) := dk_172 (dk_at dksL_law_56 9 rfl rfl)
theorem dL_law_1389 : decode cL_law 1389 = .ok (.iload 5, 2) := dk_21 5 (dk_at dksL_law_56 10 rfl rfl)
theorem dL_law_1391 : decode cL_law 1391 = .ok (.ifCond .ne 15, 3) := dk_154 0 15 (dk_at dksL_law_56 12 rfl rfl)
theorem dL_law_1394 : decode cL_law 1394 = .ok (.aload_n 3, 1) := dk_45 (dk_at dksL_law_56 15 rfl rfl)
theorem dL_law_1395 : decode cL_law 1395 = .ok (.iconst 0, 1) := dk_3 (dk_at dksL_law_56 16 rfl rfl)
theorem dL_law_1396 : decode cL_law 1396 = .ok (.laload, 1) := dk_47 (dk_at dksL_law_56 17 rfl rfl)
theorem dL_law_1397 : decode cL_law 1397 = .ok (.iload 6, 2) := dk_21 6 (dk_at dksL_law_56 18 rfl rfl)
theorem dL_law_1399 : decode cL_law 1399 = .ok (.i2l, 1) := dk_133 (dk_at dksL_law_56 20 rfl rfl)
theorem dL_law_1400 : decode cL_law 1400 = .ok (.lcmp, 1) := dk_148 (dk_at dksL_law_56 21 rfl rfl)
theorem dL_law_1401 : decode cL_law 1401 = .ok (.ifCond .eq 5, 3) := dk_153 0 5 (dk_at dksL_law_57 0 rfl rfl)
theorem dL_law_1404 : decode cL_law 1404 = .ok (.iconst 0, 1) := dk_3 (dk_at dksL_law_57 3 rfl rfl)
theorem dL_law_1405 : decode cL_law 1405 = .ok (.ireturn, 1) := dk_172 (dk_at dksL_law_57 4 rfl rfl)
theorem dL_law_1406 : decode cL_law 1406 = .ok (.goto 115, 3) := dk_167 0 115 (dk_at dksL_law_57 5 rfl rfl)
theorem dL_law_1409 : decode cL_law 1409 = .ok (.aload_n 1, 1) := dk_43 (dk_at dksL_law_57 8 rfl rfl)
theorem dL_law_1410 : decode cL_law 1410 = .ok (.aload_n 0, 1) := dk_42 (dk_at dksL_law_57 9 rfl rfl)
theorem dL_law_1411 : decode cL_law 1411 = .ok (.iload 4, 2) := dk_21 4 (dk_at dksL_law_57 10 rfl rfl)
theorem dL_law_1413 : decode cL_law 1413 = .ok (.iconst 1, 1) := dk_4 (dk_at dksL_law_57 12 rfl rfl)
theorem dL_law_1414 : decode cL_law 1414 = .ok (.iadd, 1) := dk_96 (dk_at dksL_law_57 13 rfl rfl)
theorem dL_law_1415 : decode cL_law 1415 = .ok (.iaload, 1) := dk_46 (dk_at dksL_law_57 14 rfl rfl)
theorem dL_law_1416 : decode cL_law 1416 = .ok (.aload_n 3, 1) := dk_45 (dk_at dksL_law_57 15 rfl rfl)
theorem dL_law_1417 : decode cL_law 1417 = .ok (.invokestatic 150, 3) := dk_184 0 150 (dk_at dksL_law_57 16 rfl rfl)
theorem dL_law_1420 : decode cL_law 1420 = .ok (.istore 5, 2) := dk_54 5 (dk_at dksL_law_57 19 rfl rfl)
theorem dL_law_1422 : decode cL_law 1422 = .ok (.aload_n 2, 1) := dk_44 (dk_at dksL_law_57 21 rfl rfl)
theorem dL_law_1423 : decode cL_law 1423 = .ok (.aload_n 0, 1) := dk_42 (dk_at dksL_law_57 22 rfl rfl)
theorem dL_law_1424 : decode cL_law 1424 = .ok (.iload 4, 2) := dk_21 4 (dk_at dksL_law_58 0 rfl rfl)
theorem dL_law_1426 : decode cL_law 1426 = .ok (.iconst 1, 1) := dk_4 (dk_at dksL_law_58 2 rfl rfl)
theorem dL_law_1427 : decode cL_law 1427 = .ok (.iadd, 1) := dk_96 (dk_at dksL_law_58 3 rfl rfl)
theorem dL_law_1428 : decode cL_law 1428 = .ok (.iaload, 1) := dk_46 (dk_at dksL_law_58 4 rfl rfl)
theorem dL_law_1429 : decode cL_law 1429 = .ok (.invokevirtual 152, 3) := dk_182 0 152 (dk_at dksL_law_58 5 rfl rfl)
theorem dL_law_1432 : decode cL_law 1432 = .ok (.istore 6, 2) := dk_54 6 (dk_at dksL_law_58 8 rfl rfl)
theorem dL_law_1434 : decode cL_law 1434 = .ok (.aload_n 2, 1) := dk_44 (dk_at dksL_law_58 10 rfl rfl)
theorem dL_law_1435 : decode cL_law 1435 = .ok (.invokevirtual 87, 3) := dk_182 0 87 (dk_at dksL_law_58 11 rfl rfl)
theorem dL_law_1438 : decode cL_law 1438 = .ok (.iload 5, 2) := dk_21 5 (dk_at dksL_law_58 14 rfl rfl)
theorem dL_law_1440 : decode cL_law 1440 = .ok (.if_icmp .eq 5, 3) := dk_159 0 5 (dk_at dksL_law_58 16 rfl rfl)
theorem dL_law_1443 : decode cL_law 1443 = .ok (.iconst 0, 1) := dk_3 (dk_at dksL_law_58 19 rfl rfl)
theorem dL_law_1444 : decode cL_law 1444 = .ok (.ireturn, 1) := dk_172 (dk_at dksL_law_58 20 rfl rfl)
theorem dL_law_1445 : decode cL_law 1445 = .ok (.iload 5, 2) := dk_21 5 (dk_at dksL_law_58 21 rfl rfl)
theorem dL_law_1447 : decode cL_law 1447 = .ok (.ifCond .ne 15, 3) := dk_154 0 15 (dk_at dksL_law_59 0 rfl rfl)
theorem dL_law_1450 : decode cL_law 1450 = .ok (.aload_n 3, 1) := dk_45 (dk_at dksL_law_59 3 rfl rfl)
theorem dL_law_1451 : decode cL_law 1451 = .ok (.iconst 0, 1) := dk_3 (dk_at dksL_law_59 4 rfl rfl)
theorem dL_law_1452 : decode cL_law 1452 = .ok (.laload, 1) := dk_47 (dk_at dksL_law_59 5 rfl rfl)
theorem dL_law_1453 : decode cL_law 1453 = .ok (.iload 6, 2) := dk_21 6 (dk_at dksL_law_59 6 rfl rfl)
theorem dL_law_1455 : decode cL_law 1455 = .ok (.i2l, 1) := dk_133 (dk_at dksL_law_59 8 rfl rfl)
theorem dL_law_1456 : decode cL_law 1456 = .ok (.lcmp, 1) := dk_148 (dk_at dksL_law_59 9 rfl rfl)
theorem dL_law_1457 : decode cL_law 1457 = .ok (.ifCond .eq 5, 3) := dk_153 0 5 (dk_at dksL_law_59 10 rfl rfl)
theorem dL_law_1460 : decode cL_law 1460 = .ok (.iconst 0, 1) := dk_3 (dk_at dksL_law_59 13 rfl rfl)
theorem dL_law_1461 : decode cL_law 1461 = .ok (.ireturn, 1) := dk_172 (dk_at dksL_law_59 14 rfl rfl)
theorem dL_law_1462 : decode cL_law 1462 = .ok (.goto 59, 3) := dk_167 0 59 (dk_at dksL_law_59 15 rfl rfl)
theorem dL_law_1465 : decode cL_law 1465 = .ok (.aload_n 1, 1) := dk_43 (dk_at dksL_law_59 18 rfl rfl)
theorem dL_law_1466 : decode cL_law 1466 = .ok (.aload_n 0, 1) := dk_42 (dk_at dksL_law_59 19 rfl rfl)
theorem dL_law_1467 : decode cL_law 1467 = .ok (.iload 4, 2) := dk_21 4 (dk_at dksL_law_59 20 rfl rfl)
theorem dL_law_1469 : decode cL_law 1469 = .ok (.iconst 1, 1) := dk_4 (dk_at dksL_law_59 22 rfl rfl)
theorem dL_law_1470 : decode cL_law 1470 = .ok (.iadd, 1) := dk_96 (dk_at dksL_law_59 23 rfl rfl)
theorem dL_law_1471 : decode cL_law 1471 = .ok (.iaload, 1) := dk_46 (dk_at dksL_law_60 0 rfl rfl)
theorem dL_law_1472 : decode cL_law 1472 = .ok (.aload_n 3, 1) := dk_45 (dk_at dksL_law_60 1 rfl rfl)
theorem dL_law_1473 : decode cL_law 1473 = .ok (.invokestatic 153, 3) := dk_184 0 153 (dk_at dksL_law_60 2 rfl rfl)
theorem dL_law_1476 : decode cL_law 1476 = .ok (.istore 5, 2) := dk_54 5 (dk_at dksL_law_60 5 rfl rfl)
theorem dL_law_1478 : decode cL_law 1478 = .ok (.aload_n 2, 1) := dk_44 (dk_at dksL_law_60 7 rfl rfl)
theorem dL_law_1479 : decode cL_law 1479 = .ok (.aload_n 0, 1) := dk_42 (dk_at dksL_law_60 8 rfl rfl)
theorem dL_law_1480 : decode cL_law 1480 = .ok (.iload 4, 2) := dk_21 4 (dk_at dksL_law_60 9 rfl rfl)
theorem dL_law_1482 : decode cL_law 1482 = .ok (.iconst 1, 1) := dk_4 (dk_at dksL_law_60 11 rfl rfl)
theorem dL_law_1483 : decode cL_law 1483 = .ok (.iadd, 1) := dk_96 (dk_at dksL_law_60 12 rfl rfl)
theorem dL_law_1484 : decode cL_law 1484 = .ok (.iaload, 1) := dk_46 (dk_at dksL_law_60 13 rfl rfl)
theorem dL_law_1485 : decode cL_law 1485 = .ok (.invokevirtual 155, 3) := dk_182 0 155 (dk_at dksL_law_60 14 rfl rfl)
theorem dL_law_1488 : decode cL_law 1488 = .ok (.istore 6, 2) := dk_54 6 (dk_at dksL_law_60 17 rfl rfl)
theorem dL_law_1490 : decode cL_law 1490 = .ok (.aload_n 2, 1) := dk_44 (dk_at dksL_law_60 19 rfl rfl)
theorem dL_law_1491 : decode cL_law 1491 = .ok (.invokevirtual 87, 3) := dk_182 0 87 (dk_at dksL_law_60 20 rfl rfl)
theorem dL_law_1494 : decode cL_law 1494 = .ok (.iload 5, 2) := dk_21 5 (dk_at dksL_law_61 0 rfl rfl)
theorem dL_law_1496 : decode cL_law 1496 = .ok (.if_icmp .eq 5, 3) := dk_159 0 5 (dk_at dksL_law_61 2 rfl rfl)
theorem dL_law_1499 : decode cL_law 1499 = .ok (.iconst 0, 1) := dk_3 (dk_at dksL_law_61 5 rfl rfl)
theorem dL_law_1500 : decode cL_law 1500 = .ok (.ireturn, 1) := dk_172 (dk_at dksL_law_61 6 rfl rfl)
theorem dL_law_1501 : decode cL_law 1501 = .ok (.iload 5, 2) := dk_21 5 (dk_at dksL_law_61 7 rfl rfl)
theorem dL_law_1503 : decode cL_law 1503 = .ok (.ifCond .ne 15, 3) := dk_154 0 15 (dk_at dksL_law_61 9 rfl rfl)
theorem dL_law_1506 : decode cL_law 1506 = .ok (.aload_n 3, 1) := dk_45 (dk_at dksL_law_61 12 rfl rfl)
theorem dL_law_1507 : decode cL_law 1507 = .ok (.iconst 0, 1) := dk_3 (dk_at dksL_law_61 13 rfl rfl)
theorem dL_law_1508 : decode cL_law 1508 = .ok (.laload, 1) := dk_47 (dk_at dksL_law_61 14 rfl rfl)
theorem dL_law_1509 : decode cL_law 1509 = .ok (.iload 6, 2) := dk_21 6 (dk_at dksL_law_61 15 rfl rfl)
theorem dL_law_1511 : decode cL_law 1511 = .ok (.i2l, 1) := dk_133 (dk_at dksL_law_61 17 rfl rfl)
theorem dL_law_1512 : decode cL_law 1512 = .ok (.lcmp, 1) := dk_148 (dk_at dksL_law_61 18 rfl rfl)
theorem dL_law_1513 : decode cL_law 1513 = .ok (.ifCond .eq 5, 3) := dk_153 0 5 (dk_at dksL_law_61 19 rfl rfl)
theorem dL_law_1516 : decode cL_law 1516 = .ok (.iconst 0, 1) := dk_3 (dk_at dksL_law_61 22 rfl rfl)
theorem dL_law_1517 : decode cL_law 1517 = .ok (.ireturn, 1) := dk_172 (dk_at dksL_law_61 23 rfl rfl)
theorem dL_law_1518 : decode cL_law 1518 = .ok (.goto 3, 3) := dk_167 0 3 (dk_at dksL_law_62 0 rfl rfl)
theorem dL_law_1521 : decode cL_law 1521 = .ok (.iinc 4 5, 3) := dk_132 4 5 (dk_at dksL_law_62 3 rfl rfl)
theorem dL_law_1524 : decode cL_law 1524 = .ok (.goto (-1501), 3) := dk_167 250 35 (dk_at dksL_law_62 6 rfl rfl)
theorem dL_law_1527 : decode cL_law 1527 = .ok (.iconst 1, 1) := dk_4 (dk_at dksL_law_62 9 rfl rfl)
theorem dL_law_1528 : decode cL_law 1528 = .ok (.ireturn, 1) := dk_172 (dk_at dksL_law_62 10 rfl rfl)
theorem q1165 : (Jvm.Cond.interfaceMethod "Backdater$Effect" "Backdater$Effect" "lay" "(LBackdater$Version;)V") ∈ lw_tbl := lw_at lw_m5 170 rfl
set_option maxRecDepth 100000
theorem q1166 : (Jvm.Cond.declares ({ cls := "Backdater$Effect", name := "lay", desc := "(LBackdater$Version;)V" } : Jvm.MethodName)) ∈ lw_tbl := lw_at lw_m5 171 rfl
theorem q1540 : (Jvm.Cond.castable "[B" "java/lang/Object") ∈ lw_tbl := lw_at lw_m7 65 rfl
set_option maxRecDepth 100000
theorem q1538 : (Jvm.Cond.castable "[I" "java/lang/Object") ∈ lw_tbl := lw_at lw_m7 63 rfl
set_option maxRecDepth 100000
theorem q1542 : (Jvm.Cond.castable "[J" "java/lang/Object") ∈ lw_tbl := lw_at lw_m7 67 rfl
set_option maxRecDepth 100000
theorem q1535 : (Jvm.Cond.sameMethod "[Ljava/lang/Object;" "java/lang/Object" "getClass" "()Ljava/lang/Class;") ∈ lw_all := lw_g (lw_at lw_m7 60 rfl) rfl
set_option maxRecDepth 100000
theorem q1536 : (Jvm.Cond.selects "[Ljava/lang/Object;" ({ cls := "java/lang/Object", name := "getClass", desc := "()Ljava/lang/Class;" } : Jvm.MethodName) ({ cls := "java/lang/Object", name := "getClass", desc := "()Ljava/lang/Class;" } : Jvm.MethodName)) ∈ lw_all := lw_g (lw_at lw_m7 61 rfl) rfl
theorem q1539 : (Jvm.Cond.castable "[Ljava/lang/Object;" "java/lang/Object") ∈ lw_tbl := lw_at lw_m7 64 rfl
theorem q1541 : (Jvm.Cond.castable "[Z" "java/lang/Object") ∈ lw_tbl := lw_at lw_m7 66 rfl
set_option maxRecDepth 100000
theorem q571 : (Jvm.Cond.interfaceMethod "java/lang/Comparable" "java/lang/Comparable" "compareTo" "(Ljava/lang/Object;)I") ∈ lw_tbl := lw_at lw_m3 56 rfl
set_option maxRecDepth 100000
theorem q572 : (Jvm.Cond.declares ({ cls := "java/lang/Comparable", name := "compareTo", desc := "(Ljava/lang/Object;)I" } : Jvm.MethodName)) ∈ lw_tbl := lw_at lw_m3 57 rfl
theorem q63 : (Jvm.Cond.initialized "java/lang/Integer$IntegerCache") ∈ lw_all := lw_g (lw_at lw_m1 28 rfl) rfl
set_option maxRecDepth 100000
theorem q536 : (Jvm.Cond.laysStatic "java/lang/Integer$IntegerCache" "high" "I") ∈ lw_tbl := lw_at lw_m3 21 rfl
theorem q538 : (Jvm.Cond.laysStatic "java/lang/Integer$IntegerCache" "cache" "[Ljava/lang/Integer;") ∈ lw_tbl := lw_at lw_m3 23 rfl
theorem q52 : (Jvm.Cond.initialized "java/lang/System") ∈ lw_all := lw_g (lw_at lw_m1 17 rfl) rfl
set_option maxRecDepth 100000
theorem q376 : (Jvm.Cond.static ({ cls := "java/lang/System", name := "arraycopy", desc := "(Ljava/lang/Object;ILjava/lang/Object;II)V" } : Jvm.MethodName)) ∈ lw_all := lw_g (lw_at lw_m2 101 rfl) rfl
theorem q377 : (Jvm.Cond.native ({ cls := "java/lang/System", name := "arraycopy", desc := "(Ljava/lang/Object;ILjava/lang/Object;II)V" } : Jvm.MethodName)) ∈ lw_all := lw_g (lw_at lw_m2 102 rfl) rfl
theorem q851 : (Jvm.Cond.interfaceMethod "java/util/Collection" "java/util/Collection" "iterator" "()Ljava/util/Iterator;") ∈ lw_tbl := lw_at lw_m4 96 rfl
set_option maxRecDepth 100000
theorem q852 : (Jvm.Cond.declares ({ cls := "java/util/Collection", name := "iterator", desc := "()Ljava/util/Iterator;" } : Jvm.MethodName)) ∈ lw_tbl := lw_at lw_m4 97 rfl
theorem q605 : (Jvm.Cond.interfaceMethod "java/util/Comparator" "java/util/Comparator" "compare" "(Ljava/lang/Object;Ljava/lang/Object;)I") ∈ lw_tbl := lw_at lw_m3 90 rfl
set_option maxRecDepth 100000
theorem q606 : (Jvm.Cond.declares ({ cls := "java/util/Comparator", name := "compare", desc := "(Ljava/lang/Object;Ljava/lang/Object;)I" } : Jvm.MethodName)) ∈ lw_tbl := lw_at lw_m3 91 rfl
theorem q1059 : (Jvm.Cond.interfaceMethod "java/util/Iterator" "java/util/Iterator" "hasNext" "()Z") ∈ lw_tbl := lw_at lw_m5 64 rfl
set_option maxRecDepth 100000
theorem q1060 : (Jvm.Cond.declares ({ cls := "java/util/Iterator", name := "hasNext", desc := "()Z" } : Jvm.MethodName)) ∈ lw_tbl := lw_at lw_m5 65 rfl
theorem q1092 : (Jvm.Cond.interfaceMethod "java/util/Iterator" "java/util/Iterator" "next" "()Ljava/lang/Object;") ∈ lw_tbl := lw_at lw_m5 97 rfl
theorem q1093 : (Jvm.Cond.declares ({ cls := "java/util/Iterator", name := "next", desc := "()Ljava/lang/Object;" } : Jvm.MethodName)) ∈ lw_tbl := lw_at lw_m5 98 rfl
theorem q145 : (Jvm.Cond.interfaceMethod "java/util/List" "java/util/List" "size" "()I") ∈ lw_tbl := lw_at lw_m1 110 rfl
set_option maxRecDepth 100000
theorem q146 : (Jvm.Cond.declares ({ cls := "java/util/List", name := "size", desc := "()I" } : Jvm.MethodName)) ∈ lw_tbl := lw_at lw_m1 111 rfl
theorem q306 : (Jvm.Cond.interfaceMethod "java/util/List" "java/util/List" "add" "(Ljava/lang/Object;)Z") ∈ lw_tbl := lw_at lw_m2 31 rfl
theorem q307 : (Jvm.Cond.declares ({ cls := "java/util/List", name := "add", desc := "(Ljava/lang/Object;)Z" } : Jvm.MethodName)) ∈ lw_tbl := lw_at lw_m2 32 rfl
theorem q477 : (Jvm.Cond.interfaceMethod "java/util/List" "java/util/List" "get" "(I)Ljava/lang/Object;") ∈ lw_tbl := lw_at lw_m2 202 rfl
theorem q478 : (Jvm.Cond.declares ({ cls := "java/util/List", name := "get", desc := "(I)Ljava/lang/Object;" } : Jvm.MethodName)) ∈ lw_tbl := lw_at lw_m2 203 rfl
theorem q1265 : (Jvm.Cond.interfaceMethod "java/util/List" "java/util/List" "iterator" "()Ljava/util/Iterator;") ∈ lw_tbl := lw_at lw_m6 30 rfl
theorem q1266 : (Jvm.Cond.declares ({ cls := "java/util/List", name := "iterator", desc := "()Ljava/util/Iterator;" } : Jvm.MethodName)) ∈ lw_tbl := lw_at lw_m6 31 rfl
theorem q1155 : (Jvm.Cond.interfaceMethod "java/util/Map$Entry" "java/util/Map$Entry" "getValue" "()Ljava/lang/Object;") ∈ lw_tbl := lw_at lw_m5 160 rfl
set_option maxRecDepth 100000
theorem q1156 : (Jvm.Cond.declares ({ cls := "java/util/Map$Entry", name := "getValue", desc := "()Ljava/lang/Object;" } : Jvm.MethodName)) ∈ lw_tbl := lw_at lw_m5 161 rfl
theorem q910 : (Jvm.Cond.interfaceMethod "java/util/Set" "java/util/Set" "iterator" "()Ljava/util/Iterator;") ∈ lw_tbl := lw_at lw_m4 155 rfl
set_option maxRecDepth 100000
theorem q911 : (Jvm.Cond.declares ({ cls := "java/util/Set", name := "iterator", desc := "()Ljava/util/Iterator;" } : Jvm.MethodName)) ∈ lw_tbl := lw_at lw_m4 156 rfl
theorem q814 : (Jvm.Cond.interfaceMethod "java/util/SortedMap" "java/util/SortedMap" "values" "()Ljava/util/Collection;") ∈ lw_tbl := lw_at lw_m4 59 rfl
set_option maxRecDepth 100000
theorem q815 : (Jvm.Cond.declares ({ cls := "java/util/SortedMap", name := "values", desc := "()Ljava/util/Collection;" } : Jvm.MethodName)) ∈ lw_tbl := lw_at lw_m4 60 rfl
theorem q134 : (Jvm.Cond.arrayClass Jvm.ClassFile.FieldType.int) ∈ lw_all := lw_g (lw_at lw_m1 99 rfl) rfl
set_option maxRecDepth 100000
theorem q370 : (Jvm.Cond.arrayOver (Jvm.ClassFile.FieldType.object "java/lang/Object")) ∈ lw_tbl := lw_at lw_m2 95 rfl
theorem q411 : (Jvm.Cond.arrayClass Jvm.ClassFile.FieldType.byte) ∈ lw_all := lw_g (lw_at lw_m2 136 rfl) rfl
theorem q1359 : (Jvm.Cond.arrayClass Jvm.ClassFile.FieldType.boolean) ∈ lw_all := lw_g (lw_at lw_m6 124 rfl) rfl
theorem q1504 : (Jvm.Cond.arrayClass Jvm.ClassFile.FieldType.long) ∈ lw_all := lw_g (lw_at lw_m7 29 rfl) rfl

/-! Backdater -/
set_option maxRecDepth 100000
def RX1 : String := "Backdater"
def TX1 : u_T := fun k => match k with
  | 0 => ("Backdater", "policies", "Ljava/util/List;", true)
  | 1 => ("Backdater", "changes", "Ljava/util/List;", true)
  | 2 => ("Backdater", "tariffs", "Ljava/util/List;", true)
  | 3 => ("Backdater", "today", "I", false)
  | _ => ("Backdater", "rates", "[I", true)
def tyX1 : Nat → FieldType := fun k => match k with
  | 0 => .object "java/util/List"
  | 1 => .object "java/util/List"
  | 2 => .object "java/util/List"
  | 3 => .int
  | _ => .array .int
abbrev wsX10 : List Cond := u_ws RX1 TX1 5
theorem nmX1 : ∀ a, a < 5 → ∀ b, b < 5 → a ≠ b → (TX1 a).2.1 ≠ (TX1 b).2.1 := by decide +kernel
theorem tyX1_ok : ∀ k, k < 5 → parseFieldDescriptor (TX1 k).2.2.1 = some (tyX1 k) := by decide +kernel
abbrev cX1_init : ByteArray := prog_1_method_1_code
def yX1_init : MethodName := ⟨RX1, "<init>", "()V"⟩
def dkwX1_init_1 : List UInt8 := [181, 0, 18, 42, 187, 0, 9, 89, 183, 0, 11, 181, 0, 21, 42, 17, 1, 109, 188, 10, 181, 0, 24, 177]
abbrev dktX1_init_1 : List UInt8 := dkwX1_init_1 ++ []
def dkwX1_init_0 : List UInt8 := [42, 183, 0, 3, 42, 187, 0, 9, 89, 183, 0, 11, 181, 0, 12, 42, 187, 0, 9, 89, 183, 0, 11]
abbrev dktX1_init_0 : List UInt8 := dkwX1_init_0 ++ dktX1_init_1
theorem dksX1_init_0 : cX1_init.data.toList.drop 0 = dktX1_init_0 := by decide +kernel
theorem dksX1_init_1 : cX1_init.data.toList.drop 23 = dktX1_init_1 := dk_seg dksX1_init_0 23 rfl rfl
theorem dX1_init_0 : decode cX1_init 0 = .ok (.aload_n 0, 1) := dk_42 (dk_at dksX1_init_0 0 rfl rfl)
theorem dX1_init_1 : decode cX1_init 1 = .ok (.invokespecial 3, 3) := dk_183 0 3 (dk_at dksX1_init_0 1 rfl rfl)
theorem dX1_init_4 : decode cX1_init 4 = .ok (.aload_n 0, 1) := dk_42 (dk_at dksX1_init_0 4 rfl rfl)
theorem dX1_init_5 : decode cX1_init 5 = .ok (.new 9, 3) := dk_187 0 9 (dk_at dksX1_init_0 5 rfl rfl)
theorem dX1_init_8 : decode cX1_init 8 = .ok (.dup, 1) := dk_89 (dk_at dksX1_init_0 8 rfl rfl)
theorem dX1_init_9 : decode cX1_init 9 = .ok (.invokespecial 11, 3) := dk_183 0 11 (dk_at dksX1_init_0 9 rfl rfl)
theorem dX1_init_12 : decode cX1_init 12 = .ok (.putfield 12, 3) := dk_181 0 12 (dk_at dksX1_init_0 12 rfl rfl)
theorem dX1_init_15 : decode cX1_init 15 = .ok (.aload_n 0, 1) := dk_42 (dk_at dksX1_init_0 15 rfl rfl)
theorem dX1_init_16 : decode cX1_init 16 = .ok (.new 9, 3) := dk_187 0 9 (dk_at dksX1_init_0 16 rfl rfl)
theorem dX1_init_19 : decode cX1_init 19 = .ok (.dup, 1) := dk_89 (dk_at dksX1_init_0 19 rfl rfl)
theorem dX1_init_20 : decode cX1_init 20 = .ok (.invokespecial 11, 3) := dk_183 0 11 (dk_at dksX1_init_0 20 rfl rfl)
theorem dX1_init_23 : decode cX1_init 23 = .ok (.putfield 18, 3) := dk_181 0 18 (dk_at dksX1_init_1 0 rfl rfl)
theorem dX1_init_26 : decode cX1_init 26 = .ok (.aload_n 0, 1) := dk_42 (dk_at dksX1_init_1 3 rfl rfl)
theorem dX1_init_27 : decode cX1_init 27 = .ok (.new 9, 3) := dk_187 0 9 (dk_at dksX1_init_1 4 rfl rfl)
theorem dX1_init_30 : decode cX1_init 30 = .ok (.dup, 1) := dk_89 (dk_at dksX1_init_1 7 rfl rfl)
theorem dX1_init_31 : decode cX1_init 31 = .ok (.invokespecial 11, 3) := dk_183 0 11 (dk_at dksX1_init_1 8 rfl rfl)
theorem dX1_init_34 : decode cX1_init 34 = .ok (.putfield 21, 3) := dk_181 0 21 (dk_at dksX1_init_1 11 rfl rfl)
theorem dX1_init_37 : decode cX1_init 37 = .ok (.aload_n 0, 1) := dk_42 (dk_at dksX1_init_1 14 rfl rfl)
theorem dX1_init_38 : decode cX1_init 38 = .ok (.sipush 365, 3) := dk_17 1 109 (dk_at dksX1_init_1 15 rfl rfl)
theorem dX1_init_41 : decode cX1_init 41 = .ok (.newarray .int, 2) := dk_188_10 (dk_at dksX1_init_1 18 rfl rfl)
theorem dX1_init_43 : decode cX1_init 43 = .ok (.putfield 24, 3) := dk_181 0 24 (dk_at dksX1_init_1 20 rfl rfl)
theorem dX1_init_46 : decode cX1_init 46 = .ok (.return_, 1) := dk_177 (dk_at dksX1_init_1 23 rfl rfl)
abbrev cX1_today : ByteArray := prog_1_method_10_code
def yX1_today : MethodName := ⟨RX1, "today", "()I"⟩
theorem dX1_today_0 : decode cX1_today 0 = .ok (.aload_n 0, 1) := by decide +kernel
theorem dX1_today_1 : decode cX1_today 1 = .ok (.getfield 74, 3) := by decide +kernel
theorem dX1_today_4 : decode cX1_today 4 = .ok (.ireturn, 1) := by decide +kernel
abbrev cX1_changes : ByteArray := prog_1_method_17_code
def yX1_changes : MethodName := ⟨RX1, "changes", "()I"⟩
def dkwX1_changes_0 : List UInt8 := [42, 180, 0, 18, 185, 0, 37, 1, 0, 172]
abbrev dktX1_changes_0 : List UInt8 := dkwX1_changes_0 ++ []
theorem dksX1_changes_0 : cX1_changes.data.toList.drop 0 = dktX1_changes_0 := by decide +kernel
theorem dX1_changes_0 : decode cX1_changes 0 = .ok (.aload_n 0, 1) := dk_42 (dk_at dksX1_changes_0 0 rfl rfl)
theorem dX1_changes_1 : decode cX1_changes 1 = .ok (.getfield 18, 3) := dk_180 0 18 (dk_at dksX1_changes_0 1 rfl rfl)
theorem dX1_changes_4 : decode cX1_changes 4 = .ok (.invokeinterface 37 1, 5) := by decide +kernel
theorem dX1_changes_9 : decode cX1_changes 9 = .ok (.ireturn, 1) := dk_172 (dk_at dksX1_changes_0 9 rfl rfl)
abbrev cX1_open : ByteArray := prog_1_method_7_code
def yX1_open : MethodName := ⟨RX1, "open", "(I)I"⟩
def dkwX1_open_2 : List UInt8 := [87, 42, 180, 0, 12, 185, 0, 37, 1, 0, 4, 100, 172]
abbrev dktX1_open_2 : List UInt8 := dkwX1_open_2 ++ []
def dkwX1_open_1 : List UInt8 := [167, 0, 4, 3, 184, 0, 59, 42, 180, 0, 12, 187, 0, 51, 89, 27, 183, 0, 63, 185, 0, 66, 2, 0]
abbrev dktX1_open_1 : List UInt8 := dkwX1_open_1 ++ dktX1_open_2
def dkwX1_open_0 : List UInt8 := [27, 4, 17, 3, 232, 184, 0, 55, 42, 180, 0, 12, 185, 0, 37, 1, 0, 7, 162, 0, 7, 4]
abbrev dktX1_open_0 : List UInt8 := dkwX1_open_0 ++ dktX1_open_1
theorem dksX1_open_0 : cX1_open.data.toList.drop 0 = dktX1_open_0 := by decide +kernel
theorem dksX1_open_1 : cX1_open.data.toList.drop 22 = dktX1_open_1 := dk_seg dksX1_open_0 22 rfl rfl
theorem dksX1_open_2 : cX1_open.data.toList.drop 46 = dktX1_open_2 := dk_seg dksX1_open_1 24 rfl rfl
theorem dX1_open_0 : decode cX1_open 0 = .ok (.iload_n 1, 1) := dk_27 (dk_at dksX1_open_0 0 rfl rfl)
theorem dX1_open_1 : decode cX1_open 1 = .ok (.iconst 1, 1) := dk_4 (dk_at dksX1_open_0 1 rfl rfl)
theorem dX1_open_2 : decode cX1_open 2 = .ok (.sipush 1000, 3) := dk_17 3 232 (dk_at dksX1_open_0 2 rfl rfl)
theorem dX1_open_5 : decode cX1_open 5 = .ok (.invokestatic 55, 3) := dk_184 0 55 (dk_at dksX1_open_0 5 rfl rfl)
theorem dX1_open_8 : decode cX1_open 8 = .ok (.aload_n 0, 1) := dk_42 (dk_at dksX1_open_0 8 rfl rfl)
theorem dX1_open_9 : decode cX1_open 9 = .ok (.getfield 12, 3) := dk_180 0 12 (dk_at dksX1_open_0 9 rfl rfl)
theorem dX1_open_12 : decode cX1_open 12 = .ok (.invokeinterface 37 1, 5) := by decide +kernel
theorem dX1_open_17 : decode cX1_open 17 = .ok (.iconst 4, 1) := dk_7 (dk_at dksX1_open_0 17 rfl rfl)
theorem dX1_open_18 : decode cX1_open 18 = .ok (.if_icmp .ge 7, 3) := dk_162 0 7 (dk_at dksX1_open_0 18 rfl rfl)
theorem dX1_open_21 : decode cX1_open 21 = .ok (.iconst 1, 1) := dk_4 (dk_at dksX1_open_0 21 rfl rfl)
theorem dX1_open_22 : decode cX1_open 22 = .ok (.goto 4, 3) := dk_167 0 4 (dk_at dksX1_open_1 0 rfl rfl)
theorem dX1_open_25 : decode cX1_open 25 = .ok (.iconst 0, 1) := dk_3 (dk_at dksX1_open_1 3 rfl rfl)
theorem dX1_open_26 : decode cX1_open 26 = .ok (.invokestatic 59, 3) := dk_184 0 59 (dk_at dksX1_open_1 4 rfl rfl)
theorem dX1_open_29 : decode cX1_open 29 = .ok (.aload_n 0, 1) := dk_42 (dk_at dksX1_open_1 7 rfl rfl)
theorem dX1_open_30 : decode cX1_open 30 = .ok (.getfield 12, 3) := dk_180 0 12 (dk_at dksX1_open_1 8 rfl rfl)
theorem dX1_open_33 : decode cX1_open 33 = .ok (.new 51, 3) := dk_187 0 51 (dk_at dksX1_open_1 11 rfl rfl)
theorem dX1_open_36 : decode cX1_open 36 = .ok (.dup, 1) := dk_89 (dk_at dksX1_open_1 14 rfl rfl)
theorem dX1_open_37 : decode cX1_open 37 = .ok (.iload_n 1, 1) := dk_27 (dk_at dksX1_open_1 15 rfl rfl)
theorem dX1_open_38 : decode cX1_open 38 = .ok (.invokespecial 63, 3) := dk_183 0 63 (dk_at dksX1_open_1 16 rfl rfl)
theorem dX1_open_41 : decode cX1_open 41 = .ok (.invokeinterface 66 2, 5) := by decide +kernel
theorem dX1_open_46 : decode cX1_open 46 = .ok (.pop, 1) := dk_87 (dk_at dksX1_open_2 0 rfl rfl)
theorem dX1_open_47 : decode cX1_open 47 = .ok (.aload_n 0, 1) := dk_42 (dk_at dksX1_open_2 1 rfl rfl)
theorem dX1_open_48 : decode cX1_open 48 = .ok (.getfield 12, 3) := dk_180 0 12 (dk_at dksX1_open_2 2 rfl rfl)
theorem dX1_open_51 : decode cX1_open 51 = .ok (.invokeinterface 37 1, 5) := by decide +kernel
theorem dX1_open_56 : decode cX1_open 56 = .ok (.iconst 1, 1) := dk_4 (dk_at dksX1_open_2 10 rfl rfl)
theorem dX1_open_57 : decode cX1_open 57 = .ok (.isub, 1) := dk_100 (dk_at dksX1_open_2 11 rfl rfl)
theorem dX1_open_58 : decode cX1_open 58 = .ok (.ireturn, 1) := dk_172 (dk_at dksX1_open_2 12 rfl rfl)
abbrev cX1_needNumber : ByteArray := prog_1_method_3_code
def yX1_needNumber : MethodName := ⟨RX1, "needNumber", "(III)V"⟩
def dkwX1_needNumber_0 : List UInt8 := [26, 27, 161, 0, 8, 26, 28, 164, 0, 11, 187, 0, 31, 89, 183, 0, 33, 191, 177]
abbrev dktX1_needNumber_0 : List UInt8 := dkwX1_needNumber_0 ++ []
theorem dksX1_needNumber_0 : cX1_needNumber.data.toList.drop 0 = dktX1_needNumber_0 := by decide +kernel
theorem dX1_needNumber_0 : decode cX1_needNumber 0 = .ok (.iload_n 0, 1) := dk_26 (dk_at dksX1_needNumber_0 0 rfl rfl)
theorem dX1_needNumber_1 : decode cX1_needNumber 1 = .ok (.iload_n 1, 1) := dk_27 (dk_at dksX1_needNumber_0 1 rfl rfl)
theorem dX1_needNumber_2 : decode cX1_needNumber 2 = .ok (.if_icmp .lt 8, 3) := dk_161 0 8 (dk_at dksX1_needNumber_0 2 rfl rfl)
theorem dX1_needNumber_5 : decode cX1_needNumber 5 = .ok (.iload_n 0, 1) := dk_26 (dk_at dksX1_needNumber_0 5 rfl rfl)
theorem dX1_needNumber_6 : decode cX1_needNumber 6 = .ok (.iload_n 2, 1) := dk_28 (dk_at dksX1_needNumber_0 6 rfl rfl)
theorem dX1_needNumber_7 : decode cX1_needNumber 7 = .ok (.if_icmp .le 11, 3) := dk_164 0 11 (dk_at dksX1_needNumber_0 7 rfl rfl)
theorem dX1_needNumber_10 : decode cX1_needNumber 10 = .ok (.new 31, 3) := dk_187 0 31 (dk_at dksX1_needNumber_0 10 rfl rfl)
theorem dX1_needNumber_13 : decode cX1_needNumber 13 = .ok (.dup, 1) := dk_89 (dk_at dksX1_needNumber_0 13 rfl rfl)
theorem dX1_needNumber_14 : decode cX1_needNumber 14 = .ok (.invokespecial 33, 3) := dk_183 0 33 (dk_at dksX1_needNumber_0 14 rfl rfl)
theorem dX1_needNumber_17 : decode cX1_needNumber 17 = .ok (.athrow, 1) := dk_191 (dk_at dksX1_needNumber_0 17 rfl rfl)
theorem dX1_needNumber_18 : decode cX1_needNumber 18 = .ok (.return_, 1) := dk_177 (dk_at dksX1_needNumber_0 18 rfl rfl)
abbrev cX1_needState : ByteArray := prog_1_method_4_code
def yX1_needState : MethodName := ⟨RX1, "needState", "(Z)V"⟩
def dkwX1_needState_0 : List UInt8 := [26, 154, 0, 11, 187, 0, 34, 89, 183, 0, 36, 191, 177]
abbrev dktX1_needState_0 : List UInt8 := dkwX1_needState_0 ++ []
theorem dksX1_needState_0 : cX1_needState.data.toList.drop 0 = dktX1_needState_0 := by decide +kernel
theorem dX1_needState_0 : decode cX1_needState 0 = .ok (.iload_n 0, 1) := dk_26 (dk_at dksX1_needState_0 0 rfl rfl)
theorem dX1_needState_1 : decode cX1_needState 1 = .ok (.ifCond .ne 11, 3) := dk_154 0 11 (dk_at dksX1_needState_0 1 rfl rfl)
theorem dX1_needState_4 : decode cX1_needState 4 = .ok (.new 34, 3) := dk_187 0 34 (dk_at dksX1_needState_0 4 rfl rfl)
theorem dX1_needState_7 : decode cX1_needState 7 = .ok (.dup, 1) := dk_89 (dk_at dksX1_needState_0 7 rfl rfl)
theorem dX1_needState_8 : decode cX1_needState 8 = .ok (.invokespecial 36, 3) := dk_183 0 36 (dk_at dksX1_needState_0 8 rfl rfl)
theorem dX1_needState_11 : decode cX1_needState 11 = .ok (.athrow, 1) := dk_191 (dk_at dksX1_needState_0 11 rfl rfl)
theorem dX1_needState_12 : decode cX1_needState 12 = .ok (.return_, 1) := dk_177 (dk_at dksX1_needState_0 12 rfl rfl)
abbrev cX1_setWeight : ByteArray := prog_1_method_8_code
def yX1_setWeight : MethodName := ⟨RX1, "setWeight", "(III)I"⟩
def dkwX1_setWeight_3 : List UInt8 := [185, 0, 37, 1, 0, 172]
abbrev dktX1_setWeight_3 : List UInt8 := dkwX1_setWeight_3 ++ []
def dkwX1_setWeight_2 : List UInt8 := [187, 0, 70, 89, 27, 28, 29, 183, 0, 72, 185, 0, 66, 2, 0, 87, 42, 180, 0, 21]
abbrev dktX1_setWeight_2 : List UInt8 := dkwX1_setWeight_2 ++ dktX1_setWeight_3
def dkwX1_setWeight_1 : List UInt8 := [185, 0, 37, 1, 0, 16, 20, 162, 0, 7, 4, 167, 0, 4, 3, 184, 0, 59, 42, 180, 0, 21]
abbrev dktX1_setWeight_1 : List UInt8 := dkwX1_setWeight_1 ++ dktX1_setWeight_2
def dkwX1_setWeight_0 : List UInt8 := [27, 6, 184, 0, 43, 28, 3, 16, 100, 184, 0, 55, 29, 3, 17, 1, 108, 184, 0, 55, 42, 180, 0, 21]
abbrev dktX1_setWeight_0 : List UInt8 := dkwX1_setWeight_0 ++ dktX1_setWeight_1
theorem dksX1_setWeight_0 : cX1_setWeight.data.toList.drop 0 = dktX1_setWeight_0 := by decide +kernel
theorem dksX1_setWeight_1 : cX1_setWeight.data.toList.drop 24 = dktX1_setWeight_1 := dk_seg dksX1_setWeight_0 24 rfl rfl
theorem dksX1_setWeight_2 : cX1_setWeight.data.toList.drop 46 = dktX1_setWeight_2 := dk_seg dksX1_setWeight_1 22 rfl rfl
theorem dksX1_setWeight_3 : cX1_setWeight.data.toList.drop 66 = dktX1_setWeight_3 := dk_seg dksX1_setWeight_2 20 rfl rfl
theorem dX1_setWeight_0 : decode cX1_setWeight 0 = .ok (.iload_n 1, 1) := dk_27 (dk_at dksX1_setWeight_0 0 rfl rfl)
theorem dX1_setWeight_1 : decode cX1_setWeight 1 = .ok (.iconst 3, 1) := dk_6 (dk_at dksX1_setWeight_0 1 rfl rfl)
theorem dX1_setWeight_2 : decode cX1_setWeight 2 = .ok (.invokestatic 43, 3) := dk_184 0 43 (dk_at dksX1_setWeight_0 2 rfl rfl)
theorem dX1_setWeight_5 : decode cX1_setWeight 5 = .ok (.iload_n 2, 1) := dk_28 (dk_at dksX1_setWeight_0 5 rfl rfl)
theorem dX1_setWeight_6 : decode cX1_setWeight 6 = .ok (.iconst 0, 1) := dk_3 (dk_at dksX1_setWeight_0 6 rfl rfl)
theorem dX1_setWeight_7 : decode cX1_setWeight 7 = .ok (.bipush 100, 2) := dk_16 100 (dk_at dksX1_setWeight_0 7 rfl rfl)
theorem dX1_setWeight_9 : decode cX1_setWeight 9 = .ok (.invokestatic 55, 3) := dk_184 0 55 (dk_at dksX1_setWeight_0 9 rfl rfl)
theorem dX1_setWeight_12 : decode cX1_setWeight 12 = .ok (.iload_n 3, 1) := dk_29 (dk_at dksX1_setWeight_0 12 rfl rfl)
theorem dX1_setWeight_13 : decode cX1_setWeight 13 = .ok (.iconst 0, 1) := dk_3 (dk_at dksX1_setWeight_0 13 rfl rfl)
theorem dX1_setWeight_14 : decode cX1_setWeight 14 = .ok (.sipush 364, 3) := dk_17 1 108 (dk_at dksX1_setWeight_0 14 rfl rfl)
theorem dX1_setWeight_17 : decode cX1_setWeight 17 = .ok (.invokestatic 55, 3) := dk_184 0 55 (dk_at dksX1_setWeight_0 17 rfl rfl)
theorem dX1_setWeight_20 : decode cX1_setWeight 20 = .ok (.aload_n 0, 1) := dk_42 (dk_at dksX1_setWeight_0 20 rfl rfl)
theorem dX1_setWeight_21 : decode cX1_setWeight 21 = .ok (.getfield 21, 3) := dk_180 0 21 (dk_at dksX1_setWeight_0 21 rfl rfl)
theorem dX1_setWeight_24 : decode cX1_setWeight 24 = .ok (.invokeinterface 37 1, 5) := by decide +kernel
theorem dX1_setWeight_29 : decode cX1_setWeight 29 = .ok (.bipush 20, 2) := dk_16 20 (dk_at dksX1_setWeight_1 5 rfl rfl)
theorem dX1_setWeight_31 : decode cX1_setWeight 31 = .ok (.if_icmp .ge 7, 3) := dk_162 0 7 (dk_at dksX1_setWeight_1 7 rfl rfl)
theorem dX1_setWeight_34 : decode cX1_setWeight 34 = .ok (.iconst 1, 1) := dk_4 (dk_at dksX1_setWeight_1 10 rfl rfl)
theorem dX1_setWeight_35 : decode cX1_setWeight 35 = .ok (.goto 4, 3) := dk_167 0 4 (dk_at dksX1_setWeight_1 11 rfl rfl)
theorem dX1_setWeight_38 : decode cX1_setWeight 38 = .ok (.iconst 0, 1) := dk_3 (dk_at dksX1_setWeight_1 14 rfl rfl)
theorem dX1_setWeight_39 : decode cX1_setWeight 39 = .ok (.invokestatic 59, 3) := dk_184 0 59 (dk_at dksX1_setWeight_1 15 rfl rfl)
theorem dX1_setWeight_42 : decode cX1_setWeight 42 = .ok (.aload_n 0, 1) := dk_42 (dk_at dksX1_setWeight_1 18 rfl rfl)
theorem dX1_setWeight_43 : decode cX1_setWeight 43 = .ok (.getfield 21, 3) := dk_180 0 21 (dk_at dksX1_setWeight_1 19 rfl rfl)
theorem dX1_setWeight_46 : decode cX1_setWeight 46 = .ok (.new 70, 3) := dk_187 0 70 (dk_at dksX1_setWeight_2 0 rfl rfl)
theorem dX1_setWeight_49 : decode cX1_setWeight 49 = .ok (.dup, 1) := dk_89 (dk_at dksX1_setWeight_2 3 rfl rfl)
theorem dX1_setWeight_50 : decode cX1_setWeight 50 = .ok (.iload_n 1, 1) := dk_27 (dk_at dksX1_setWeight_2 4 rfl rfl)
theorem dX1_setWeight_51 : decode cX1_setWeight 51 = .ok (.iload_n 2, 1) := dk_28 (dk_at dksX1_setWeight_2 5 rfl rfl)
theorem dX1_setWeight_52 : decode cX1_setWeight 52 = .ok (.iload_n 3, 1) := dk_29 (dk_at dksX1_setWeight_2 6 rfl rfl)
theorem dX1_setWeight_53 : decode cX1_setWeight 53 = .ok (.invokespecial 72, 3) := dk_183 0 72 (dk_at dksX1_setWeight_2 7 rfl rfl)
theorem dX1_setWeight_56 : decode cX1_setWeight 56 = .ok (.invokeinterface 66 2, 5) := by decide +kernel
theorem dX1_setWeight_61 : decode cX1_setWeight 61 = .ok (.pop, 1) := dk_87 (dk_at dksX1_setWeight_2 15 rfl rfl)
theorem dX1_setWeight_62 : decode cX1_setWeight 62 = .ok (.aload_n 0, 1) := dk_42 (dk_at dksX1_setWeight_2 16 rfl rfl)
theorem dX1_setWeight_63 : decode cX1_setWeight 63 = .ok (.getfield 21, 3) := dk_180 0 21 (dk_at dksX1_setWeight_2 17 rfl rfl)
theorem dX1_setWeight_66 : decode cX1_setWeight 66 = .ok (.invokeinterface 37 1, 5) := by decide +kernel
theorem dX1_setWeight_71 : decode cX1_setWeight 71 = .ok (.ireturn, 1) := dk_172 (dk_at dksX1_setWeight_3 5 rfl rfl)
abbrev cX1_needPlace : ByteArray := prog_1_method_2_code
def yX1_needPlace : MethodName := ⟨RX1, "needPlace", "(II)V"⟩
def dkwX1_needPlace_0 : List UInt8 := [26, 155, 0, 8, 26, 27, 161, 0, 11, 187, 0, 28, 89, 183, 0, 30, 191, 177]
abbrev dktX1_needPlace_0 : List UInt8 := dkwX1_needPlace_0 ++ []
theorem dksX1_needPlace_0 : cX1_needPlace.data.toList.drop 0 = dktX1_needPlace_0 := by decide +kernel
theorem dX1_needPlace_0 : decode cX1_needPlace 0 = .ok (.iload_n 0, 1) := dk_26 (dk_at dksX1_needPlace_0 0 rfl rfl)
theorem dX1_needPlace_1 : decode cX1_needPlace 1 = .ok (.ifCond .lt 8, 3) := dk_155 0 8 (dk_at dksX1_needPlace_0 1 rfl rfl)
theorem dX1_needPlace_4 : decode cX1_needPlace 4 = .ok (.iload_n 0, 1) := dk_26 (dk_at dksX1_needPlace_0 4 rfl rfl)
theorem dX1_needPlace_5 : decode cX1_needPlace 5 = .ok (.iload_n 1, 1) := dk_27 (dk_at dksX1_needPlace_0 5 rfl rfl)
theorem dX1_needPlace_6 : decode cX1_needPlace 6 = .ok (.if_icmp .lt 11, 3) := dk_161 0 11 (dk_at dksX1_needPlace_0 6 rfl rfl)
theorem dX1_needPlace_9 : decode cX1_needPlace 9 = .ok (.new 28, 3) := dk_187 0 28 (dk_at dksX1_needPlace_0 9 rfl rfl)
theorem dX1_needPlace_12 : decode cX1_needPlace 12 = .ok (.dup, 1) := dk_89 (dk_at dksX1_needPlace_0 12 rfl rfl)
theorem dX1_needPlace_13 : decode cX1_needPlace 13 = .ok (.invokespecial 30, 3) := dk_183 0 30 (dk_at dksX1_needPlace_0 13 rfl rfl)
theorem dX1_needPlace_16 : decode cX1_needPlace 16 = .ok (.athrow, 1) := dk_191 (dk_at dksX1_needPlace_0 16 rfl rfl)
theorem dX1_needPlace_17 : decode cX1_needPlace 17 = .ok (.return_, 1) := dk_177 (dk_at dksX1_needPlace_0 17 rfl rfl)
abbrev cX1_pass : ByteArray := prog_1_method_9_code
def yX1_pass : MethodName := ⟨RX1, "pass", "(I)I"⟩
def dkwX1_pass_0 : List UInt8 := [27, 4, 16, 100, 184, 0, 55, 42, 89, 180, 0, 74, 27, 96, 181, 0, 74, 42, 180, 0, 74, 172]
abbrev dktX1_pass_0 : List UInt8 := dkwX1_pass_0 ++ []
theorem dksX1_pass_0 : cX1_pass.data.toList.drop 0 = dktX1_pass_0 := by decide +kernel
theorem dX1_pass_0 : decode cX1_pass 0 = .ok (.iload_n 1, 1) := dk_27 (dk_at dksX1_pass_0 0 rfl rfl)
theorem dX1_pass_1 : decode cX1_pass 1 = .ok (.iconst 1, 1) := dk_4 (dk_at dksX1_pass_0 1 rfl rfl)
theorem dX1_pass_2 : decode cX1_pass 2 = .ok (.bipush 100, 2) := dk_16 100 (dk_at dksX1_pass_0 2 rfl rfl)
theorem dX1_pass_4 : decode cX1_pass 4 = .ok (.invokestatic 55, 3) := dk_184 0 55 (dk_at dksX1_pass_0 4 rfl rfl)
theorem dX1_pass_7 : decode cX1_pass 7 = .ok (.aload_n 0, 1) := dk_42 (dk_at dksX1_pass_0 7 rfl rfl)
theorem dX1_pass_8 : decode cX1_pass 8 = .ok (.dup, 1) := dk_89 (dk_at dksX1_pass_0 8 rfl rfl)
theorem dX1_pass_9 : decode cX1_pass 9 = .ok (.getfield 74, 3) := dk_180 0 74 (dk_at dksX1_pass_0 9 rfl rfl)
theorem dX1_pass_12 : decode cX1_pass 12 = .ok (.iload_n 1, 1) := dk_27 (dk_at dksX1_pass_0 12 rfl rfl)
theorem dX1_pass_13 : decode cX1_pass 13 = .ok (.iadd, 1) := dk_96 (dk_at dksX1_pass_0 13 rfl rfl)
theorem dX1_pass_14 : decode cX1_pass 14 = .ok (.putfield 74, 3) := dk_181 0 74 (dk_at dksX1_pass_0 14 rfl rfl)
theorem dX1_pass_17 : decode cX1_pass 17 = .ok (.aload_n 0, 1) := dk_42 (dk_at dksX1_pass_0 17 rfl rfl)
theorem dX1_pass_18 : decode cX1_pass 18 = .ok (.getfield 74, 3) := dk_180 0 74 (dk_at dksX1_pass_0 18 rfl rfl)
theorem dX1_pass_21 : decode cX1_pass 21 = .ok (.ireturn, 1) := dk_172 (dk_at dksX1_pass_0 21 rfl rfl)
abbrev cX1_change : ByteArray := prog_1_method_12_code
def yX1_change : MethodName := ⟨RX1, "change", "(IIII)I"⟩
def dkwX1_change_1 : List UInt8 := [28, 21, 4, 186, 0, 101, 0, 0, 182, 0, 105, 172]
abbrev dktX1_change_1 : List UInt8 := dkwX1_change_1 ++ []
def dkwX1_change_0 : List UInt8 := [42, 27, 182, 0, 97, 58, 5, 28, 6, 184, 0, 43, 21, 4, 3, 16, 20, 184, 0, 55, 42, 25, 5, 29]
abbrev dktX1_change_0 : List UInt8 := dkwX1_change_0 ++ dktX1_change_1
theorem dksX1_change_0 : cX1_change.data.toList.drop 0 = dktX1_change_0 := by decide +kernel
theorem dksX1_change_1 : cX1_change.data.toList.drop 24 = dktX1_change_1 := dk_seg dksX1_change_0 24 rfl rfl
theorem dX1_change_0 : decode cX1_change 0 = .ok (.aload_n 0, 1) := dk_42 (dk_at dksX1_change_0 0 rfl rfl)
theorem dX1_change_1 : decode cX1_change 1 = .ok (.iload_n 1, 1) := dk_27 (dk_at dksX1_change_0 1 rfl rfl)
theorem dX1_change_2 : decode cX1_change 2 = .ok (.invokevirtual 97, 3) := dk_182 0 97 (dk_at dksX1_change_0 2 rfl rfl)
theorem dX1_change_5 : decode cX1_change 5 = .ok (.astore 5, 2) := dk_58 5 (dk_at dksX1_change_0 5 rfl rfl)
theorem dX1_change_7 : decode cX1_change 7 = .ok (.iload_n 2, 1) := dk_28 (dk_at dksX1_change_0 7 rfl rfl)
theorem dX1_change_8 : decode cX1_change 8 = .ok (.iconst 3, 1) := dk_6 (dk_at dksX1_change_0 8 rfl rfl)
theorem dX1_change_9 : decode cX1_change 9 = .ok (.invokestatic 43, 3) := dk_184 0 43 (dk_at dksX1_change_0 9 rfl rfl)
theorem dX1_change_12 : decode cX1_change 12 = .ok (.iload 4, 2) := dk_21 4 (dk_at dksX1_change_0 12 rfl rfl)
theorem dX1_change_14 : decode cX1_change 14 = .ok (.iconst 0, 1) := dk_3 (dk_at dksX1_change_0 14 rfl rfl)
theorem dX1_change_15 : decode cX1_change 15 = .ok (.bipush 20, 2) := dk_16 20 (dk_at dksX1_change_0 15 rfl rfl)
theorem dX1_change_17 : decode cX1_change 17 = .ok (.invokestatic 55, 3) := dk_184 0 55 (dk_at dksX1_change_0 17 rfl rfl)
theorem dX1_change_20 : decode cX1_change 20 = .ok (.aload_n 0, 1) := dk_42 (dk_at dksX1_change_0 20 rfl rfl)
theorem dX1_change_21 : decode cX1_change 21 = .ok (.aload 5, 2) := dk_25 5 (dk_at dksX1_change_0 21 rfl rfl)
theorem dX1_change_23 : decode cX1_change 23 = .ok (.iload_n 3, 1) := dk_29 (dk_at dksX1_change_0 23 rfl rfl)
theorem dX1_change_24 : decode cX1_change 24 = .ok (.iload_n 2, 1) := dk_28 (dk_at dksX1_change_1 0 rfl rfl)
theorem dX1_change_25 : decode cX1_change 25 = .ok (.iload 4, 2) := dk_21 4 (dk_at dksX1_change_1 1 rfl rfl)
theorem dX1_change_27 : decode cX1_change 27 = .ok (.invokedynamic 101, 5) := by decide +kernel
theorem dX1_change_32 : decode cX1_change 32 = .ok (.invokevirtual 105, 3) := dk_182 0 105 (dk_at dksX1_change_1 8 rfl rfl)
theorem dX1_change_35 : decode cX1_change 35 = .ok (.ireturn, 1) := dk_172 (dk_at dksX1_change_1 11 rfl rfl)
abbrev cX1_policyAt : ByteArray := prog_1_method_5_code
def yX1_policyAt : MethodName := ⟨RX1, "policyAt", "(I)LBackdater$Policy;"⟩
def dkwX1_policyAt_1 : List UInt8 := [192, 0, 51, 176]
abbrev dktX1_policyAt_1 : List UInt8 := dkwX1_policyAt_1 ++ []
def dkwX1_policyAt_0 : List UInt8 := [27, 42, 180, 0, 12, 185, 0, 37, 1, 0, 184, 0, 43, 42, 180, 0, 12, 27, 185, 0, 47, 2, 0]
abbrev dktX1_policyAt_0 : List UInt8 := dkwX1_policyAt_0 ++ dktX1_policyAt_1
theorem dksX1_policyAt_0 : cX1_policyAt.data.toList.drop 0 = dktX1_policyAt_0 := by decide +kernel
theorem dksX1_policyAt_1 : cX1_policyAt.data.toList.drop 23 = dktX1_policyAt_1 := dk_seg dksX1_policyAt_0 23 rfl rfl
theorem dX1_policyAt_0 : decode cX1_policyAt 0 = .ok (.iload_n 1, 1) := dk_27 (dk_at dksX1_policyAt_0 0 rfl rfl)
theorem dX1_policyAt_1 : decode cX1_policyAt 1 = .ok (.aload_n 0, 1) := dk_42 (dk_at dksX1_policyAt_0 1 rfl rfl)
theorem dX1_policyAt_2 : decode cX1_policyAt 2 = .ok (.getfield 12, 3) := dk_180 0 12 (dk_at dksX1_policyAt_0 2 rfl rfl)
theorem dX1_policyAt_5 : decode cX1_policyAt 5 = .ok (.invokeinterface 37 1, 5) := by decide +kernel
theorem dX1_policyAt_10 : decode cX1_policyAt 10 = .ok (.invokestatic 43, 3) := dk_184 0 43 (dk_at dksX1_policyAt_0 10 rfl rfl)
theorem dX1_policyAt_13 : decode cX1_policyAt 13 = .ok (.aload_n 0, 1) := dk_42 (dk_at dksX1_policyAt_0 13 rfl rfl)
theorem dX1_policyAt_14 : decode cX1_policyAt 14 = .ok (.getfield 12, 3) := dk_180 0 12 (dk_at dksX1_policyAt_0 14 rfl rfl)
theorem dX1_policyAt_17 : decode cX1_policyAt 17 = .ok (.iload_n 1, 1) := dk_27 (dk_at dksX1_policyAt_0 17 rfl rfl)
theorem dX1_policyAt_18 : decode cX1_policyAt 18 = .ok (.invokeinterface 47 2, 5) := by decide +kernel
theorem dX1_policyAt_23 : decode cX1_policyAt 23 = .ok (.checkcast 51, 3) := dk_192 0 51 (dk_at dksX1_policyAt_1 0 rfl rfl)
theorem dX1_policyAt_26 : decode cX1_policyAt 26 = .ok (.areturn, 1) := dk_176 (dk_at dksX1_policyAt_1 3 rfl rfl)
abbrev cX1_lambda_change_0 : ByteArray := prog_1_method_43_code
def yX1_lambda_change_0 : MethodName := ⟨RX1, "lambda$change$0", "(IILBackdater$Version;)V"⟩
def dkwX1_lambda_change_0_0 : List UInt8 := [44, 180, 0, 189, 26, 27, 79, 177]
abbrev dktX1_lambda_change_0_0 : List UInt8 := dkwX1_lambda_change_0_0 ++ []
theorem dksX1_lambda_change_0_0 : cX1_lambda_change_0.data.toList.drop 0 = dktX1_lambda_change_0_0 := by decide +kernel
theorem dX1_lambda_change_0_0 : decode cX1_lambda_change_0 0 = .ok (.aload_n 2, 1) := dk_44 (dk_at dksX1_lambda_change_0_0 0 rfl rfl)
theorem dX1_lambda_change_0_1 : decode cX1_lambda_change_0 1 = .ok (.getfield 189, 3) := dk_180 0 189 (dk_at dksX1_lambda_change_0_0 1 rfl rfl)
theorem dX1_lambda_change_0_4 : decode cX1_lambda_change_0 4 = .ok (.iload_n 0, 1) := dk_26 (dk_at dksX1_lambda_change_0_0 4 rfl rfl)
theorem dX1_lambda_change_0_5 : decode cX1_lambda_change_0 5 = .ok (.iload_n 1, 1) := dk_27 (dk_at dksX1_lambda_change_0_0 5 rfl rfl)
theorem dX1_lambda_change_0_6 : decode cX1_lambda_change_0 6 = .ok (.iastore, 1) := dk_79 (dk_at dksX1_lambda_change_0_0 6 rfl rfl)
theorem dX1_lambda_change_0_7 : decode cX1_lambda_change_0 7 = .ok (.return_, 1) := dk_177 (dk_at dksX1_lambda_change_0_0 7 rfl rfl)
abbrev cX1_tell : ByteArray := prog_1_method_11_code
def yX1_tell : MethodName := ⟨RX1, "tell", "(LBackdater$Policy;ILBackdater$Effect;)I"⟩
def dkwX1_tell_4 : List UInt8 := [180, 0, 84, 172]
abbrev dktX1_tell_4 : List UInt8 := dkwX1_tell_4 ++ []
def dkwX1_tell_3 : List UInt8 := [180, 0, 81, 16, 100, 28, 104, 25, 4, 180, 0, 84, 96, 184, 0, 87, 25, 4, 182, 0, 91, 87, 25, 4]
abbrev dktX1_tell_3 : List UInt8 := dkwX1_tell_3 ++ dktX1_tell_4
def dkwX1_tell_2 : List UInt8 := [180, 0, 74, 45, 183, 0, 78, 58, 4, 42, 180, 0, 18, 25, 4, 185, 0, 66, 2, 0, 87, 43]
abbrev dktX1_tell_2 : List UInt8 := dkwX1_tell_2 ++ dktX1_tell_3
def dkwX1_tell_1 : List UInt8 := [167, 0, 4, 3, 184, 0, 59, 187, 0, 53, 89, 42, 180, 0, 18, 185, 0, 37, 1, 0, 43, 28, 42]
abbrev dktX1_tell_1 : List UInt8 := dkwX1_tell_1 ++ dktX1_tell_2
def dkwX1_tell_0 : List UInt8 := [28, 3, 17, 1, 108, 184, 0, 55, 42, 180, 0, 18, 185, 0, 37, 1, 0, 16, 60, 162, 0, 7, 4]
abbrev dktX1_tell_0 : List UInt8 := dkwX1_tell_0 ++ dktX1_tell_1
theorem dksX1_tell_0 : cX1_tell.data.toList.drop 0 = dktX1_tell_0 := by decide +kernel
theorem dksX1_tell_1 : cX1_tell.data.toList.drop 23 = dktX1_tell_1 := dk_seg dksX1_tell_0 23 rfl rfl
theorem dksX1_tell_2 : cX1_tell.data.toList.drop 46 = dktX1_tell_2 := dk_seg dksX1_tell_1 23 rfl rfl
theorem dksX1_tell_3 : cX1_tell.data.toList.drop 68 = dktX1_tell_3 := dk_seg dksX1_tell_2 22 rfl rfl
theorem dksX1_tell_4 : cX1_tell.data.toList.drop 92 = dktX1_tell_4 := dk_seg dksX1_tell_3 24 rfl rfl
theorem dX1_tell_0 : decode cX1_tell 0 = .ok (.iload_n 2, 1) := dk_28 (dk_at dksX1_tell_0 0 rfl rfl)
theorem dX1_tell_1 : decode cX1_tell 1 = .ok (.iconst 0, 1) := dk_3 (dk_at dksX1_tell_0 1 rfl rfl)
theorem dX1_tell_2 : decode cX1_tell 2 = .ok (.sipush 364, 3) := dk_17 1 108 (dk_at dksX1_tell_0 2 rfl rfl)
theorem dX1_tell_5 : decode cX1_tell 5 = .ok (.invokestatic 55, 3) := dk_184 0 55 (dk_at dksX1_tell_0 5 rfl rfl)
theorem dX1_tell_8 : decode cX1_tell 8 = .ok (.aload_n 0, 1) := dk_42 (dk_at dksX1_tell_0 8 rfl rfl)
theorem dX1_tell_9 : decode cX1_tell 9 = .ok (.getfield 18, 3) := dk_180 0 18 (dk_at dksX1_tell_0 9 rfl rfl)
theorem dX1_tell_12 : decode cX1_tell 12 = .ok (.invokeinterface 37 1, 5) := by decide +kernel
theorem dX1_tell_17 : decode cX1_tell 17 = .ok (.bipush 60, 2) := dk_16 60 (dk_at dksX1_tell_0 17 rfl rfl)
theorem dX1_tell_19 : decode cX1_tell 19 = .ok (.if_icmp .ge 7, 3) := dk_162 0 7 (dk_at dksX1_tell_0 19 rfl rfl)
theorem dX1_tell_22 : decode cX1_tell 22 = .ok (.iconst 1, 1) := dk_4 (dk_at dksX1_tell_0 22 rfl rfl)
theorem dX1_tell_23 : decode cX1_tell 23 = .ok (.goto 4, 3) := dk_167 0 4 (dk_at dksX1_tell_1 0 rfl rfl)
theorem dX1_tell_26 : decode cX1_tell 26 = .ok (.iconst 0, 1) := dk_3 (dk_at dksX1_tell_1 3 rfl rfl)
theorem dX1_tell_27 : decode cX1_tell 27 = .ok (.invokestatic 59, 3) := dk_184 0 59 (dk_at dksX1_tell_1 4 rfl rfl)
theorem dX1_tell_30 : decode cX1_tell 30 = .ok (.new 53, 3) := dk_187 0 53 (dk_at dksX1_tell_1 7 rfl rfl)
theorem dX1_tell_33 : decode cX1_tell 33 = .ok (.dup, 1) := dk_89 (dk_at dksX1_tell_1 10 rfl rfl)
theorem dX1_tell_34 : decode cX1_tell 34 = .ok (.aload_n 0, 1) := dk_42 (dk_at dksX1_tell_1 11 rfl rfl)
theorem dX1_tell_35 : decode cX1_tell 35 = .ok (.getfield 18, 3) := dk_180 0 18 (dk_at dksX1_tell_1 12 rfl rfl)
theorem dX1_tell_38 : decode cX1_tell 38 = .ok (.invokeinterface 37 1, 5) := by decide +kernel
theorem dX1_tell_43 : decode cX1_tell 43 = .ok (.aload_n 1, 1) := dk_43 (dk_at dksX1_tell_1 20 rfl rfl)
theorem dX1_tell_44 : decode cX1_tell 44 = .ok (.iload_n 2, 1) := dk_28 (dk_at dksX1_tell_1 21 rfl rfl)
theorem dX1_tell_45 : decode cX1_tell 45 = .ok (.aload_n 0, 1) := dk_42 (dk_at dksX1_tell_1 22 rfl rfl)
theorem dX1_tell_46 : decode cX1_tell 46 = .ok (.getfield 74, 3) := dk_180 0 74 (dk_at dksX1_tell_2 0 rfl rfl)
theorem dX1_tell_49 : decode cX1_tell 49 = .ok (.aload_n 3, 1) := dk_45 (dk_at dksX1_tell_2 3 rfl rfl)
theorem dX1_tell_50 : decode cX1_tell 50 = .ok (.invokespecial 78, 3) := dk_183 0 78 (dk_at dksX1_tell_2 4 rfl rfl)
theorem dX1_tell_53 : decode cX1_tell 53 = .ok (.astore 4, 2) := dk_58 4 (dk_at dksX1_tell_2 7 rfl rfl)
theorem dX1_tell_55 : decode cX1_tell 55 = .ok (.aload_n 0, 1) := dk_42 (dk_at dksX1_tell_2 9 rfl rfl)
theorem dX1_tell_56 : decode cX1_tell 56 = .ok (.getfield 18, 3) := dk_180 0 18 (dk_at dksX1_tell_2 10 rfl rfl)
theorem dX1_tell_59 : decode cX1_tell 59 = .ok (.aload 4, 2) := dk_25 4 (dk_at dksX1_tell_2 13 rfl rfl)
theorem dX1_tell_61 : decode cX1_tell 61 = .ok (.invokeinterface 66 2, 5) := by decide +kernel
theorem dX1_tell_66 : decode cX1_tell 66 = .ok (.pop, 1) := dk_87 (dk_at dksX1_tell_2 20 rfl rfl)
theorem dX1_tell_67 : decode cX1_tell 67 = .ok (.aload_n 1, 1) := dk_43 (dk_at dksX1_tell_2 21 rfl rfl)
theorem dX1_tell_68 : decode cX1_tell 68 = .ok (.getfield 81, 3) := dk_180 0 81 (dk_at dksX1_tell_3 0 rfl rfl)
theorem dX1_tell_71 : decode cX1_tell 71 = .ok (.bipush 100, 2) := dk_16 100 (dk_at dksX1_tell_3 3 rfl rfl)
theorem dX1_tell_73 : decode cX1_tell 73 = .ok (.iload_n 2, 1) := dk_28 (dk_at dksX1_tell_3 5 rfl rfl)
theorem dX1_tell_74 : decode cX1_tell 74 = .ok (.imul, 1) := dk_104 (dk_at dksX1_tell_3 6 rfl rfl)
theorem dX1_tell_75 : decode cX1_tell 75 = .ok (.aload 4, 2) := dk_25 4 (dk_at dksX1_tell_3 7 rfl rfl)
theorem dX1_tell_77 : decode cX1_tell 77 = .ok (.getfield 84, 3) := dk_180 0 84 (dk_at dksX1_tell_3 9 rfl rfl)
theorem dX1_tell_80 : decode cX1_tell 80 = .ok (.iadd, 1) := dk_96 (dk_at dksX1_tell_3 12 rfl rfl)
theorem dX1_tell_81 : decode cX1_tell 81 = .ok (.invokestatic 87, 3) := dk_184 0 87 (dk_at dksX1_tell_3 13 rfl rfl)
theorem dX1_tell_84 : decode cX1_tell 84 = .ok (.aload 4, 2) := dk_25 4 (dk_at dksX1_tell_3 16 rfl rfl)
theorem dX1_tell_86 : decode cX1_tell 86 = .ok (.invokevirtual 91, 3) := dk_182 0 91 (dk_at dksX1_tell_3 18 rfl rfl)
theorem dX1_tell_89 : decode cX1_tell 89 = .ok (.pop, 1) := dk_87 (dk_at dksX1_tell_3 21 rfl rfl)
theorem dX1_tell_90 : decode cX1_tell 90 = .ok (.aload 4, 2) := dk_25 4 (dk_at dksX1_tell_3 22 rfl rfl)
theorem dX1_tell_92 : decode cX1_tell 92 = .ok (.getfield 84, 3) := dk_180 0 84 (dk_at dksX1_tell_4 0 rfl rfl)
theorem dX1_tell_95 : decode cX1_tell 95 = .ok (.ireturn, 1) := dk_172 (dk_at dksX1_tell_4 3 rfl rfl)
abbrev cX1_add : ByteArray := prog_1_method_13_code
def yX1_add : MethodName := ⟨RX1, "add", "(IIII)I"⟩
def dkwX1_add_1 : List UInt8 := [29, 28, 21, 4, 186, 0, 109, 0, 0, 182, 0, 105, 172]
abbrev dktX1_add_1 : List UInt8 := dkwX1_add_1 ++ []
def dkwX1_add_0 : List UInt8 := [42, 27, 182, 0, 97, 58, 5, 28, 6, 184, 0, 43, 21, 4, 16, 236, 16, 20, 184, 0, 55, 42, 25, 5]
abbrev dktX1_add_0 : List UInt8 := dkwX1_add_0 ++ dktX1_add_1
theorem dksX1_add_0 : cX1_add.data.toList.drop 0 = dktX1_add_0 := by decide +kernel
theorem dksX1_add_1 : cX1_add.data.toList.drop 24 = dktX1_add_1 := dk_seg dksX1_add_0 24 rfl rfl
theorem dX1_add_0 : decode cX1_add 0 = .ok (.aload_n 0, 1) := dk_42 (dk_at dksX1_add_0 0 rfl rfl)
theorem dX1_add_1 : decode cX1_add 1 = .ok (.iload_n 1, 1) := dk_27 (dk_at dksX1_add_0 1 rfl rfl)
theorem dX1_add_2 : decode cX1_add 2 = .ok (.invokevirtual 97, 3) := dk_182 0 97 (dk_at dksX1_add_0 2 rfl rfl)
theorem dX1_add_5 : decode cX1_add 5 = .ok (.astore 5, 2) := dk_58 5 (dk_at dksX1_add_0 5 rfl rfl)
theorem dX1_add_7 : decode cX1_add 7 = .ok (.iload_n 2, 1) := dk_28 (dk_at dksX1_add_0 7 rfl rfl)
theorem dX1_add_8 : decode cX1_add 8 = .ok (.iconst 3, 1) := dk_6 (dk_at dksX1_add_0 8 rfl rfl)
theorem dX1_add_9 : decode cX1_add 9 = .ok (.invokestatic 43, 3) := dk_184 0 43 (dk_at dksX1_add_0 9 rfl rfl)
theorem dX1_add_12 : decode cX1_add 12 = .ok (.iload 4, 2) := dk_21 4 (dk_at dksX1_add_0 12 rfl rfl)
theorem dX1_add_14 : decode cX1_add 14 = .ok (.bipush (-20), 2) := dk_16 236 (dk_at dksX1_add_0 14 rfl rfl)
theorem dX1_add_16 : decode cX1_add 16 = .ok (.bipush 20, 2) := dk_16 20 (dk_at dksX1_add_0 16 rfl rfl)
theorem dX1_add_18 : decode cX1_add 18 = .ok (.invokestatic 55, 3) := dk_184 0 55 (dk_at dksX1_add_0 18 rfl rfl)
theorem dX1_add_21 : decode cX1_add 21 = .ok (.aload_n 0, 1) := dk_42 (dk_at dksX1_add_0 21 rfl rfl)
theorem dX1_add_22 : decode cX1_add 22 = .ok (.aload 5, 2) := dk_25 5 (dk_at dksX1_add_0 22 rfl rfl)
theorem dX1_add_24 : decode cX1_add 24 = .ok (.iload_n 3, 1) := dk_29 (dk_at dksX1_add_1 0 rfl rfl)
theorem dX1_add_25 : decode cX1_add 25 = .ok (.iload_n 2, 1) := dk_28 (dk_at dksX1_add_1 1 rfl rfl)
theorem dX1_add_26 : decode cX1_add 26 = .ok (.iload 4, 2) := dk_21 4 (dk_at dksX1_add_1 2 rfl rfl)
theorem dX1_add_28 : decode cX1_add 28 = .ok (.invokedynamic 109, 5) := by decide +kernel
theorem dX1_add_33 : decode cX1_add 33 = .ok (.invokevirtual 105, 3) := dk_182 0 105 (dk_at dksX1_add_1 9 rfl rfl)
theorem dX1_add_36 : decode cX1_add 36 = .ok (.ireturn, 1) := dk_172 (dk_at dksX1_add_1 12 rfl rfl)
abbrev cX1_lambda_add_1 : ByteArray := prog_1_method_42_code
def yX1_lambda_add_1 : MethodName := ⟨RX1, "lambda$add$1", "(IILBackdater$Version;)V"⟩
def dkwX1_lambda_add_1_0 : List UInt8 := [44, 180, 0, 189, 26, 3, 16, 20, 44, 180, 0, 189, 26, 46, 27, 96, 184, 0, 240, 184, 0, 245, 79, 177]
abbrev dktX1_lambda_add_1_0 : List UInt8 := dkwX1_lambda_add_1_0 ++ []
theorem dksX1_lambda_add_1_0 : cX1_lambda_add_1.data.toList.drop 0 = dktX1_lambda_add_1_0 := by decide +kernel
theorem dX1_lambda_add_1_0 : decode cX1_lambda_add_1 0 = .ok (.aload_n 2, 1) := dk_44 (dk_at dksX1_lambda_add_1_0 0 rfl rfl)
theorem dX1_lambda_add_1_1 : decode cX1_lambda_add_1 1 = .ok (.getfield 189, 3) := dk_180 0 189 (dk_at dksX1_lambda_add_1_0 1 rfl rfl)
theorem dX1_lambda_add_1_4 : decode cX1_lambda_add_1 4 = .ok (.iload_n 0, 1) := dk_26 (dk_at dksX1_lambda_add_1_0 4 rfl rfl)
theorem dX1_lambda_add_1_5 : decode cX1_lambda_add_1 5 = .ok (.iconst 0, 1) := dk_3 (dk_at dksX1_lambda_add_1_0 5 rfl rfl)
theorem dX1_lambda_add_1_6 : decode cX1_lambda_add_1 6 = .ok (.bipush 20, 2) := dk_16 20 (dk_at dksX1_lambda_add_1_0 6 rfl rfl)
theorem dX1_lambda_add_1_8 : decode cX1_lambda_add_1 8 = .ok (.aload_n 2, 1) := dk_44 (dk_at dksX1_lambda_add_1_0 8 rfl rfl)
theorem dX1_lambda_add_1_9 : decode cX1_lambda_add_1 9 = .ok (.getfield 189, 3) := dk_180 0 189 (dk_at dksX1_lambda_add_1_0 9 rfl rfl)
theorem dX1_lambda_add_1_12 : decode cX1_lambda_add_1 12 = .ok (.iload_n 0, 1) := dk_26 (dk_at dksX1_lambda_add_1_0 12 rfl rfl)
theorem dX1_lambda_add_1_13 : decode cX1_lambda_add_1 13 = .ok (.iaload, 1) := dk_46 (dk_at dksX1_lambda_add_1_0 13 rfl rfl)
theorem dX1_lambda_add_1_14 : decode cX1_lambda_add_1 14 = .ok (.iload_n 1, 1) := dk_27 (dk_at dksX1_lambda_add_1_0 14 rfl rfl)
theorem dX1_lambda_add_1_15 : decode cX1_lambda_add_1 15 = .ok (.iadd, 1) := dk_96 (dk_at dksX1_lambda_add_1_0 15 rfl rfl)
theorem dX1_lambda_add_1_16 : decode cX1_lambda_add_1 16 = .ok (.invokestatic 240, 3) := dk_184 0 240 (dk_at dksX1_lambda_add_1_0 16 rfl rfl)
theorem dX1_lambda_add_1_19 : decode cX1_lambda_add_1 19 = .ok (.invokestatic 245, 3) := dk_184 0 245 (dk_at dksX1_lambda_add_1_0 19 rfl rfl)
theorem dX1_lambda_add_1_22 : decode cX1_lambda_add_1 22 = .ok (.iastore, 1) := dk_79 (dk_at dksX1_lambda_add_1_0 22 rfl rfl)
theorem dX1_lambda_add_1_23 : decode cX1_lambda_add_1 23 = .ok (.return_, 1) := dk_177 (dk_at dksX1_lambda_add_1_0 23 rfl rfl)
abbrev cX1_cancel : ByteArray := prog_1_method_14_code
def yX1_cancel : MethodName := ⟨RX1, "cancel", "(II)I"⟩
def dkwX1_cancel_0 : List UInt8 := [42, 42, 27, 182, 0, 97, 28, 186, 0, 110, 0, 0, 182, 0, 105, 172]
abbrev dktX1_cancel_0 : List UInt8 := dkwX1_cancel_0 ++ []
theorem dksX1_cancel_0 : cX1_cancel.data.toList.drop 0 = dktX1_cancel_0 := by decide +kernel
theorem dX1_cancel_0 : decode cX1_cancel 0 = .ok (.aload_n 0, 1) := dk_42 (dk_at dksX1_cancel_0 0 rfl rfl)
theorem dX1_cancel_1 : decode cX1_cancel 1 = .ok (.aload_n 0, 1) := dk_42 (dk_at dksX1_cancel_0 1 rfl rfl)
theorem dX1_cancel_2 : decode cX1_cancel 2 = .ok (.iload_n 1, 1) := dk_27 (dk_at dksX1_cancel_0 2 rfl rfl)
theorem dX1_cancel_3 : decode cX1_cancel 3 = .ok (.invokevirtual 97, 3) := dk_182 0 97 (dk_at dksX1_cancel_0 3 rfl rfl)
theorem dX1_cancel_6 : decode cX1_cancel 6 = .ok (.iload_n 2, 1) := dk_28 (dk_at dksX1_cancel_0 6 rfl rfl)
theorem dX1_cancel_7 : decode cX1_cancel 7 = .ok (.invokedynamic 110, 5) := by decide +kernel
theorem dX1_cancel_12 : decode cX1_cancel 12 = .ok (.invokevirtual 105, 3) := dk_182 0 105 (dk_at dksX1_cancel_0 12 rfl rfl)
theorem dX1_cancel_15 : decode cX1_cancel 15 = .ok (.ireturn, 1) := dk_172 (dk_at dksX1_cancel_0 15 rfl rfl)
abbrev cX1_lambda_cancel_2 : ByteArray := prog_1_method_41_code
def yX1_lambda_cancel_2 : MethodName := ⟨RX1, "lambda$cancel$2", "(LBackdater$Version;)V"⟩
def dkwX1_lambda_cancel_2_0 : List UInt8 := [42, 3, 181, 0, 182, 177]
abbrev dktX1_lambda_cancel_2_0 : List UInt8 := dkwX1_lambda_cancel_2_0 ++ []
theorem dksX1_lambda_cancel_2_0 : cX1_lambda_cancel_2.data.toList.drop 0 = dktX1_lambda_cancel_2_0 := by decide +kernel
theorem dX1_lambda_cancel_2_0 : decode cX1_lambda_cancel_2 0 = .ok (.aload_n 0, 1) := dk_42 (dk_at dksX1_lambda_cancel_2_0 0 rfl rfl)
theorem dX1_lambda_cancel_2_1 : decode cX1_lambda_cancel_2 1 = .ok (.iconst 0, 1) := dk_3 (dk_at dksX1_lambda_cancel_2_0 1 rfl rfl)
theorem dX1_lambda_cancel_2_2 : decode cX1_lambda_cancel_2 2 = .ok (.putfield 182, 3) := dk_181 0 182 (dk_at dksX1_lambda_cancel_2_0 2 rfl rfl)
theorem dX1_lambda_cancel_2_5 : decode cX1_lambda_cancel_2 5 = .ok (.return_, 1) := dk_177 (dk_at dksX1_lambda_cancel_2_0 5 rfl rfl)
abbrev cX1_reinstate : ByteArray := prog_1_method_15_code
def yX1_reinstate : MethodName := ⟨RX1, "reinstate", "(II)I"⟩
def dkwX1_reinstate_0 : List UInt8 := [42, 42, 27, 182, 0, 97, 28, 186, 0, 113, 0, 0, 182, 0, 105, 172]
abbrev dktX1_reinstate_0 : List UInt8 := dkwX1_reinstate_0 ++ []
theorem dksX1_reinstate_0 : cX1_reinstate.data.toList.drop 0 = dktX1_reinstate_0 := by decide +kernel
theorem dX1_reinstate_0 : decode cX1_reinstate 0 = .ok (.aload_n 0, 1) := dk_42 (dk_at dksX1_reinstate_0 0 rfl rfl)
theorem dX1_reinstate_1 : decode cX1_reinstate 1 = .ok (.aload_n 0, 1) := dk_42 (dk_at dksX1_reinstate_0 1 rfl rfl)
theorem dX1_reinstate_2 : decode cX1_reinstate 2 = .ok (.iload_n 1, 1) := dk_27 (dk_at dksX1_reinstate_0 2 rfl rfl)
theorem dX1_reinstate_3 : decode cX1_reinstate 3 = .ok (.invokevirtual 97, 3) := dk_182 0 97 (dk_at dksX1_reinstate_0 3 rfl rfl)
theorem dX1_reinstate_6 : decode cX1_reinstate 6 = .ok (.iload_n 2, 1) := dk_28 (dk_at dksX1_reinstate_0 6 rfl rfl)
theorem dX1_reinstate_7 : decode cX1_reinstate 7 = .ok (.invokedynamic 113, 5) := by decide +kernel
theorem dX1_reinstate_12 : decode cX1_reinstate 12 = .ok (.invokevirtual 105, 3) := dk_182 0 105 (dk_at dksX1_reinstate_0 12 rfl rfl)
theorem dX1_reinstate_15 : decode cX1_reinstate 15 = .ok (.ireturn, 1) := dk_172 (dk_at dksX1_reinstate_0 15 rfl rfl)
abbrev cX1_lambda_reinstate_3 : ByteArray := prog_1_method_40_code
def yX1_lambda_reinstate_3 : MethodName := ⟨RX1, "lambda$reinstate$3", "(LBackdater$Version;)V"⟩
def dkwX1_lambda_reinstate_3_0 : List UInt8 := [42, 4, 181, 0, 182, 177]
abbrev dktX1_lambda_reinstate_3_0 : List UInt8 := dkwX1_lambda_reinstate_3_0 ++ []
theorem dksX1_lambda_reinstate_3_0 : cX1_lambda_reinstate_3.data.toList.drop 0 = dktX1_lambda_reinstate_3_0 := by decide +kernel
theorem dX1_lambda_reinstate_3_0 : decode cX1_lambda_reinstate_3 0 = .ok (.aload_n 0, 1) := dk_42 (dk_at dksX1_lambda_reinstate_3_0 0 rfl rfl)
theorem dX1_lambda_reinstate_3_1 : decode cX1_lambda_reinstate_3 1 = .ok (.iconst 1, 1) := dk_4 (dk_at dksX1_lambda_reinstate_3_0 1 rfl rfl)
theorem dX1_lambda_reinstate_3_2 : decode cX1_lambda_reinstate_3 2 = .ok (.putfield 182, 3) := dk_181 0 182 (dk_at dksX1_lambda_reinstate_3_0 2 rfl rfl)
theorem dX1_lambda_reinstate_3_5 : decode cX1_lambda_reinstate_3 5 = .ok (.return_, 1) := dk_177 (dk_at dksX1_lambda_reinstate_3_0 5 rfl rfl)
abbrev cX1_takeBack : ByteArray := prog_1_method_16_code
def yX1_takeBack : MethodName := ⟨RX1, "takeBack", "(I)I"⟩
def dkwX1_takeBack_1 : List UInt8 := [42, 180, 0, 74, 181, 0, 118, 44, 180, 0, 122, 172]
abbrev dktX1_takeBack_1 : List UInt8 := dkwX1_takeBack_1 ++ []
def dkwX1_takeBack_0 : List UInt8 := [42, 27, 182, 0, 114, 77, 44, 180, 0, 118, 18, 121, 160, 0, 7, 4, 167, 0, 4, 3, 184, 0, 59, 44]
abbrev dktX1_takeBack_0 : List UInt8 := dkwX1_takeBack_0 ++ dktX1_takeBack_1
theorem dksX1_takeBack_0 : cX1_takeBack.data.toList.drop 0 = dktX1_takeBack_0 := by decide +kernel
theorem dksX1_takeBack_1 : cX1_takeBack.data.toList.drop 24 = dktX1_takeBack_1 := dk_seg dksX1_takeBack_0 24 rfl rfl
theorem dX1_takeBack_0 : decode cX1_takeBack 0 = .ok (.aload_n 0, 1) := dk_42 (dk_at dksX1_takeBack_0 0 rfl rfl)
theorem dX1_takeBack_1 : decode cX1_takeBack 1 = .ok (.iload_n 1, 1) := dk_27 (dk_at dksX1_takeBack_0 1 rfl rfl)
theorem dX1_takeBack_2 : decode cX1_takeBack 2 = .ok (.invokevirtual 114, 3) := dk_182 0 114 (dk_at dksX1_takeBack_0 2 rfl rfl)
theorem dX1_takeBack_5 : decode cX1_takeBack 5 = .ok (.astore_n 2, 1) := dk_77 (dk_at dksX1_takeBack_0 5 rfl rfl)
theorem dX1_takeBack_6 : decode cX1_takeBack 6 = .ok (.aload_n 2, 1) := dk_44 (dk_at dksX1_takeBack_0 6 rfl rfl)
theorem dX1_takeBack_7 : decode cX1_takeBack 7 = .ok (.getfield 118, 3) := dk_180 0 118 (dk_at dksX1_takeBack_0 7 rfl rfl)
theorem dX1_takeBack_10 : decode cX1_takeBack 10 = .ok (.ldc 121, 2) := dk_18 121 (dk_at dksX1_takeBack_0 10 rfl rfl)
theorem dX1_takeBack_12 : decode cX1_takeBack 12 = .ok (.if_icmp .ne 7, 3) := dk_160 0 7 (dk_at dksX1_takeBack_0 12 rfl rfl)
theorem dX1_takeBack_15 : decode cX1_takeBack 15 = .ok (.iconst 1, 1) := dk_4 (dk_at dksX1_takeBack_0 15 rfl rfl)
theorem dX1_takeBack_16 : decode cX1_takeBack 16 = .ok (.goto 4, 3) := dk_167 0 4 (dk_at dksX1_takeBack_0 16 rfl rfl)
theorem dX1_takeBack_19 : decode cX1_takeBack 19 = .ok (.iconst 0, 1) := dk_3 (dk_at dksX1_takeBack_0 19 rfl rfl)
theorem dX1_takeBack_20 : decode cX1_takeBack 20 = .ok (.invokestatic 59, 3) := dk_184 0 59 (dk_at dksX1_takeBack_0 20 rfl rfl)
theorem dX1_takeBack_23 : decode cX1_takeBack 23 = .ok (.aload_n 2, 1) := dk_44 (dk_at dksX1_takeBack_0 23 rfl rfl)
theorem dX1_takeBack_24 : decode cX1_takeBack 24 = .ok (.aload_n 0, 1) := dk_42 (dk_at dksX1_takeBack_1 0 rfl rfl)
theorem dX1_takeBack_25 : decode cX1_takeBack 25 = .ok (.getfield 74, 3) := dk_180 0 74 (dk_at dksX1_takeBack_1 1 rfl rfl)
theorem dX1_takeBack_28 : decode cX1_takeBack 28 = .ok (.putfield 118, 3) := dk_181 0 118 (dk_at dksX1_takeBack_1 4 rfl rfl)
theorem dX1_takeBack_31 : decode cX1_takeBack 31 = .ok (.aload_n 2, 1) := dk_44 (dk_at dksX1_takeBack_1 7 rfl rfl)
theorem dX1_takeBack_32 : decode cX1_takeBack 32 = .ok (.getfield 122, 3) := dk_180 0 122 (dk_at dksX1_takeBack_1 8 rfl rfl)
theorem dX1_takeBack_35 : decode cX1_takeBack 35 = .ok (.ireturn, 1) := dk_172 (dk_at dksX1_takeBack_1 11 rfl rfl)
abbrev cX1_changeAt : ByteArray := prog_1_method_6_code
def yX1_changeAt : MethodName := ⟨RX1, "changeAt", "(I)LBackdater$Change;"⟩
def dkwX1_changeAt_1 : List UInt8 := [192, 0, 53, 176]
abbrev dktX1_changeAt_1 : List UInt8 := dkwX1_changeAt_1 ++ []
def dkwX1_changeAt_0 : List UInt8 := [27, 42, 180, 0, 18, 185, 0, 37, 1, 0, 184, 0, 43, 42, 180, 0, 18, 27, 185, 0, 47, 2, 0]
abbrev dktX1_changeAt_0 : List UInt8 := dkwX1_changeAt_0 ++ dktX1_changeAt_1
theorem dksX1_changeAt_0 : cX1_changeAt.data.toList.drop 0 = dktX1_changeAt_0 := by decide +kernel
theorem dksX1_changeAt_1 : cX1_changeAt.data.toList.drop 23 = dktX1_changeAt_1 := dk_seg dksX1_changeAt_0 23 rfl rfl
theorem dX1_changeAt_0 : decode cX1_changeAt 0 = .ok (.iload_n 1, 1) := dk_27 (dk_at dksX1_changeAt_0 0 rfl rfl)
theorem dX1_changeAt_1 : decode cX1_changeAt 1 = .ok (.aload_n 0, 1) := dk_42 (dk_at dksX1_changeAt_0 1 rfl rfl)
theorem dX1_changeAt_2 : decode cX1_changeAt 2 = .ok (.getfield 18, 3) := dk_180 0 18 (dk_at dksX1_changeAt_0 2 rfl rfl)
theorem dX1_changeAt_5 : decode cX1_changeAt 5 = .ok (.invokeinterface 37 1, 5) := by decide +kernel
theorem dX1_changeAt_10 : decode cX1_changeAt 10 = .ok (.invokestatic 43, 3) := dk_184 0 43 (dk_at dksX1_changeAt_0 10 rfl rfl)
theorem dX1_changeAt_13 : decode cX1_changeAt 13 = .ok (.aload_n 0, 1) := dk_42 (dk_at dksX1_changeAt_0 13 rfl rfl)
theorem dX1_changeAt_14 : decode cX1_changeAt 14 = .ok (.getfield 18, 3) := dk_180 0 18 (dk_at dksX1_changeAt_0 14 rfl rfl)
theorem dX1_changeAt_17 : decode cX1_changeAt 17 = .ok (.iload_n 1, 1) := dk_27 (dk_at dksX1_changeAt_0 17 rfl rfl)
theorem dX1_changeAt_18 : decode cX1_changeAt 18 = .ok (.invokeinterface 47 2, 5) := by decide +kernel
theorem dX1_changeAt_23 : decode cX1_changeAt 23 = .ok (.checkcast 53, 3) := dk_192 0 53 (dk_at dksX1_changeAt_1 0 rfl rfl)
theorem dX1_changeAt_26 : decode cX1_changeAt 26 = .ok (.areturn, 1) := dk_176 (dk_at dksX1_changeAt_1 3 rfl rfl)
abbrev cX1_laidAnew : ByteArray := prog_1_method_18_code
def yX1_laidAnew : MethodName := ⟨RX1, "laidAnew", "(I)I"⟩
def dkwX1_laidAnew_3 : List UInt8 := [4, 167, 0, 4, 3, 96, 62, 132, 4, 1, 167, 255, 187, 29, 172]
abbrev dktX1_laidAnew_3 : List UInt8 := dkwX1_laidAnew_3 ++ []
def dkwX1_laidAnew_2 : List UInt8 := [25, 5, 180, 0, 129, 44, 180, 0, 129, 164, 0, 19, 25, 5, 42, 180, 0, 74, 182, 0, 132, 153, 0, 7]
abbrev dktX1_laidAnew_2 : List UInt8 := dkwX1_laidAnew_2 ++ dktX1_laidAnew_3
def dkwX1_laidAnew_1 : List UInt8 := [185, 0, 47, 2, 0, 192, 0, 53, 58, 5, 29, 25, 5, 180, 0, 125, 44, 180, 0, 125, 166, 0, 31]
abbrev dktX1_laidAnew_1 : List UInt8 := dkwX1_laidAnew_1 ++ dktX1_laidAnew_2
def dkwX1_laidAnew_0 : List UInt8 := [42, 27, 182, 0, 114, 77, 3, 62, 3, 54, 4, 21, 4, 27, 162, 0, 69, 42, 180, 0, 18, 21, 4]
abbrev dktX1_laidAnew_0 : List UInt8 := dkwX1_laidAnew_0 ++ dktX1_laidAnew_1
theorem dksX1_laidAnew_0 : cX1_laidAnew.data.toList.drop 0 = dktX1_laidAnew_0 := by decide +kernel
theorem dksX1_laidAnew_1 : cX1_laidAnew.data.toList.drop 23 = dktX1_laidAnew_1 := dk_seg dksX1_laidAnew_0 23 rfl rfl
theorem dksX1_laidAnew_2 : cX1_laidAnew.data.toList.drop 46 = dktX1_laidAnew_2 := dk_seg dksX1_laidAnew_1 23 rfl rfl
theorem dksX1_laidAnew_3 : cX1_laidAnew.data.toList.drop 70 = dktX1_laidAnew_3 := dk_seg dksX1_laidAnew_2 24 rfl rfl
theorem dX1_laidAnew_0 : decode cX1_laidAnew 0 = .ok (.aload_n 0, 1) := dk_42 (dk_at dksX1_laidAnew_0 0 rfl rfl)
theorem dX1_laidAnew_1 : decode cX1_laidAnew 1 = .ok (.iload_n 1, 1) := dk_27 (dk_at dksX1_laidAnew_0 1 rfl rfl)
theorem dX1_laidAnew_2 : decode cX1_laidAnew 2 = .ok (.invokevirtual 114, 3) := dk_182 0 114 (dk_at dksX1_laidAnew_0 2 rfl rfl)
theorem dX1_laidAnew_5 : decode cX1_laidAnew 5 = .ok (.astore_n 2, 1) := dk_77 (dk_at dksX1_laidAnew_0 5 rfl rfl)
theorem dX1_laidAnew_6 : decode cX1_laidAnew 6 = .ok (.iconst 0, 1) := dk_3 (dk_at dksX1_laidAnew_0 6 rfl rfl)
theorem dX1_laidAnew_7 : decode cX1_laidAnew 7 = .ok (.istore_n 3, 1) := dk_62 (dk_at dksX1_laidAnew_0 7 rfl rfl)
theorem dX1_laidAnew_8 : decode cX1_laidAnew 8 = .ok (.iconst 0, 1) := dk_3 (dk_at dksX1_laidAnew_0 8 rfl rfl)
theorem dX1_laidAnew_9 : decode cX1_laidAnew 9 = .ok (.istore 4, 2) := dk_54 4 (dk_at dksX1_laidAnew_0 9 rfl rfl)
theorem dX1_laidAnew_11 : decode cX1_laidAnew 11 = .ok (.iload 4, 2) := dk_21 4 (dk_at dksX1_laidAnew_0 11 rfl rfl)
theorem dX1_laidAnew_13 : decode cX1_laidAnew 13 = .ok (.iload_n 1, 1) := dk_27 (dk_at dksX1_laidAnew_0 13 rfl rfl)
theorem dX1_laidAnew_14 : decode cX1_laidAnew 14 = .ok (.if_icmp .ge 69, 3) := dk_162 0 69 (dk_at dksX1_laidAnew_0 14 rfl rfl)
theorem dX1_laidAnew_17 : decode cX1_laidAnew 17 = .ok (.aload_n 0, 1) := dk_42 (dk_at dksX1_laidAnew_0 17 rfl rfl)
theorem dX1_laidAnew_18 : decode cX1_laidAnew 18 = .ok (.getfield 18, 3) := dk_180 0 18 (dk_at dksX1_laidAnew_0 18 rfl rfl)
theorem dX1_laidAnew_21 : decode cX1_laidAnew 21 = .ok (.iload 4, 2) := dk_21 4 (dk_at dksX1_laidAnew_0 21 rfl rfl)
theorem dX1_laidAnew_23 : decode cX1_laidAnew 23 = .ok (.invokeinterface 47 2, 5) := by decide +kernel
theorem dX1_laidAnew_28 : decode cX1_laidAnew 28 = .ok (.checkcast 53, 3) := dk_192 0 53 (dk_at dksX1_laidAnew_1 5 rfl rfl)
theorem dX1_laidAnew_31 : decode cX1_laidAnew 31 = .ok (.astore 5, 2) := dk_58 5 (dk_at dksX1_laidAnew_1 8 rfl rfl)
theorem dX1_laidAnew_33 : decode cX1_laidAnew 33 = .ok (.iload_n 3, 1) := dk_29 (dk_at dksX1_laidAnew_1 10 rfl rfl)
theorem dX1_laidAnew_34 : decode cX1_laidAnew 34 = .ok (.aload 5, 2) := dk_25 5 (dk_at dksX1_laidAnew_1 11 rfl rfl)
theorem dX1_laidAnew_36 : decode cX1_laidAnew 36 = .ok (.getfield 125, 3) := dk_180 0 125 (dk_at dksX1_laidAnew_1 13 rfl rfl)
theorem dX1_laidAnew_39 : decode cX1_laidAnew 39 = .ok (.aload_n 2, 1) := dk_44 (dk_at dksX1_laidAnew_1 16 rfl rfl)
theorem dX1_laidAnew_40 : decode cX1_laidAnew 40 = .ok (.getfield 125, 3) := dk_180 0 125 (dk_at dksX1_laidAnew_1 17 rfl rfl)
theorem dX1_laidAnew_43 : decode cX1_laidAnew 43 = .ok (.if_acmp .ne 31, 3) := dk_166 0 31 (dk_at dksX1_laidAnew_1 20 rfl rfl)
theorem dX1_laidAnew_46 : decode cX1_laidAnew 46 = .ok (.aload 5, 2) := dk_25 5 (dk_at dksX1_laidAnew_2 0 rfl rfl)
theorem dX1_laidAnew_48 : decode cX1_laidAnew 48 = .ok (.getfield 129, 3) := dk_180 0 129 (dk_at dksX1_laidAnew_2 2 rfl rfl)
theorem dX1_laidAnew_51 : decode cX1_laidAnew 51 = .ok (.aload_n 2, 1) := dk_44 (dk_at dksX1_laidAnew_2 5 rfl rfl)
theorem dX1_laidAnew_52 : decode cX1_laidAnew 52 = .ok (.getfield 129, 3) := dk_180 0 129 (dk_at dksX1_laidAnew_2 6 rfl rfl)
theorem dX1_laidAnew_55 : decode cX1_laidAnew 55 = .ok (.if_icmp .le 19, 3) := dk_164 0 19 (dk_at dksX1_laidAnew_2 9 rfl rfl)
theorem dX1_laidAnew_58 : decode cX1_laidAnew 58 = .ok (.aload 5, 2) := dk_25 5 (dk_at dksX1_laidAnew_2 12 rfl rfl)
theorem dX1_laidAnew_60 : decode cX1_laidAnew 60 = .ok (.aload_n 0, 1) := dk_42 (dk_at dksX1_laidAnew_2 14 rfl rfl)
theorem dX1_laidAnew_61 : decode cX1_laidAnew 61 = .ok (.getfield 74, 3) := dk_180 0 74 (dk_at dksX1_laidAnew_2 15 rfl rfl)
theorem dX1_laidAnew_64 : decode cX1_laidAnew 64 = .ok (.invokevirtual 132, 3) := dk_182 0 132 (dk_at dksX1_laidAnew_2 18 rfl rfl)
theorem dX1_laidAnew_67 : decode cX1_laidAnew 67 = .ok (.ifCond .eq 7, 3) := dk_153 0 7 (dk_at dksX1_laidAnew_2 21 rfl rfl)
theorem dX1_laidAnew_70 : decode cX1_laidAnew 70 = .ok (.iconst 1, 1) := dk_4 (dk_at dksX1_laidAnew_3 0 rfl rfl)
theorem dX1_laidAnew_71 : decode cX1_laidAnew 71 = .ok (.goto 4, 3) := dk_167 0 4 (dk_at dksX1_laidAnew_3 1 rfl rfl)
theorem dX1_laidAnew_74 : decode cX1_laidAnew 74 = .ok (.iconst 0, 1) := dk_3 (dk_at dksX1_laidAnew_3 4 rfl rfl)
theorem dX1_laidAnew_75 : decode cX1_laidAnew 75 = .ok (.iadd, 1) := dk_96 (dk_at dksX1_laidAnew_3 5 rfl rfl)
theorem dX1_laidAnew_76 : decode cX1_laidAnew 76 = .ok (.istore_n 3, 1) := dk_62 (dk_at dksX1_laidAnew_3 6 rfl rfl)
theorem dX1_laidAnew_77 : decode cX1_laidAnew 77 = .ok (.iinc 4 1, 3) := dk_132 4 1 (dk_at dksX1_laidAnew_3 7 rfl rfl)
theorem dX1_laidAnew_80 : decode cX1_laidAnew 80 = .ok (.goto (-69), 3) := dk_167 255 187 (dk_at dksX1_laidAnew_3 10 rfl rfl)
theorem dX1_laidAnew_83 : decode cX1_laidAnew 83 = .ok (.iload_n 3, 1) := dk_29 (dk_at dksX1_laidAnew_3 13 rfl rfl)
theorem dX1_laidAnew_84 : decode cX1_laidAnew 84 = .ok (.ireturn, 1) := dk_172 (dk_at dksX1_laidAnew_3 14 rfl rfl)
abbrev cX1_value : ByteArray := prog_1_method_23_code
def yX1_value : MethodName := ⟨RX1, "value", "(IIII)I"⟩
def dkwX1_value_1 : List UInt8 := [21, 4, 182, 0, 197, 180, 0, 189, 28, 46, 172]
abbrev dktX1_value_1 : List UInt8 := dkwX1_value_1 ++ []
def dkwX1_value_0 : List UInt8 := [42, 27, 182, 0, 97, 58, 5, 28, 6, 184, 0, 43, 42, 29, 21, 4, 182, 0, 194, 42, 25, 5, 29]
abbrev dktX1_value_0 : List UInt8 := dkwX1_value_0 ++ dktX1_value_1
theorem dksX1_value_0 : cX1_value.data.toList.drop 0 = dktX1_value_0 := by decide +kernel
theorem dksX1_value_1 : cX1_value.data.toList.drop 23 = dktX1_value_1 := dk_seg dksX1_value_0 23 rfl rfl
theorem dX1_value_0 : decode cX1_value 0 = .ok (.aload_n 0, 1) := dk_42 (dk_at dksX1_value_0 0 rfl rfl)
theorem dX1_value_1 : decode cX1_value 1 = .ok (.iload_n 1, 1) := dk_27 (dk_at dksX1_value_0 1 rfl rfl)
theorem dX1_value_2 : decode cX1_value 2 = .ok (.invokevirtual 97, 3) := dk_182 0 97 (dk_at dksX1_value_0 2 rfl rfl)
theorem dX1_value_5 : decode cX1_value 5 = .ok (.astore 5, 2) := dk_58 5 (dk_at dksX1_value_0 5 rfl rfl)
theorem dX1_value_7 : decode cX1_value 7 = .ok (.iload_n 2, 1) := dk_28 (dk_at dksX1_value_0 7 rfl rfl)
theorem dX1_value_8 : decode cX1_value 8 = .ok (.iconst 3, 1) := dk_6 (dk_at dksX1_value_0 8 rfl rfl)
theorem dX1_value_9 : decode cX1_value 9 = .ok (.invokestatic 43, 3) := dk_184 0 43 (dk_at dksX1_value_0 9 rfl rfl)
theorem dX1_value_12 : decode cX1_value 12 = .ok (.aload_n 0, 1) := dk_42 (dk_at dksX1_value_0 12 rfl rfl)
theorem dX1_value_13 : decode cX1_value 13 = .ok (.iload_n 3, 1) := dk_29 (dk_at dksX1_value_0 13 rfl rfl)
theorem dX1_value_14 : decode cX1_value 14 = .ok (.iload 4, 2) := dk_21 4 (dk_at dksX1_value_0 14 rfl rfl)
theorem dX1_value_16 : decode cX1_value 16 = .ok (.invokevirtual 194, 3) := dk_182 0 194 (dk_at dksX1_value_0 16 rfl rfl)
theorem dX1_value_19 : decode cX1_value 19 = .ok (.aload_n 0, 1) := dk_42 (dk_at dksX1_value_0 19 rfl rfl)
theorem dX1_value_20 : decode cX1_value 20 = .ok (.aload 5, 2) := dk_25 5 (dk_at dksX1_value_0 20 rfl rfl)
theorem dX1_value_22 : decode cX1_value 22 = .ok (.iload_n 3, 1) := dk_29 (dk_at dksX1_value_0 22 rfl rfl)
theorem dX1_value_23 : decode cX1_value 23 = .ok (.iload 4, 2) := dk_21 4 (dk_at dksX1_value_1 0 rfl rfl)
theorem dX1_value_25 : decode cX1_value 25 = .ok (.invokevirtual 197, 3) := dk_182 0 197 (dk_at dksX1_value_1 2 rfl rfl)
theorem dX1_value_28 : decode cX1_value 28 = .ok (.getfield 189, 3) := dk_180 0 189 (dk_at dksX1_value_1 5 rfl rfl)
theorem dX1_value_31 : decode cX1_value 31 = .ok (.iload_n 2, 1) := dk_28 (dk_at dksX1_value_1 8 rfl rfl)
theorem dX1_value_32 : decode cX1_value 32 = .ok (.iaload, 1) := dk_46 (dk_at dksX1_value_1 9 rfl rfl)
theorem dX1_value_33 : decode cX1_value 33 = .ok (.ireturn, 1) := dk_172 (dk_at dksX1_value_1 10 rfl rfl)
abbrev cX1_needDays : ByteArray := prog_1_method_22_code
def yX1_needDays : MethodName := ⟨RX1, "needDays", "(II)V"⟩
def dkwX1_needDays_0 : List UInt8 := [27, 3, 17, 1, 108, 184, 0, 55, 28, 3, 42, 180, 0, 74, 184, 0, 55, 177]
abbrev dktX1_needDays_0 : List UInt8 := dkwX1_needDays_0 ++ []
theorem dksX1_needDays_0 : cX1_needDays.data.toList.drop 0 = dktX1_needDays_0 := by decide +kernel
theorem dX1_needDays_0 : decode cX1_needDays 0 = .ok (.iload_n 1, 1) := dk_27 (dk_at dksX1_needDays_0 0 rfl rfl)
theorem dX1_needDays_1 : decode cX1_needDays 1 = .ok (.iconst 0, 1) := dk_3 (dk_at dksX1_needDays_0 1 rfl rfl)
theorem dX1_needDays_2 : decode cX1_needDays 2 = .ok (.sipush 364, 3) := dk_17 1 108 (dk_at dksX1_needDays_0 2 rfl rfl)
theorem dX1_needDays_5 : decode cX1_needDays 5 = .ok (.invokestatic 55, 3) := dk_184 0 55 (dk_at dksX1_needDays_0 5 rfl rfl)
theorem dX1_needDays_8 : decode cX1_needDays 8 = .ok (.iload_n 2, 1) := dk_28 (dk_at dksX1_needDays_0 8 rfl rfl)
theorem dX1_needDays_9 : decode cX1_needDays 9 = .ok (.iconst 0, 1) := dk_3 (dk_at dksX1_needDays_0 9 rfl rfl)
theorem dX1_needDays_10 : decode cX1_needDays 10 = .ok (.aload_n 0, 1) := dk_42 (dk_at dksX1_needDays_0 10 rfl rfl)
theorem dX1_needDays_11 : decode cX1_needDays 11 = .ok (.getfield 74, 3) := dk_180 0 74 (dk_at dksX1_needDays_0 11 rfl rfl)
theorem dX1_needDays_14 : decode cX1_needDays 14 = .ok (.invokestatic 55, 3) := dk_184 0 55 (dk_at dksX1_needDays_0 14 rfl rfl)
theorem dX1_needDays_17 : decode cX1_needDays 17 = .ok (.return_, 1) := dk_177 (dk_at dksX1_needDays_0 17 rfl rfl)
abbrev cX1_version : ByteArray := prog_1_method_19_code
def yX1_version : MethodName := ⟨RX1, "version", "(LBackdater$Policy;II)LBackdater$Version;"⟩
def dkwX1_version_3 : List UInt8 := [25, 6, 180, 0, 165, 25, 4, 185, 0, 169, 2, 0, 167, 255, 213, 25, 4, 176]
abbrev dktX1_version_3 : List UInt8 := dkwX1_version_3 ++ []
def dkwX1_version_2 : List UInt8 := [153, 0, 39, 25, 5, 185, 0, 161, 1, 0, 192, 0, 53, 58, 6, 25, 6, 29, 182, 0, 132, 153, 0, 15]
abbrev dktX1_version_2 : List UInt8 := dkwX1_version_2 ++ dktX1_version_3
def dkwX1_version_1 : List UInt8 := [182, 0, 139, 185, 0, 143, 1, 0, 185, 0, 149, 1, 0, 58, 5, 25, 5, 185, 0, 155, 1, 0]
abbrev dktX1_version_1 : List UInt8 := dkwX1_version_1 ++ dktX1_version_2
def dkwX1_version_0 : List UInt8 := [187, 0, 136, 89, 183, 0, 138, 58, 4, 43, 180, 0, 81, 16, 100, 28, 4, 96, 104, 184, 0, 87]
abbrev dktX1_version_0 : List UInt8 := dkwX1_version_0 ++ dktX1_version_1
theorem dksX1_version_0 : cX1_version.data.toList.drop 0 = dktX1_version_0 := by decide +kernel
theorem dksX1_version_1 : cX1_version.data.toList.drop 22 = dktX1_version_1 := dk_seg dksX1_version_0 22 rfl rfl
theorem dksX1_version_2 : cX1_version.data.toList.drop 44 = dktX1_version_2 := dk_seg dksX1_version_1 22 rfl rfl
theorem dksX1_version_3 : cX1_version.data.toList.drop 68 = dktX1_version_3 := dk_seg dksX1_version_2 24 rfl rfl
theorem dX1_version_0 : decode cX1_version 0 = .ok (.new 136, 3) := dk_187 0 136 (dk_at dksX1_version_0 0 rfl rfl)
theorem dX1_version_3 : decode cX1_version 3 = .ok (.dup, 1) := dk_89 (dk_at dksX1_version_0 3 rfl rfl)
theorem dX1_version_4 : decode cX1_version 4 = .ok (.invokespecial 138, 3) := dk_183 0 138 (dk_at dksX1_version_0 4 rfl rfl)
theorem dX1_version_7 : decode cX1_version 7 = .ok (.astore 4, 2) := dk_58 4 (dk_at dksX1_version_0 7 rfl rfl)
theorem dX1_version_9 : decode cX1_version 9 = .ok (.aload_n 1, 1) := dk_43 (dk_at dksX1_version_0 9 rfl rfl)
theorem dX1_version_10 : decode cX1_version 10 = .ok (.getfield 81, 3) := dk_180 0 81 (dk_at dksX1_version_0 10 rfl rfl)
theorem dX1_version_13 : decode cX1_version 13 = .ok (.bipush 100, 2) := dk_16 100 (dk_at dksX1_version_0 13 rfl rfl)
theorem dX1_version_15 : decode cX1_version 15 = .ok (.iload_n 2, 1) := dk_28 (dk_at dksX1_version_0 15 rfl rfl)
theorem dX1_version_16 : decode cX1_version 16 = .ok (.iconst 1, 1) := dk_4 (dk_at dksX1_version_0 16 rfl rfl)
theorem dX1_version_17 : decode cX1_version 17 = .ok (.iadd, 1) := dk_96 (dk_at dksX1_version_0 17 rfl rfl)
theorem dX1_version_18 : decode cX1_version 18 = .ok (.imul, 1) := dk_104 (dk_at dksX1_version_0 18 rfl rfl)
theorem dX1_version_19 : decode cX1_version 19 = .ok (.invokestatic 87, 3) := dk_184 0 87 (dk_at dksX1_version_0 19 rfl rfl)
theorem dX1_version_22 : decode cX1_version 22 = .ok (.invokevirtual 139, 3) := dk_182 0 139 (dk_at dksX1_version_1 0 rfl rfl)
theorem dX1_version_25 : decode cX1_version 25 = .ok (.invokeinterface 143 1, 5) := by decide +kernel
theorem dX1_version_30 : decode cX1_version 30 = .ok (.invokeinterface 149 1, 5) := by decide +kernel
theorem dX1_version_35 : decode cX1_version 35 = .ok (.astore 5, 2) := dk_58 5 (dk_at dksX1_version_1 13 rfl rfl)
theorem dX1_version_37 : decode cX1_version 37 = .ok (.aload 5, 2) := dk_25 5 (dk_at dksX1_version_1 15 rfl rfl)
theorem dX1_version_39 : decode cX1_version 39 = .ok (.invokeinterface 155 1, 5) := by decide +kernel
theorem dX1_version_44 : decode cX1_version 44 = .ok (.ifCond .eq 39, 3) := dk_153 0 39 (dk_at dksX1_version_2 0 rfl rfl)
theorem dX1_version_47 : decode cX1_version 47 = .ok (.aload 5, 2) := dk_25 5 (dk_at dksX1_version_2 3 rfl rfl)
theorem dX1_version_49 : decode cX1_version 49 = .ok (.invokeinterface 161 1, 5) := by decide +kernel
theorem dX1_version_54 : decode cX1_version 54 = .ok (.checkcast 53, 3) := dk_192 0 53 (dk_at dksX1_version_2 10 rfl rfl)
theorem dX1_version_57 : decode cX1_version 57 = .ok (.astore 6, 2) := dk_58 6 (dk_at dksX1_version_2 13 rfl rfl)
theorem dX1_version_59 : decode cX1_version 59 = .ok (.aload 6, 2) := dk_25 6 (dk_at dksX1_version_2 15 rfl rfl)
theorem dX1_version_61 : decode cX1_version 61 = .ok (.iload_n 3, 1) := dk_29 (dk_at dksX1_version_2 17 rfl rfl)
theorem dX1_version_62 : decode cX1_version 62 = .ok (.invokevirtual 132, 3) := dk_182 0 132 (dk_at dksX1_version_2 18 rfl rfl)
theorem dX1_version_65 : decode cX1_version 65 = .ok (.ifCond .eq 15, 3) := dk_153 0 15 (dk_at dksX1_version_2 21 rfl rfl)
theorem dX1_version_68 : decode cX1_version 68 = .ok (.aload 6, 2) := dk_25 6 (dk_at dksX1_version_3 0 rfl rfl)
theorem dX1_version_70 : decode cX1_version 70 = .ok (.getfield 165, 3) := dk_180 0 165 (dk_at dksX1_version_3 2 rfl rfl)
theorem dX1_version_73 : decode cX1_version 73 = .ok (.aload 4, 2) := dk_25 4 (dk_at dksX1_version_3 5 rfl rfl)
theorem dX1_version_75 : decode cX1_version 75 = .ok (.invokeinterface 169 2, 5) := by decide +kernel
theorem dX1_version_80 : decode cX1_version 80 = .ok (.goto (-43), 3) := dk_167 255 213 (dk_at dksX1_version_3 12 rfl rfl)
theorem dX1_version_83 : decode cX1_version 83 = .ok (.aload 4, 2) := dk_25 4 (dk_at dksX1_version_3 15 rfl rfl)
theorem dX1_version_85 : decode cX1_version 85 = .ok (.areturn, 1) := dk_176 (dk_at dksX1_version_3 17 rfl rfl)
abbrev cX1_isCovered : ByteArray := prog_1_method_24_code
def yX1_isCovered : MethodName := ⟨RX1, "isCovered", "(III)Z"⟩
def dkwX1_isCovered_1 : List UInt8 := [172]
abbrev dktX1_isCovered_1 : List UInt8 := dkwX1_isCovered_1 ++ []
def dkwX1_isCovered_0 : List UInt8 := [42, 27, 182, 0, 97, 58, 4, 42, 28, 29, 182, 0, 194, 42, 25, 4, 28, 29, 182, 0, 197, 180, 0, 182]
abbrev dktX1_isCovered_0 : List UInt8 := dkwX1_isCovered_0 ++ dktX1_isCovered_1
theorem dksX1_isCovered_0 : cX1_isCovered.data.toList.drop 0 = dktX1_isCovered_0 := by decide +kernel
theorem dksX1_isCovered_1 : cX1_isCovered.data.toList.drop 24 = dktX1_isCovered_1 := dk_seg dksX1_isCovered_0 24 rfl rfl
theorem dX1_isCovered_0 : decode cX1_isCovered 0 = .ok (.aload_n 0, 1) := dk_42 (dk_at dksX1_isCovered_0 0 rfl rfl)
theorem dX1_isCovered_1 : decode cX1_isCovered 1 = .ok (.iload_n 1, 1) := dk_27 (dk_at dksX1_isCovered_0 1 rfl rfl)
theorem dX1_isCovered_2 : decode cX1_isCovered 2 = .ok (.invokevirtual 97, 3) := dk_182 0 97 (dk_at dksX1_isCovered_0 2 rfl rfl)
theorem dX1_isCovered_5 : decode cX1_isCovered 5 = .ok (.astore 4, 2) := dk_58 4 (dk_at dksX1_isCovered_0 5 rfl rfl)
theorem dX1_isCovered_7 : decode cX1_isCovered 7 = .ok (.aload_n 0, 1) := dk_42 (dk_at dksX1_isCovered_0 7 rfl rfl)
theorem dX1_isCovered_8 : decode cX1_isCovered 8 = .ok (.iload_n 2, 1) := dk_28 (dk_at dksX1_isCovered_0 8 rfl rfl)
theorem dX1_isCovered_9 : decode cX1_isCovered 9 = .ok (.iload_n 3, 1) := dk_29 (dk_at dksX1_isCovered_0 9 rfl rfl)
theorem dX1_isCovered_10 : decode cX1_isCovered 10 = .ok (.invokevirtual 194, 3) := dk_182 0 194 (dk_at dksX1_isCovered_0 10 rfl rfl)
theorem dX1_isCovered_13 : decode cX1_isCovered 13 = .ok (.aload_n 0, 1) := dk_42 (dk_at dksX1_isCovered_0 13 rfl rfl)
theorem dX1_isCovered_14 : decode cX1_isCovered 14 = .ok (.aload 4, 2) := dk_25 4 (dk_at dksX1_isCovered_0 14 rfl rfl)
theorem dX1_isCovered_16 : decode cX1_isCovered 16 = .ok (.iload_n 2, 1) := dk_28 (dk_at dksX1_isCovered_0 16 rfl rfl)
theorem dX1_isCovered_17 : decode cX1_isCovered 17 = .ok (.iload_n 3, 1) := dk_29 (dk_at dksX1_isCovered_0 17 rfl rfl)
theorem dX1_isCovered_18 : decode cX1_isCovered 18 = .ok (.invokevirtual 197, 3) := dk_182 0 197 (dk_at dksX1_isCovered_0 18 rfl rfl)
theorem dX1_isCovered_21 : decode cX1_isCovered 21 = .ok (.getfield 182, 3) := dk_180 0 182 (dk_at dksX1_isCovered_0 21 rfl rfl)
theorem dX1_isCovered_24 : decode cX1_isCovered 24 = .ok (.ireturn, 1) := dk_172 (dk_at dksX1_isCovered_1 0 rfl rfl)
abbrev cX1_rate : ByteArray := prog_1_method_25_code
def yX1_rate : MethodName := ⟨RX1, "rate", "(III)I"⟩
def dkwX1_rate_1 : List UInt8 := [28, 182, 0, 201, 172]
abbrev dktX1_rate_1 : List UInt8 := dkwX1_rate_1 ++ []
def dkwX1_rate_0 : List UInt8 := [42, 27, 182, 0, 97, 58, 4, 42, 28, 29, 182, 0, 194, 42, 25, 4, 42, 25, 4, 28, 29, 182, 0, 197]
abbrev dktX1_rate_0 : List UInt8 := dkwX1_rate_0 ++ dktX1_rate_1
theorem dksX1_rate_0 : cX1_rate.data.toList.drop 0 = dktX1_rate_0 := by decide +kernel
theorem dksX1_rate_1 : cX1_rate.data.toList.drop 24 = dktX1_rate_1 := dk_seg dksX1_rate_0 24 rfl rfl
theorem dX1_rate_0 : decode cX1_rate 0 = .ok (.aload_n 0, 1) := dk_42 (dk_at dksX1_rate_0 0 rfl rfl)
theorem dX1_rate_1 : decode cX1_rate 1 = .ok (.iload_n 1, 1) := dk_27 (dk_at dksX1_rate_0 1 rfl rfl)
theorem dX1_rate_2 : decode cX1_rate 2 = .ok (.invokevirtual 97, 3) := dk_182 0 97 (dk_at dksX1_rate_0 2 rfl rfl)
theorem dX1_rate_5 : decode cX1_rate 5 = .ok (.astore 4, 2) := dk_58 4 (dk_at dksX1_rate_0 5 rfl rfl)
theorem dX1_rate_7 : decode cX1_rate 7 = .ok (.aload_n 0, 1) := dk_42 (dk_at dksX1_rate_0 7 rfl rfl)
theorem dX1_rate_8 : decode cX1_rate 8 = .ok (.iload_n 2, 1) := dk_28 (dk_at dksX1_rate_0 8 rfl rfl)
theorem dX1_rate_9 : decode cX1_rate 9 = .ok (.iload_n 3, 1) := dk_29 (dk_at dksX1_rate_0 9 rfl rfl)
theorem dX1_rate_10 : decode cX1_rate 10 = .ok (.invokevirtual 194, 3) := dk_182 0 194 (dk_at dksX1_rate_0 10 rfl rfl)
theorem dX1_rate_13 : decode cX1_rate 13 = .ok (.aload_n 0, 1) := dk_42 (dk_at dksX1_rate_0 13 rfl rfl)
theorem dX1_rate_14 : decode cX1_rate 14 = .ok (.aload 4, 2) := dk_25 4 (dk_at dksX1_rate_0 14 rfl rfl)
theorem dX1_rate_16 : decode cX1_rate 16 = .ok (.aload_n 0, 1) := dk_42 (dk_at dksX1_rate_0 16 rfl rfl)
theorem dX1_rate_17 : decode cX1_rate 17 = .ok (.aload 4, 2) := dk_25 4 (dk_at dksX1_rate_0 17 rfl rfl)
theorem dX1_rate_19 : decode cX1_rate 19 = .ok (.iload_n 2, 1) := dk_28 (dk_at dksX1_rate_0 19 rfl rfl)
theorem dX1_rate_20 : decode cX1_rate 20 = .ok (.iload_n 3, 1) := dk_29 (dk_at dksX1_rate_0 20 rfl rfl)
theorem dX1_rate_21 : decode cX1_rate 21 = .ok (.invokevirtual 197, 3) := dk_182 0 197 (dk_at dksX1_rate_0 21 rfl rfl)
theorem dX1_rate_24 : decode cX1_rate 24 = .ok (.iload_n 2, 1) := dk_28 (dk_at dksX1_rate_1 0 rfl rfl)
theorem dX1_rate_25 : decode cX1_rate 25 = .ok (.invokevirtual 201, 3) := dk_182 0 201 (dk_at dksX1_rate_1 1 rfl rfl)
theorem dX1_rate_28 : decode cX1_rate 28 = .ok (.ireturn, 1) := dk_172 (dk_at dksX1_rate_1 4 rfl rfl)
abbrev cX1_rateOf : ByteArray := prog_1_method_21_code
def yX1_rateOf : MethodName := ⟨RX1, "rateOf", "(LBackdater$Policy;LBackdater$Version;I)I"⟩
def dkwX1_rateOf_2 : List UInt8 := [182, 0, 191, 104, 96, 54, 4, 132, 5, 1, 167, 255, 220, 21, 4, 172]
abbrev dktX1_rateOf_2 : List UInt8 := dkwX1_rateOf_2 ++ []
def dkwX1_rateOf_1 : List UInt8 := [162, 0, 36, 44, 180, 0, 182, 153, 0, 29, 21, 4, 44, 180, 0, 189, 21, 5, 46, 42, 21, 5, 29]
abbrev dktX1_rateOf_1 : List UInt8 := dkwX1_rateOf_1 ++ dktX1_rateOf_2
def dkwX1_rateOf_0 : List UInt8 := [44, 180, 0, 182, 153, 0, 10, 43, 180, 0, 186, 167, 0, 4, 3, 54, 4, 3, 54, 5, 21, 5, 6]
abbrev dktX1_rateOf_0 : List UInt8 := dkwX1_rateOf_0 ++ dktX1_rateOf_1
theorem dksX1_rateOf_0 : cX1_rateOf.data.toList.drop 0 = dktX1_rateOf_0 := by decide +kernel
theorem dksX1_rateOf_1 : cX1_rateOf.data.toList.drop 23 = dktX1_rateOf_1 := dk_seg dksX1_rateOf_0 23 rfl rfl
theorem dksX1_rateOf_2 : cX1_rateOf.data.toList.drop 46 = dktX1_rateOf_2 := dk_seg dksX1_rateOf_1 23 rfl rfl
theorem dX1_rateOf_0 : decode cX1_rateOf 0 = .ok (.aload_n 2, 1) := dk_44 (dk_at dksX1_rateOf_0 0 rfl rfl)
theorem dX1_rateOf_1 : decode cX1_rateOf 1 = .ok (.getfield 182, 3) := dk_180 0 182 (dk_at dksX1_rateOf_0 1 rfl rfl)
theorem dX1_rateOf_4 : decode cX1_rateOf 4 = .ok (.ifCond .eq 10, 3) := dk_153 0 10 (dk_at dksX1_rateOf_0 4 rfl rfl)
theorem dX1_rateOf_7 : decode cX1_rateOf 7 = .ok (.aload_n 1, 1) := dk_43 (dk_at dksX1_rateOf_0 7 rfl rfl)
theorem dX1_rateOf_8 : decode cX1_rateOf 8 = .ok (.getfield 186, 3) := dk_180 0 186 (dk_at dksX1_rateOf_0 8 rfl rfl)
theorem dX1_rateOf_11 : decode cX1_rateOf 11 = .ok (.goto 4, 3) := dk_167 0 4 (dk_at dksX1_rateOf_0 11 rfl rfl)
theorem dX1_rateOf_14 : decode cX1_rateOf 14 = .ok (.iconst 0, 1) := dk_3 (dk_at dksX1_rateOf_0 14 rfl rfl)
theorem dX1_rateOf_15 : decode cX1_rateOf 15 = .ok (.istore 4, 2) := dk_54 4 (dk_at dksX1_rateOf_0 15 rfl rfl)
theorem dX1_rateOf_17 : decode cX1_rateOf 17 = .ok (.iconst 0, 1) := dk_3 (dk_at dksX1_rateOf_0 17 rfl rfl)
theorem dX1_rateOf_18 : decode cX1_rateOf 18 = .ok (.istore 5, 2) := dk_54 5 (dk_at dksX1_rateOf_0 18 rfl rfl)
theorem dX1_rateOf_20 : decode cX1_rateOf 20 = .ok (.iload 5, 2) := dk_21 5 (dk_at dksX1_rateOf_0 20 rfl rfl)
theorem dX1_rateOf_22 : decode cX1_rateOf 22 = .ok (.iconst 3, 1) := dk_6 (dk_at dksX1_rateOf_0 22 rfl rfl)
theorem dX1_rateOf_23 : decode cX1_rateOf 23 = .ok (.if_icmp .ge 36, 3) := dk_162 0 36 (dk_at dksX1_rateOf_1 0 rfl rfl)
theorem dX1_rateOf_26 : decode cX1_rateOf 26 = .ok (.aload_n 2, 1) := dk_44 (dk_at dksX1_rateOf_1 3 rfl rfl)
theorem dX1_rateOf_27 : decode cX1_rateOf 27 = .ok (.getfield 182, 3) := dk_180 0 182 (dk_at dksX1_rateOf_1 4 rfl rfl)
theorem dX1_rateOf_30 : decode cX1_rateOf 30 = .ok (.ifCond .eq 29, 3) := dk_153 0 29 (dk_at dksX1_rateOf_1 7 rfl rfl)
theorem dX1_rateOf_33 : decode cX1_rateOf 33 = .ok (.iload 4, 2) := dk_21 4 (dk_at dksX1_rateOf_1 10 rfl rfl)
theorem dX1_rateOf_35 : decode cX1_rateOf 35 = .ok (.aload_n 2, 1) := dk_44 (dk_at dksX1_rateOf_1 12 rfl rfl)
theorem dX1_rateOf_36 : decode cX1_rateOf 36 = .ok (.getfield 189, 3) := dk_180 0 189 (dk_at dksX1_rateOf_1 13 rfl rfl)
theorem dX1_rateOf_39 : decode cX1_rateOf 39 = .ok (.iload 5, 2) := dk_21 5 (dk_at dksX1_rateOf_1 16 rfl rfl)
theorem dX1_rateOf_41 : decode cX1_rateOf 41 = .ok (.iaload, 1) := dk_46 (dk_at dksX1_rateOf_1 18 rfl rfl)
theorem dX1_rateOf_42 : decode cX1_rateOf 42 = .ok (.aload_n 0, 1) := dk_42 (dk_at dksX1_rateOf_1 19 rfl rfl)
theorem dX1_rateOf_43 : decode cX1_rateOf 43 = .ok (.iload 5, 2) := dk_21 5 (dk_at dksX1_rateOf_1 20 rfl rfl)
theorem dX1_rateOf_45 : decode cX1_rateOf 45 = .ok (.iload_n 3, 1) := dk_29 (dk_at dksX1_rateOf_1 22 rfl rfl)
theorem dX1_rateOf_46 : decode cX1_rateOf 46 = .ok (.invokevirtual 191, 3) := dk_182 0 191 (dk_at dksX1_rateOf_2 0 rfl rfl)
theorem dX1_rateOf_49 : decode cX1_rateOf 49 = .ok (.imul, 1) := dk_104 (dk_at dksX1_rateOf_2 3 rfl rfl)
theorem dX1_rateOf_50 : decode cX1_rateOf 50 = .ok (.iadd, 1) := dk_96 (dk_at dksX1_rateOf_2 4 rfl rfl)
theorem dX1_rateOf_51 : decode cX1_rateOf 51 = .ok (.istore 4, 2) := dk_54 4 (dk_at dksX1_rateOf_2 5 rfl rfl)
theorem dX1_rateOf_53 : decode cX1_rateOf 53 = .ok (.iinc 5 1, 3) := dk_132 5 1 (dk_at dksX1_rateOf_2 7 rfl rfl)
theorem dX1_rateOf_56 : decode cX1_rateOf 56 = .ok (.goto (-36), 3) := dk_167 255 220 (dk_at dksX1_rateOf_2 10 rfl rfl)
theorem dX1_rateOf_59 : decode cX1_rateOf 59 = .ok (.iload 4, 2) := dk_21 4 (dk_at dksX1_rateOf_2 13 rfl rfl)
theorem dX1_rateOf_61 : decode cX1_rateOf 61 = .ok (.ireturn, 1) := dk_172 (dk_at dksX1_rateOf_2 15 rfl rfl)
abbrev cX1_weight : ByteArray := prog_1_method_20_code
def yX1_weight : MethodName := ⟨RX1, "weight", "(II)I"⟩
def dkwX1_weight_3 : List UInt8 := [62, 25, 6, 182, 0, 177, 54, 4, 132, 5, 1, 167, 255, 182, 29, 172]
abbrev dktX1_weight_3 : List UInt8 := dkwX1_weight_3 ++ []
def dkwX1_weight_2 : List UInt8 := [25, 6, 182, 0, 177, 28, 163, 0, 26, 25, 6, 182, 0, 177, 21, 4, 161, 0, 16, 25, 6, 182, 0, 179]
abbrev dktX1_weight_2 : List UInt8 := dkwX1_weight_2 ++ dktX1_weight_3
def dkwX1_weight_1 : List UInt8 := [180, 0, 21, 21, 5, 185, 0, 47, 2, 0, 192, 0, 70, 58, 6, 25, 6, 182, 0, 174, 27, 160, 0, 35]
abbrev dktX1_weight_1 : List UInt8 := dkwX1_weight_1 ++ dktX1_weight_2
def dkwX1_weight_0 : List UInt8 := [4, 62, 2, 54, 4, 3, 54, 5, 21, 5, 42, 180, 0, 21, 185, 0, 37, 1, 0, 162, 0, 66, 42]
abbrev dktX1_weight_0 : List UInt8 := dkwX1_weight_0 ++ dktX1_weight_1
theorem dksX1_weight_0 : cX1_weight.data.toList.drop 0 = dktX1_weight_0 := by decide +kernel
theorem dksX1_weight_1 : cX1_weight.data.toList.drop 23 = dktX1_weight_1 := dk_seg dksX1_weight_0 23 rfl rfl
theorem dksX1_weight_2 : cX1_weight.data.toList.drop 47 = dktX1_weight_2 := dk_seg dksX1_weight_1 24 rfl rfl
theorem dksX1_weight_3 : cX1_weight.data.toList.drop 71 = dktX1_weight_3 := dk_seg dksX1_weight_2 24 rfl rfl
theorem dX1_weight_0 : decode cX1_weight 0 = .ok (.iconst 1, 1) := dk_4 (dk_at dksX1_weight_0 0 rfl rfl)
theorem dX1_weight_1 : decode cX1_weight 1 = .ok (.istore_n 3, 1) := dk_62 (dk_at dksX1_weight_0 1 rfl rfl)
theorem dX1_weight_2 : decode cX1_weight 2 = .ok (.iconst (-1), 1) := dk_2 (dk_at dksX1_weight_0 2 rfl rfl)
theorem dX1_weight_3 : decode cX1_weight 3 = .ok (.istore 4, 2) := dk_54 4 (dk_at dksX1_weight_0 3 rfl rfl)
theorem dX1_weight_5 : decode cX1_weight 5 = .ok (.iconst 0, 1) := dk_3 (dk_at dksX1_weight_0 5 rfl rfl)
theorem dX1_weight_6 : decode cX1_weight 6 = .ok (.istore 5, 2) := dk_54 5 (dk_at dksX1_weight_0 6 rfl rfl)
theorem dX1_weight_8 : decode cX1_weight 8 = .ok (.iload 5, 2) := dk_21 5 (dk_at dksX1_weight_0 8 rfl rfl)
theorem dX1_weight_10 : decode cX1_weight 10 = .ok (.aload_n 0, 1) := dk_42 (dk_at dksX1_weight_0 10 rfl rfl)
theorem dX1_weight_11 : decode cX1_weight 11 = .ok (.getfield 21, 3) := dk_180 0 21 (dk_at dksX1_weight_0 11 rfl rfl)
theorem dX1_weight_14 : decode cX1_weight 14 = .ok (.invokeinterface 37 1, 5) := by decide +kernel
theorem dX1_weight_19 : decode cX1_weight 19 = .ok (.if_icmp .ge 66, 3) := dk_162 0 66 (dk_at dksX1_weight_0 19 rfl rfl)
theorem dX1_weight_22 : decode cX1_weight 22 = .ok (.aload_n 0, 1) := dk_42 (dk_at dksX1_weight_0 22 rfl rfl)
theorem dX1_weight_23 : decode cX1_weight 23 = .ok (.getfield 21, 3) := dk_180 0 21 (dk_at dksX1_weight_1 0 rfl rfl)
theorem dX1_weight_26 : decode cX1_weight 26 = .ok (.iload 5, 2) := dk_21 5 (dk_at dksX1_weight_1 3 rfl rfl)
theorem dX1_weight_28 : decode cX1_weight 28 = .ok (.invokeinterface 47 2, 5) := by decide +kernel
theorem dX1_weight_33 : decode cX1_weight 33 = .ok (.checkcast 70, 3) := dk_192 0 70 (dk_at dksX1_weight_1 10 rfl rfl)
theorem dX1_weight_36 : decode cX1_weight 36 = .ok (.astore 6, 2) := dk_58 6 (dk_at dksX1_weight_1 13 rfl rfl)
theorem dX1_weight_38 : decode cX1_weight 38 = .ok (.aload 6, 2) := dk_25 6 (dk_at dksX1_weight_1 15 rfl rfl)
theorem dX1_weight_40 : decode cX1_weight 40 = .ok (.invokevirtual 174, 3) := dk_182 0 174 (dk_at dksX1_weight_1 17 rfl rfl)
theorem dX1_weight_43 : decode cX1_weight 43 = .ok (.iload_n 1, 1) := dk_27 (dk_at dksX1_weight_1 20 rfl rfl)
theorem dX1_weight_44 : decode cX1_weight 44 = .ok (.if_icmp .ne 35, 3) := dk_160 0 35 (dk_at dksX1_weight_1 21 rfl rfl)
theorem dX1_weight_47 : decode cX1_weight 47 = .ok (.aload 6, 2) := dk_25 6 (dk_at dksX1_weight_2 0 rfl rfl)
theorem dX1_weight_49 : decode cX1_weight 49 = .ok (.invokevirtual 177, 3) := dk_182 0 177 (dk_at dksX1_weight_2 2 rfl rfl)
theorem dX1_weight_52 : decode cX1_weight 52 = .ok (.iload_n 2, 1) := dk_28 (dk_at dksX1_weight_2 5 rfl rfl)
theorem dX1_weight_53 : decode cX1_weight 53 = .ok (.if_icmp .gt 26, 3) := dk_163 0 26 (dk_at dksX1_weight_2 6 rfl rfl)
theorem dX1_weight_56 : decode cX1_weight 56 = .ok (.aload 6, 2) := dk_25 6 (dk_at dksX1_weight_2 9 rfl rfl)
theorem dX1_weight_58 : decode cX1_weight 58 = .ok (.invokevirtual 177, 3) := dk_182 0 177 (dk_at dksX1_weight_2 11 rfl rfl)
theorem dX1_weight_61 : decode cX1_weight 61 = .ok (.iload 4, 2) := dk_21 4 (dk_at dksX1_weight_2 14 rfl rfl)
theorem dX1_weight_63 : decode cX1_weight 63 = .ok (.if_icmp .lt 16, 3) := dk_161 0 16 (dk_at dksX1_weight_2 16 rfl rfl)
theorem dX1_weight_66 : decode cX1_weight 66 = .ok (.aload 6, 2) := dk_25 6 (dk_at dksX1_weight_2 19 rfl rfl)
theorem dX1_weight_68 : decode cX1_weight 68 = .ok (.invokevirtual 179, 3) := dk_182 0 179 (dk_at dksX1_weight_2 21 rfl rfl)
theorem dX1_weight_71 : decode cX1_weight 71 = .ok (.istore_n 3, 1) := dk_62 (dk_at dksX1_weight_3 0 rfl rfl)
theorem dX1_weight_72 : decode cX1_weight 72 = .ok (.aload 6, 2) := dk_25 6 (dk_at dksX1_weight_3 1 rfl rfl)
theorem dX1_weight_74 : decode cX1_weight 74 = .ok (.invokevirtual 177, 3) := dk_182 0 177 (dk_at dksX1_weight_3 3 rfl rfl)
theorem dX1_weight_77 : decode cX1_weight 77 = .ok (.istore 4, 2) := dk_54 4 (dk_at dksX1_weight_3 6 rfl rfl)
theorem dX1_weight_79 : decode cX1_weight 79 = .ok (.iinc 5 1, 3) := dk_132 5 1 (dk_at dksX1_weight_3 8 rfl rfl)
theorem dX1_weight_82 : decode cX1_weight 82 = .ok (.goto (-74), 3) := dk_167 255 182 (dk_at dksX1_weight_3 11 rfl rfl)
theorem dX1_weight_85 : decode cX1_weight 85 = .ok (.iload_n 3, 1) := dk_29 (dk_at dksX1_weight_3 14 rfl rfl)
theorem dX1_weight_86 : decode cX1_weight 86 = .ok (.ireturn, 1) := dk_172 (dk_at dksX1_weight_3 15 rfl rfl)
abbrev cX1_segments : ByteArray := prog_1_method_32_code
def yX1_segments : MethodName := ⟨RX1, "segments", "(II)I"⟩
def dkwX1_segments_1 : List UInt8 := [185, 0, 37, 1, 0, 172]
abbrev dktX1_segments_1 : List UInt8 := dkwX1_segments_1 ++ []
def dkwX1_segments_0 : List UInt8 := [42, 27, 182, 0, 97, 78, 28, 3, 42, 180, 0, 74, 184, 0, 55, 42, 45, 28, 182, 0, 218]
abbrev dktX1_segments_0 : List UInt8 := dkwX1_segments_0 ++ dktX1_segments_1
theorem dksX1_segments_0 : cX1_segments.data.toList.drop 0 = dktX1_segments_0 := by decide +kernel
theorem dksX1_segments_1 : cX1_segments.data.toList.drop 21 = dktX1_segments_1 := dk_seg dksX1_segments_0 21 rfl rfl
theorem dX1_segments_0 : decode cX1_segments 0 = .ok (.aload_n 0, 1) := dk_42 (dk_at dksX1_segments_0 0 rfl rfl)
theorem dX1_segments_1 : decode cX1_segments 1 = .ok (.iload_n 1, 1) := dk_27 (dk_at dksX1_segments_0 1 rfl rfl)
theorem dX1_segments_2 : decode cX1_segments 2 = .ok (.invokevirtual 97, 3) := dk_182 0 97 (dk_at dksX1_segments_0 2 rfl rfl)
theorem dX1_segments_5 : decode cX1_segments 5 = .ok (.astore_n 3, 1) := dk_78 (dk_at dksX1_segments_0 5 rfl rfl)
theorem dX1_segments_6 : decode cX1_segments 6 = .ok (.iload_n 2, 1) := dk_28 (dk_at dksX1_segments_0 6 rfl rfl)
theorem dX1_segments_7 : decode cX1_segments 7 = .ok (.iconst 0, 1) := dk_3 (dk_at dksX1_segments_0 7 rfl rfl)
theorem dX1_segments_8 : decode cX1_segments 8 = .ok (.aload_n 0, 1) := dk_42 (dk_at dksX1_segments_0 8 rfl rfl)
theorem dX1_segments_9 : decode cX1_segments 9 = .ok (.getfield 74, 3) := dk_180 0 74 (dk_at dksX1_segments_0 9 rfl rfl)
theorem dX1_segments_12 : decode cX1_segments 12 = .ok (.invokestatic 55, 3) := dk_184 0 55 (dk_at dksX1_segments_0 12 rfl rfl)
theorem dX1_segments_15 : decode cX1_segments 15 = .ok (.aload_n 0, 1) := dk_42 (dk_at dksX1_segments_0 15 rfl rfl)
theorem dX1_segments_16 : decode cX1_segments 16 = .ok (.aload_n 3, 1) := dk_45 (dk_at dksX1_segments_0 16 rfl rfl)
theorem dX1_segments_17 : decode cX1_segments 17 = .ok (.iload_n 2, 1) := dk_28 (dk_at dksX1_segments_0 17 rfl rfl)
theorem dX1_segments_18 : decode cX1_segments 18 = .ok (.invokevirtual 218, 3) := dk_182 0 218 (dk_at dksX1_segments_0 18 rfl rfl)
theorem dX1_segments_21 : decode cX1_segments 21 = .ok (.invokeinterface 37 1, 5) := by decide +kernel
theorem dX1_segments_26 : decode cX1_segments 26 = .ok (.ireturn, 1) := dk_172 (dk_at dksX1_segments_1 5 rfl rfl)
abbrev cX1_starts : ByteArray := prog_1_method_28_code
def yX1_starts : MethodName := ⟨RX1, "starts", "(LBackdater$Policy;I)Ljava/util/List;"⟩
def dkwX1_starts_3 : List UInt8 := [87, 132, 4, 1, 167, 255, 199, 45, 176]
abbrev dktX1_starts_3 : List UInt8 := dkwX1_starts_3 ++ []
def dkwX1_starts_2 : List UInt8 := [46, 42, 180, 0, 24, 21, 4, 4, 100, 46, 159, 0, 15, 45, 21, 4, 184, 0, 87, 185, 0, 66, 2, 0]
abbrev dktX1_starts_2 : List UInt8 := dkwX1_starts_2 ++ dktX1_starts_3
def dkwX1_starts_1 : List UInt8 := [162, 0, 55, 42, 180, 0, 24, 21, 4, 46, 158, 0, 39, 21, 4, 153, 0, 22, 42, 180, 0, 24, 21, 4]
abbrev dktX1_starts_1 : List UInt8 := dkwX1_starts_1 ++ dktX1_starts_2
def dkwX1_starts_0 : List UInt8 := [42, 43, 28, 182, 0, 210, 187, 0, 9, 89, 183, 0, 11, 78, 3, 54, 4, 21, 4, 17, 1, 109]
abbrev dktX1_starts_0 : List UInt8 := dkwX1_starts_0 ++ dktX1_starts_1
theorem dksX1_starts_0 : cX1_starts.data.toList.drop 0 = dktX1_starts_0 := by decide +kernel
theorem dksX1_starts_1 : cX1_starts.data.toList.drop 22 = dktX1_starts_1 := dk_seg dksX1_starts_0 22 rfl rfl
theorem dksX1_starts_2 : cX1_starts.data.toList.drop 46 = dktX1_starts_2 := dk_seg dksX1_starts_1 24 rfl rfl
theorem dksX1_starts_3 : cX1_starts.data.toList.drop 70 = dktX1_starts_3 := dk_seg dksX1_starts_2 24 rfl rfl
theorem dX1_starts_0 : decode cX1_starts 0 = .ok (.aload_n 0, 1) := dk_42 (dk_at dksX1_starts_0 0 rfl rfl)
theorem dX1_starts_1 : decode cX1_starts 1 = .ok (.aload_n 1, 1) := dk_43 (dk_at dksX1_starts_0 1 rfl rfl)
theorem dX1_starts_2 : decode cX1_starts 2 = .ok (.iload_n 2, 1) := dk_28 (dk_at dksX1_starts_0 2 rfl rfl)
theorem dX1_starts_3 : decode cX1_starts 3 = .ok (.invokevirtual 210, 3) := dk_182 0 210 (dk_at dksX1_starts_0 3 rfl rfl)
theorem dX1_starts_6 : decode cX1_starts 6 = .ok (.new 9, 3) := dk_187 0 9 (dk_at dksX1_starts_0 6 rfl rfl)
theorem dX1_starts_9 : decode cX1_starts 9 = .ok (.dup, 1) := dk_89 (dk_at dksX1_starts_0 9 rfl rfl)
theorem dX1_starts_10 : decode cX1_starts 10 = .ok (.invokespecial 11, 3) := dk_183 0 11 (dk_at dksX1_starts_0 10 rfl rfl)
theorem dX1_starts_13 : decode cX1_starts 13 = .ok (.astore_n 3, 1) := dk_78 (dk_at dksX1_starts_0 13 rfl rfl)
theorem dX1_starts_14 : decode cX1_starts 14 = .ok (.iconst 0, 1) := dk_3 (dk_at dksX1_starts_0 14 rfl rfl)
theorem dX1_starts_15 : decode cX1_starts 15 = .ok (.istore 4, 2) := dk_54 4 (dk_at dksX1_starts_0 15 rfl rfl)
theorem dX1_starts_17 : decode cX1_starts 17 = .ok (.iload 4, 2) := dk_21 4 (dk_at dksX1_starts_0 17 rfl rfl)
theorem dX1_starts_19 : decode cX1_starts 19 = .ok (.sipush 365, 3) := dk_17 1 109 (dk_at dksX1_starts_0 19 rfl rfl)
theorem dX1_starts_22 : decode cX1_starts 22 = .ok (.if_icmp .ge 55, 3) := dk_162 0 55 (dk_at dksX1_starts_1 0 rfl rfl)
theorem dX1_starts_25 : decode cX1_starts 25 = .ok (.aload_n 0, 1) := dk_42 (dk_at dksX1_starts_1 3 rfl rfl)
theorem dX1_starts_26 : decode cX1_starts 26 = .ok (.getfield 24, 3) := dk_180 0 24 (dk_at dksX1_starts_1 4 rfl rfl)
theorem dX1_starts_29 : decode cX1_starts 29 = .ok (.iload 4, 2) := dk_21 4 (dk_at dksX1_starts_1 7 rfl rfl)
theorem dX1_starts_31 : decode cX1_starts 31 = .ok (.iaload, 1) := dk_46 (dk_at dksX1_starts_1 9 rfl rfl)
theorem dX1_starts_32 : decode cX1_starts 32 = .ok (.ifCond .le 39, 3) := dk_158 0 39 (dk_at dksX1_starts_1 10 rfl rfl)
theorem dX1_starts_35 : decode cX1_starts 35 = .ok (.iload 4, 2) := dk_21 4 (dk_at dksX1_starts_1 13 rfl rfl)
theorem dX1_starts_37 : decode cX1_starts 37 = .ok (.ifCond .eq 22, 3) := dk_153 0 22 (dk_at dksX1_starts_1 15 rfl rfl)
theorem dX1_starts_40 : decode cX1_starts 40 = .ok (.aload_n 0, 1) := dk_42 (dk_at dksX1_starts_1 18 rfl rfl)
theorem dX1_starts_41 : decode cX1_starts 41 = .ok (.getfield 24, 3) := dk_180 0 24 (dk_at dksX1_starts_1 19 rfl rfl)
theorem dX1_starts_44 : decode cX1_starts 44 = .ok (.iload 4, 2) := dk_21 4 (dk_at dksX1_starts_1 22 rfl rfl)
theorem dX1_starts_46 : decode cX1_starts 46 = .ok (.iaload, 1) := dk_46 (dk_at dksX1_starts_2 0 rfl rfl)
theorem dX1_starts_47 : decode cX1_starts 47 = .ok (.aload_n 0, 1) := dk_42 (dk_at dksX1_starts_2 1 rfl rfl)
theorem dX1_starts_48 : decode cX1_starts 48 = .ok (.getfield 24, 3) := dk_180 0 24 (dk_at dksX1_starts_2 2 rfl rfl)
theorem dX1_starts_51 : decode cX1_starts 51 = .ok (.iload 4, 2) := dk_21 4 (dk_at dksX1_starts_2 5 rfl rfl)
theorem dX1_starts_53 : decode cX1_starts 53 = .ok (.iconst 1, 1) := dk_4 (dk_at dksX1_starts_2 7 rfl rfl)
theorem dX1_starts_54 : decode cX1_starts 54 = .ok (.isub, 1) := dk_100 (dk_at dksX1_starts_2 8 rfl rfl)
theorem dX1_starts_55 : decode cX1_starts 55 = .ok (.iaload, 1) := dk_46 (dk_at dksX1_starts_2 9 rfl rfl)
theorem dX1_starts_56 : decode cX1_starts 56 = .ok (.if_icmp .eq 15, 3) := dk_159 0 15 (dk_at dksX1_starts_2 10 rfl rfl)
theorem dX1_starts_59 : decode cX1_starts 59 = .ok (.aload_n 3, 1) := dk_45 (dk_at dksX1_starts_2 13 rfl rfl)
theorem dX1_starts_60 : decode cX1_starts 60 = .ok (.iload 4, 2) := dk_21 4 (dk_at dksX1_starts_2 14 rfl rfl)
theorem dX1_starts_62 : decode cX1_starts 62 = .ok (.invokestatic 87, 3) := dk_184 0 87 (dk_at dksX1_starts_2 16 rfl rfl)
theorem dX1_starts_65 : decode cX1_starts 65 = .ok (.invokeinterface 66 2, 5) := by decide +kernel
theorem dX1_starts_70 : decode cX1_starts 70 = .ok (.pop, 1) := dk_87 (dk_at dksX1_starts_3 0 rfl rfl)
theorem dX1_starts_71 : decode cX1_starts 71 = .ok (.iinc 4 1, 3) := dk_132 4 1 (dk_at dksX1_starts_3 1 rfl rfl)
theorem dX1_starts_74 : decode cX1_starts 74 = .ok (.goto (-57), 3) := dk_167 255 199 (dk_at dksX1_starts_3 4 rfl rfl)
theorem dX1_starts_77 : decode cX1_starts 77 = .ok (.aload_n 3, 1) := dk_45 (dk_at dksX1_starts_3 7 rfl rfl)
theorem dX1_starts_78 : decode cX1_starts 78 = .ok (.areturn, 1) := dk_176 (dk_at dksX1_starts_3 8 rfl rfl)
abbrev cX1_findRates : ByteArray := prog_1_method_26_code
def yX1_findRates : MethodName := ⟨RX1, "findRates", "(LBackdater$Policy;I)V"⟩
def dkwX1_findRates_4 : List UInt8 := [17, 1, 109, 182, 0, 206, 177]
abbrev dktX1_findRates_4 : List UInt8 := dkwX1_findRates_4 ++ []
def dkwX1_findRates_3 : List UInt8 := [180, 0, 129, 54, 4, 25, 6, 180, 0, 165, 45, 185, 0, 169, 2, 0, 167, 255, 194, 42, 43, 45, 21, 4]
abbrev dktX1_findRates_3 : List UInt8 := dkwX1_findRates_3 ++ dktX1_findRates_4
def dkwX1_findRates_2 : List UInt8 := [25, 6, 28, 182, 0, 132, 153, 0, 34, 42, 43, 45, 21, 4, 25, 6, 180, 0, 129, 182, 0, 206, 25, 6]
abbrev dktX1_findRates_2 : List UInt8 := dkwX1_findRates_2 ++ dktX1_findRates_3
def dkwX1_findRates_1 : List UInt8 := [58, 5, 25, 5, 185, 0, 155, 1, 0, 153, 0, 58, 25, 5, 185, 0, 161, 1, 0, 192, 0, 53, 58, 6]
abbrev dktX1_findRates_1 : List UInt8 := dkwX1_findRates_1 ++ dktX1_findRates_2
def dkwX1_findRates_0 : List UInt8 := [187, 0, 136, 89, 183, 0, 138, 78, 3, 54, 4, 43, 180, 0, 81, 182, 0, 205, 185, 0, 149, 1, 0]
abbrev dktX1_findRates_0 : List UInt8 := dkwX1_findRates_0 ++ dktX1_findRates_1
theorem dksX1_findRates_0 : cX1_findRates.data.toList.drop 0 = dktX1_findRates_0 := by decide +kernel
theorem dksX1_findRates_1 : cX1_findRates.data.toList.drop 23 = dktX1_findRates_1 := dk_seg dksX1_findRates_0 23 rfl rfl
theorem dksX1_findRates_2 : cX1_findRates.data.toList.drop 47 = dktX1_findRates_2 := dk_seg dksX1_findRates_1 24 rfl rfl
theorem dksX1_findRates_3 : cX1_findRates.data.toList.drop 71 = dktX1_findRates_3 := dk_seg dksX1_findRates_2 24 rfl rfl
theorem dksX1_findRates_4 : cX1_findRates.data.toList.drop 95 = dktX1_findRates_4 := dk_seg dksX1_findRates_3 24 rfl rfl
theorem dX1_findRates_0 : decode cX1_findRates 0 = .ok (.new 136, 3) := dk_187 0 136 (dk_at dksX1_findRates_0 0 rfl rfl)
theorem dX1_findRates_3 : decode cX1_findRates 3 = .ok (.dup, 1) := dk_89 (dk_at dksX1_findRates_0 3 rfl rfl)
theorem dX1_findRates_4 : decode cX1_findRates 4 = .ok (.invokespecial 138, 3) := dk_183 0 138 (dk_at dksX1_findRates_0 4 rfl rfl)
theorem dX1_findRates_7 : decode cX1_findRates 7 = .ok (.astore_n 3, 1) := dk_78 (dk_at dksX1_findRates_0 7 rfl rfl)
theorem dX1_findRates_8 : decode cX1_findRates 8 = .ok (.iconst 0, 1) := dk_3 (dk_at dksX1_findRates_0 8 rfl rfl)
theorem dX1_findRates_9 : decode cX1_findRates 9 = .ok (.istore 4, 2) := dk_54 4 (dk_at dksX1_findRates_0 9 rfl rfl)
theorem dX1_findRates_11 : decode cX1_findRates 11 = .ok (.aload_n 1, 1) := dk_43 (dk_at dksX1_findRates_0 11 rfl rfl)
theorem dX1_findRates_12 : decode cX1_findRates 12 = .ok (.getfield 81, 3) := dk_180 0 81 (dk_at dksX1_findRates_0 12 rfl rfl)
theorem dX1_findRates_15 : decode cX1_findRates 15 = .ok (.invokevirtual 205, 3) := dk_182 0 205 (dk_at dksX1_findRates_0 15 rfl rfl)
theorem dX1_findRates_18 : decode cX1_findRates 18 = .ok (.invokeinterface 149 1, 5) := by decide +kernel
theorem dX1_findRates_23 : decode cX1_findRates 23 = .ok (.astore 5, 2) := dk_58 5 (dk_at dksX1_findRates_1 0 rfl rfl)
theorem dX1_findRates_25 : decode cX1_findRates 25 = .ok (.aload 5, 2) := dk_25 5 (dk_at dksX1_findRates_1 2 rfl rfl)
theorem dX1_findRates_27 : decode cX1_findRates 27 = .ok (.invokeinterface 155 1, 5) := by decide +kernel
theorem dX1_findRates_32 : decode cX1_findRates 32 = .ok (.ifCond .eq 58, 3) := dk_153 0 58 (dk_at dksX1_findRates_1 9 rfl rfl)
theorem dX1_findRates_35 : decode cX1_findRates 35 = .ok (.aload 5, 2) := dk_25 5 (dk_at dksX1_findRates_1 12 rfl rfl)
theorem dX1_findRates_37 : decode cX1_findRates 37 = .ok (.invokeinterface 161 1, 5) := by decide +kernel
theorem dX1_findRates_42 : decode cX1_findRates 42 = .ok (.checkcast 53, 3) := dk_192 0 53 (dk_at dksX1_findRates_1 19 rfl rfl)
theorem dX1_findRates_45 : decode cX1_findRates 45 = .ok (.astore 6, 2) := dk_58 6 (dk_at dksX1_findRates_1 22 rfl rfl)
theorem dX1_findRates_47 : decode cX1_findRates 47 = .ok (.aload 6, 2) := dk_25 6 (dk_at dksX1_findRates_2 0 rfl rfl)
theorem dX1_findRates_49 : decode cX1_findRates 49 = .ok (.iload_n 2, 1) := dk_28 (dk_at dksX1_findRates_2 2 rfl rfl)
theorem dX1_findRates_50 : decode cX1_findRates 50 = .ok (.invokevirtual 132, 3) := dk_182 0 132 (dk_at dksX1_findRates_2 3 rfl rfl)
theorem dX1_findRates_53 : decode cX1_findRates 53 = .ok (.ifCond .eq 34, 3) := dk_153 0 34 (dk_at dksX1_findRates_2 6 rfl rfl)
theorem dX1_findRates_56 : decode cX1_findRates 56 = .ok (.aload_n 0, 1) := dk_42 (dk_at dksX1_findRates_2 9 rfl rfl)
theorem dX1_findRates_57 : decode cX1_findRates 57 = .ok (.aload_n 1, 1) := dk_43 (dk_at dksX1_findRates_2 10 rfl rfl)
theorem dX1_findRates_58 : decode cX1_findRates 58 = .ok (.aload_n 3, 1) := dk_45 (dk_at dksX1_findRates_2 11 rfl rfl)
theorem dX1_findRates_59 : decode cX1_findRates 59 = .ok (.iload 4, 2) := dk_21 4 (dk_at dksX1_findRates_2 12 rfl rfl)
theorem dX1_findRates_61 : decode cX1_findRates 61 = .ok (.aload 6, 2) := dk_25 6 (dk_at dksX1_findRates_2 14 rfl rfl)
theorem dX1_findRates_63 : decode cX1_findRates 63 = .ok (.getfield 129, 3) := dk_180 0 129 (dk_at dksX1_findRates_2 16 rfl rfl)
theorem dX1_findRates_66 : decode cX1_findRates 66 = .ok (.invokevirtual 206, 3) := dk_182 0 206 (dk_at dksX1_findRates_2 19 rfl rfl)
theorem dX1_findRates_69 : decode cX1_findRates 69 = .ok (.aload 6, 2) := dk_25 6 (dk_at dksX1_findRates_2 22 rfl rfl)
theorem dX1_findRates_71 : decode cX1_findRates 71 = .ok (.getfield 129, 3) := dk_180 0 129 (dk_at dksX1_findRates_3 0 rfl rfl)
theorem dX1_findRates_74 : decode cX1_findRates 74 = .ok (.istore 4, 2) := dk_54 4 (dk_at dksX1_findRates_3 3 rfl rfl)
theorem dX1_findRates_76 : decode cX1_findRates 76 = .ok (.aload 6, 2) := dk_25 6 (dk_at dksX1_findRates_3 5 rfl rfl)
theorem dX1_findRates_78 : decode cX1_findRates 78 = .ok (.getfield 165, 3) := dk_180 0 165 (dk_at dksX1_findRates_3 7 rfl rfl)
theorem dX1_findRates_81 : decode cX1_findRates 81 = .ok (.aload_n 3, 1) := dk_45 (dk_at dksX1_findRates_3 10 rfl rfl)
theorem dX1_findRates_82 : decode cX1_findRates 82 = .ok (.invokeinterface 169 2, 5) := by decide +kernel
theorem dX1_findRates_87 : decode cX1_findRates 87 = .ok (.goto (-62), 3) := dk_167 255 194 (dk_at dksX1_findRates_3 16 rfl rfl)
theorem dX1_findRates_90 : decode cX1_findRates 90 = .ok (.aload_n 0, 1) := dk_42 (dk_at dksX1_findRates_3 19 rfl rfl)
theorem dX1_findRates_91 : decode cX1_findRates 91 = .ok (.aload_n 1, 1) := dk_43 (dk_at dksX1_findRates_3 20 rfl rfl)
theorem dX1_findRates_92 : decode cX1_findRates 92 = .ok (.aload_n 3, 1) := dk_45 (dk_at dksX1_findRates_3 21 rfl rfl)
theorem dX1_findRates_93 : decode cX1_findRates 93 = .ok (.iload 4, 2) := dk_21 4 (dk_at dksX1_findRates_3 22 rfl rfl)
theorem dX1_findRates_95 : decode cX1_findRates 95 = .ok (.sipush 365, 3) := dk_17 1 109 (dk_at dksX1_findRates_4 0 rfl rfl)
theorem dX1_findRates_98 : decode cX1_findRates 98 = .ok (.invokevirtual 206, 3) := dk_182 0 206 (dk_at dksX1_findRates_4 3 rfl rfl)
theorem dX1_findRates_101 : decode cX1_findRates 101 = .ok (.return_, 1) := dk_177 (dk_at dksX1_findRates_4 6 rfl rfl)
abbrev cX1_fill : ByteArray := prog_1_method_27_code
def yX1_fill : MethodName := ⟨RX1, "fill", "(LBackdater$Policy;LBackdater$Version;II)V"⟩
def dkwX1_fill_1 : List UInt8 := [79, 132, 5, 1, 167, 255, 231, 177]
abbrev dktX1_fill_1 : List UInt8 := dkwX1_fill_1 ++ []
def dkwX1_fill_0 : List UInt8 := [29, 54, 5, 21, 5, 21, 4, 162, 0, 24, 42, 180, 0, 24, 21, 5, 42, 43, 44, 21, 5, 182, 0, 201]
abbrev dktX1_fill_0 : List UInt8 := dkwX1_fill_0 ++ dktX1_fill_1
theorem dksX1_fill_0 : cX1_fill.data.toList.drop 0 = dktX1_fill_0 := by decide +kernel
theorem dksX1_fill_1 : cX1_fill.data.toList.drop 24 = dktX1_fill_1 := dk_seg dksX1_fill_0 24 rfl rfl
theorem dX1_fill_0 : decode cX1_fill 0 = .ok (.iload_n 3, 1) := dk_29 (dk_at dksX1_fill_0 0 rfl rfl)
theorem dX1_fill_1 : decode cX1_fill 1 = .ok (.istore 5, 2) := dk_54 5 (dk_at dksX1_fill_0 1 rfl rfl)
theorem dX1_fill_3 : decode cX1_fill 3 = .ok (.iload 5, 2) := dk_21 5 (dk_at dksX1_fill_0 3 rfl rfl)
theorem dX1_fill_5 : decode cX1_fill 5 = .ok (.iload 4, 2) := dk_21 4 (dk_at dksX1_fill_0 5 rfl rfl)
theorem dX1_fill_7 : decode cX1_fill 7 = .ok (.if_icmp .ge 24, 3) := dk_162 0 24 (dk_at dksX1_fill_0 7 rfl rfl)
theorem dX1_fill_10 : decode cX1_fill 10 = .ok (.aload_n 0, 1) := dk_42 (dk_at dksX1_fill_0 10 rfl rfl)
theorem dX1_fill_11 : decode cX1_fill 11 = .ok (.getfield 24, 3) := dk_180 0 24 (dk_at dksX1_fill_0 11 rfl rfl)
theorem dX1_fill_14 : decode cX1_fill 14 = .ok (.iload 5, 2) := dk_21 5 (dk_at dksX1_fill_0 14 rfl rfl)
theorem dX1_fill_16 : decode cX1_fill 16 = .ok (.aload_n 0, 1) := dk_42 (dk_at dksX1_fill_0 16 rfl rfl)
theorem dX1_fill_17 : decode cX1_fill 17 = .ok (.aload_n 1, 1) := dk_43 (dk_at dksX1_fill_0 17 rfl rfl)
theorem dX1_fill_18 : decode cX1_fill 18 = .ok (.aload_n 2, 1) := dk_44 (dk_at dksX1_fill_0 18 rfl rfl)
theorem dX1_fill_19 : decode cX1_fill 19 = .ok (.iload 5, 2) := dk_21 5 (dk_at dksX1_fill_0 19 rfl rfl)
theorem dX1_fill_21 : decode cX1_fill 21 = .ok (.invokevirtual 201, 3) := dk_182 0 201 (dk_at dksX1_fill_0 21 rfl rfl)
theorem dX1_fill_24 : decode cX1_fill 24 = .ok (.iastore, 1) := dk_79 (dk_at dksX1_fill_1 0 rfl rfl)
theorem dX1_fill_25 : decode cX1_fill 25 = .ok (.iinc 5 1, 3) := dk_132 5 1 (dk_at dksX1_fill_1 1 rfl rfl)
theorem dX1_fill_28 : decode cX1_fill 28 = .ok (.goto (-25), 3) := dk_167 255 231 (dk_at dksX1_fill_1 4 rfl rfl)
theorem dX1_fill_31 : decode cX1_fill 31 = .ok (.return_, 1) := dk_177 (dk_at dksX1_fill_1 7 rfl rfl)
abbrev cX1_segmentStart : ByteArray := prog_1_method_34_code
def yX1_segmentStart : MethodName := ⟨RX1, "segmentStart", "(III)I"⟩
def dkwX1_segmentStart_0 : List UInt8 := [42, 27, 28, 29, 182, 0, 229, 172]
abbrev dktX1_segmentStart_0 : List UInt8 := dkwX1_segmentStart_0 ++ []
theorem dksX1_segmentStart_0 : cX1_segmentStart.data.toList.drop 0 = dktX1_segmentStart_0 := by decide +kernel
theorem dX1_segmentStart_0 : decode cX1_segmentStart 0 = .ok (.aload_n 0, 1) := dk_42 (dk_at dksX1_segmentStart_0 0 rfl rfl)
theorem dX1_segmentStart_1 : decode cX1_segmentStart 1 = .ok (.iload_n 1, 1) := dk_27 (dk_at dksX1_segmentStart_0 1 rfl rfl)
theorem dX1_segmentStart_2 : decode cX1_segmentStart 2 = .ok (.iload_n 2, 1) := dk_28 (dk_at dksX1_segmentStart_0 2 rfl rfl)
theorem dX1_segmentStart_3 : decode cX1_segmentStart 3 = .ok (.iload_n 3, 1) := dk_29 (dk_at dksX1_segmentStart_0 3 rfl rfl)
theorem dX1_segmentStart_4 : decode cX1_segmentStart 4 = .ok (.invokevirtual 229, 3) := dk_182 0 229 (dk_at dksX1_segmentStart_0 4 rfl rfl)
theorem dX1_segmentStart_7 : decode cX1_segmentStart 7 = .ok (.ireturn, 1) := dk_172 (dk_at dksX1_segmentStart_0 7 rfl rfl)
abbrev cX1_startOf : ByteArray := prog_1_method_33_code
def yX1_startOf : MethodName := ⟨RX1, "startOf", "(III)I"⟩
def dkwX1_startOf_1 : List UInt8 := [185, 0, 37, 1, 0, 184, 0, 43, 25, 4, 28, 185, 0, 47, 2, 0, 192, 0, 1, 182, 0, 223, 172]
abbrev dktX1_startOf_1 : List UInt8 := dkwX1_startOf_1 ++ []
def dkwX1_startOf_0 : List UInt8 := [29, 3, 42, 180, 0, 74, 184, 0, 55, 42, 42, 27, 182, 0, 97, 29, 182, 0, 218, 58, 4, 28, 25, 4]
abbrev dktX1_startOf_0 : List UInt8 := dkwX1_startOf_0 ++ dktX1_startOf_1
theorem dksX1_startOf_0 : cX1_startOf.data.toList.drop 0 = dktX1_startOf_0 := by decide +kernel
theorem dksX1_startOf_1 : cX1_startOf.data.toList.drop 24 = dktX1_startOf_1 := dk_seg dksX1_startOf_0 24 rfl rfl
theorem dX1_startOf_0 : decode cX1_startOf 0 = .ok (.iload_n 3, 1) := dk_29 (dk_at dksX1_startOf_0 0 rfl rfl)
theorem dX1_startOf_1 : decode cX1_startOf 1 = .ok (.iconst 0, 1) := dk_3 (dk_at dksX1_startOf_0 1 rfl rfl)
theorem dX1_startOf_2 : decode cX1_startOf 2 = .ok (.aload_n 0, 1) := dk_42 (dk_at dksX1_startOf_0 2 rfl rfl)
theorem dX1_startOf_3 : decode cX1_startOf 3 = .ok (.getfield 74, 3) := dk_180 0 74 (dk_at dksX1_startOf_0 3 rfl rfl)
theorem dX1_startOf_6 : decode cX1_startOf 6 = .ok (.invokestatic 55, 3) := dk_184 0 55 (dk_at dksX1_startOf_0 6 rfl rfl)
theorem dX1_startOf_9 : decode cX1_startOf 9 = .ok (.aload_n 0, 1) := dk_42 (dk_at dksX1_startOf_0 9 rfl rfl)
theorem dX1_startOf_10 : decode cX1_startOf 10 = .ok (.aload_n 0, 1) := dk_42 (dk_at dksX1_startOf_0 10 rfl rfl)
theorem dX1_startOf_11 : decode cX1_startOf 11 = .ok (.iload_n 1, 1) := dk_27 (dk_at dksX1_startOf_0 11 rfl rfl)
theorem dX1_startOf_12 : decode cX1_startOf 12 = .ok (.invokevirtual 97, 3) := dk_182 0 97 (dk_at dksX1_startOf_0 12 rfl rfl)
theorem dX1_startOf_15 : decode cX1_startOf 15 = .ok (.iload_n 3, 1) := dk_29 (dk_at dksX1_startOf_0 15 rfl rfl)
theorem dX1_startOf_16 : decode cX1_startOf 16 = .ok (.invokevirtual 218, 3) := dk_182 0 218 (dk_at dksX1_startOf_0 16 rfl rfl)
theorem dX1_startOf_19 : decode cX1_startOf 19 = .ok (.astore 4, 2) := dk_58 4 (dk_at dksX1_startOf_0 19 rfl rfl)
theorem dX1_startOf_21 : decode cX1_startOf 21 = .ok (.iload_n 2, 1) := dk_28 (dk_at dksX1_startOf_0 21 rfl rfl)
theorem dX1_startOf_22 : decode cX1_startOf 22 = .ok (.aload 4, 2) := dk_25 4 (dk_at dksX1_startOf_0 22 rfl rfl)
theorem dX1_startOf_24 : decode cX1_startOf 24 = .ok (.invokeinterface 37 1, 5) := by decide +kernel
theorem dX1_startOf_29 : decode cX1_startOf 29 = .ok (.invokestatic 43, 3) := dk_184 0 43 (dk_at dksX1_startOf_1 5 rfl rfl)
theorem dX1_startOf_32 : decode cX1_startOf 32 = .ok (.aload 4, 2) := dk_25 4 (dk_at dksX1_startOf_1 8 rfl rfl)
theorem dX1_startOf_34 : decode cX1_startOf 34 = .ok (.iload_n 2, 1) := dk_28 (dk_at dksX1_startOf_1 10 rfl rfl)
theorem dX1_startOf_35 : decode cX1_startOf 35 = .ok (.invokeinterface 47 2, 5) := by decide +kernel
theorem dX1_startOf_40 : decode cX1_startOf 40 = .ok (.checkcast 1, 3) := dk_192 0 1 (dk_at dksX1_startOf_1 16 rfl rfl)
theorem dX1_startOf_43 : decode cX1_startOf 43 = .ok (.invokevirtual 223, 3) := dk_182 0 223 (dk_at dksX1_startOf_1 19 rfl rfl)
theorem dX1_startOf_46 : decode cX1_startOf 46 = .ok (.ireturn, 1) := dk_172 (dk_at dksX1_startOf_1 22 rfl rfl)
abbrev cX1_segmentPremium : ByteArray := prog_1_method_35_code
def yX1_segmentPremium : MethodName := ⟨RX1, "segmentPremium", "(III)I"⟩
def dkwX1_segmentPremium_0 : List UInt8 := [42, 42, 27, 28, 29, 182, 0, 229, 182, 0, 226, 172]
abbrev dktX1_segmentPremium_0 : List UInt8 := dkwX1_segmentPremium_0 ++ []
theorem dksX1_segmentPremium_0 : cX1_segmentPremium.data.toList.drop 0 = dktX1_segmentPremium_0 := by decide +kernel
theorem dX1_segmentPremium_0 : decode cX1_segmentPremium 0 = .ok (.aload_n 0, 1) := dk_42 (dk_at dksX1_segmentPremium_0 0 rfl rfl)
theorem dX1_segmentPremium_1 : decode cX1_segmentPremium 1 = .ok (.aload_n 0, 1) := dk_42 (dk_at dksX1_segmentPremium_0 1 rfl rfl)
theorem dX1_segmentPremium_2 : decode cX1_segmentPremium 2 = .ok (.iload_n 1, 1) := dk_27 (dk_at dksX1_segmentPremium_0 2 rfl rfl)
theorem dX1_segmentPremium_3 : decode cX1_segmentPremium 3 = .ok (.iload_n 2, 1) := dk_28 (dk_at dksX1_segmentPremium_0 3 rfl rfl)
theorem dX1_segmentPremium_4 : decode cX1_segmentPremium 4 = .ok (.iload_n 3, 1) := dk_29 (dk_at dksX1_segmentPremium_0 4 rfl rfl)
theorem dX1_segmentPremium_5 : decode cX1_segmentPremium 5 = .ok (.invokevirtual 229, 3) := dk_182 0 229 (dk_at dksX1_segmentPremium_0 5 rfl rfl)
theorem dX1_segmentPremium_8 : decode cX1_segmentPremium 8 = .ok (.invokevirtual 226, 3) := dk_182 0 226 (dk_at dksX1_segmentPremium_0 8 rfl rfl)
theorem dX1_segmentPremium_11 : decode cX1_segmentPremium 11 = .ok (.ireturn, 1) := dk_172 (dk_at dksX1_segmentPremium_0 11 rfl rfl)
abbrev cX1_premiumFrom : ByteArray := prog_1_method_30_code
def yX1_premiumFrom : MethodName := ⟨RX1, "premiumFrom", "(I)I"⟩
def dkwX1_premiumFrom_1 : List UInt8 := [160, 0, 9, 132, 2, 1, 167, 255, 231, 42, 28, 182, 0, 214, 42, 27, 182, 0, 214, 100, 172]
abbrev dktX1_premiumFrom_1 : List UInt8 := dkwX1_premiumFrom_1 ++ []
def dkwX1_premiumFrom_0 : List UInt8 := [27, 4, 96, 61, 28, 17, 1, 109, 162, 0, 24, 42, 180, 0, 24, 28, 46, 42, 180, 0, 24, 27, 46]
abbrev dktX1_premiumFrom_0 : List UInt8 := dkwX1_premiumFrom_0 ++ dktX1_premiumFrom_1
theorem dksX1_premiumFrom_0 : cX1_premiumFrom.data.toList.drop 0 = dktX1_premiumFrom_0 := by decide +kernel
theorem dksX1_premiumFrom_1 : cX1_premiumFrom.data.toList.drop 23 = dktX1_premiumFrom_1 := dk_seg dksX1_premiumFrom_0 23 rfl rfl
theorem dX1_premiumFrom_0 : decode cX1_premiumFrom 0 = .ok (.iload_n 1, 1) := dk_27 (dk_at dksX1_premiumFrom_0 0 rfl rfl)
theorem dX1_premiumFrom_1 : decode cX1_premiumFrom 1 = .ok (.iconst 1, 1) := dk_4 (dk_at dksX1_premiumFrom_0 1 rfl rfl)
theorem dX1_premiumFrom_2 : decode cX1_premiumFrom 2 = .ok (.iadd, 1) := dk_96 (dk_at dksX1_premiumFrom_0 2 rfl rfl)
theorem dX1_premiumFrom_3 : decode cX1_premiumFrom 3 = .ok (.istore_n 2, 1) := dk_61 (dk_at dksX1_premiumFrom_0 3 rfl rfl)
theorem dX1_premiumFrom_4 : decode cX1_premiumFrom 4 = .ok (.iload_n 2, 1) := dk_28 (dk_at dksX1_premiumFrom_0 4 rfl rfl)
theorem dX1_premiumFrom_5 : decode cX1_premiumFrom 5 = .ok (.sipush 365, 3) := dk_17 1 109 (dk_at dksX1_premiumFrom_0 5 rfl rfl)
theorem dX1_premiumFrom_8 : decode cX1_premiumFrom 8 = .ok (.if_icmp .ge 24, 3) := dk_162 0 24 (dk_at dksX1_premiumFrom_0 8 rfl rfl)
theorem dX1_premiumFrom_11 : decode cX1_premiumFrom 11 = .ok (.aload_n 0, 1) := dk_42 (dk_at dksX1_premiumFrom_0 11 rfl rfl)
theorem dX1_premiumFrom_12 : decode cX1_premiumFrom 12 = .ok (.getfield 24, 3) := dk_180 0 24 (dk_at dksX1_premiumFrom_0 12 rfl rfl)
theorem dX1_premiumFrom_15 : decode cX1_premiumFrom 15 = .ok (.iload_n 2, 1) := dk_28 (dk_at dksX1_premiumFrom_0 15 rfl rfl)
theorem dX1_premiumFrom_16 : decode cX1_premiumFrom 16 = .ok (.iaload, 1) := dk_46 (dk_at dksX1_premiumFrom_0 16 rfl rfl)
theorem dX1_premiumFrom_17 : decode cX1_premiumFrom 17 = .ok (.aload_n 0, 1) := dk_42 (dk_at dksX1_premiumFrom_0 17 rfl rfl)
theorem dX1_premiumFrom_18 : decode cX1_premiumFrom 18 = .ok (.getfield 24, 3) := dk_180 0 24 (dk_at dksX1_premiumFrom_0 18 rfl rfl)
theorem dX1_premiumFrom_21 : decode cX1_premiumFrom 21 = .ok (.iload_n 1, 1) := dk_27 (dk_at dksX1_premiumFrom_0 21 rfl rfl)
theorem dX1_premiumFrom_22 : decode cX1_premiumFrom 22 = .ok (.iaload, 1) := dk_46 (dk_at dksX1_premiumFrom_0 22 rfl rfl)
theorem dX1_premiumFrom_23 : decode cX1_premiumFrom 23 = .ok (.if_icmp .ne 9, 3) := dk_160 0 9 (dk_at dksX1_premiumFrom_1 0 rfl rfl)
theorem dX1_premiumFrom_26 : decode cX1_premiumFrom 26 = .ok (.iinc 2 1, 3) := dk_132 2 1 (dk_at dksX1_premiumFrom_1 3 rfl rfl)
theorem dX1_premiumFrom_29 : decode cX1_premiumFrom 29 = .ok (.goto (-25), 3) := dk_167 255 231 (dk_at dksX1_premiumFrom_1 6 rfl rfl)
theorem dX1_premiumFrom_32 : decode cX1_premiumFrom 32 = .ok (.aload_n 0, 1) := dk_42 (dk_at dksX1_premiumFrom_1 9 rfl rfl)
theorem dX1_premiumFrom_33 : decode cX1_premiumFrom 33 = .ok (.iload_n 2, 1) := dk_28 (dk_at dksX1_premiumFrom_1 10 rfl rfl)
theorem dX1_premiumFrom_34 : decode cX1_premiumFrom 34 = .ok (.invokevirtual 214, 3) := dk_182 0 214 (dk_at dksX1_premiumFrom_1 11 rfl rfl)
theorem dX1_premiumFrom_37 : decode cX1_premiumFrom 37 = .ok (.aload_n 0, 1) := dk_42 (dk_at dksX1_premiumFrom_1 14 rfl rfl)
theorem dX1_premiumFrom_38 : decode cX1_premiumFrom 38 = .ok (.iload_n 1, 1) := dk_27 (dk_at dksX1_premiumFrom_1 15 rfl rfl)
theorem dX1_premiumFrom_39 : decode cX1_premiumFrom 39 = .ok (.invokevirtual 214, 3) := dk_182 0 214 (dk_at dksX1_premiumFrom_1 16 rfl rfl)
theorem dX1_premiumFrom_42 : decode cX1_premiumFrom 42 = .ok (.isub, 1) := dk_100 (dk_at dksX1_premiumFrom_1 19 rfl rfl)
theorem dX1_premiumFrom_43 : decode cX1_premiumFrom 43 = .ok (.ireturn, 1) := dk_172 (dk_at dksX1_premiumFrom_1 20 rfl rfl)
abbrev cX1_charge : ByteArray := prog_1_method_29_code
def yX1_charge : MethodName := ⟨RX1, "charge", "(I)I"⟩
def dkwX1_charge_1 : List UInt8 := [28, 17, 1, 109, 108, 172]
abbrev dktX1_charge_1 : List UInt8 := dkwX1_charge_1 ++ []
def dkwX1_charge_0 : List UInt8 := [3, 61, 3, 62, 29, 27, 162, 0, 18, 28, 42, 180, 0, 24, 29, 46, 96, 61, 132, 3, 1, 167, 255, 239]
abbrev dktX1_charge_0 : List UInt8 := dkwX1_charge_0 ++ dktX1_charge_1
theorem dksX1_charge_0 : cX1_charge.data.toList.drop 0 = dktX1_charge_0 := by decide +kernel
theorem dksX1_charge_1 : cX1_charge.data.toList.drop 24 = dktX1_charge_1 := dk_seg dksX1_charge_0 24 rfl rfl
theorem dX1_charge_0 : decode cX1_charge 0 = .ok (.iconst 0, 1) := dk_3 (dk_at dksX1_charge_0 0 rfl rfl)
theorem dX1_charge_1 : decode cX1_charge 1 = .ok (.istore_n 2, 1) := dk_61 (dk_at dksX1_charge_0 1 rfl rfl)
theorem dX1_charge_2 : decode cX1_charge 2 = .ok (.iconst 0, 1) := dk_3 (dk_at dksX1_charge_0 2 rfl rfl)
theorem dX1_charge_3 : decode cX1_charge 3 = .ok (.istore_n 3, 1) := dk_62 (dk_at dksX1_charge_0 3 rfl rfl)
theorem dX1_charge_4 : decode cX1_charge 4 = .ok (.iload_n 3, 1) := dk_29 (dk_at dksX1_charge_0 4 rfl rfl)
theorem dX1_charge_5 : decode cX1_charge 5 = .ok (.iload_n 1, 1) := dk_27 (dk_at dksX1_charge_0 5 rfl rfl)
theorem dX1_charge_6 : decode cX1_charge 6 = .ok (.if_icmp .ge 18, 3) := dk_162 0 18 (dk_at dksX1_charge_0 6 rfl rfl)
theorem dX1_charge_9 : decode cX1_charge 9 = .ok (.iload_n 2, 1) := dk_28 (dk_at dksX1_charge_0 9 rfl rfl)
theorem dX1_charge_10 : decode cX1_charge 10 = .ok (.aload_n 0, 1) := dk_42 (dk_at dksX1_charge_0 10 rfl rfl)
theorem dX1_charge_11 : decode cX1_charge 11 = .ok (.getfield 24, 3) := dk_180 0 24 (dk_at dksX1_charge_0 11 rfl rfl)
theorem dX1_charge_14 : decode cX1_charge 14 = .ok (.iload_n 3, 1) := dk_29 (dk_at dksX1_charge_0 14 rfl rfl)
theorem dX1_charge_15 : decode cX1_charge 15 = .ok (.iaload, 1) := dk_46 (dk_at dksX1_charge_0 15 rfl rfl)
theorem dX1_charge_16 : decode cX1_charge 16 = .ok (.iadd, 1) := dk_96 (dk_at dksX1_charge_0 16 rfl rfl)
theorem dX1_charge_17 : decode cX1_charge 17 = .ok (.istore_n 2, 1) := dk_61 (dk_at dksX1_charge_0 17 rfl rfl)
theorem dX1_charge_18 : decode cX1_charge 18 = .ok (.iinc 3 1, 3) := dk_132 3 1 (dk_at dksX1_charge_0 18 rfl rfl)
theorem dX1_charge_21 : decode cX1_charge 21 = .ok (.goto (-17), 3) := dk_167 255 239 (dk_at dksX1_charge_0 21 rfl rfl)
theorem dX1_charge_24 : decode cX1_charge 24 = .ok (.iload_n 2, 1) := dk_28 (dk_at dksX1_charge_1 0 rfl rfl)
theorem dX1_charge_25 : decode cX1_charge 25 = .ok (.sipush 365, 3) := dk_17 1 109 (dk_at dksX1_charge_1 1 rfl rfl)
theorem dX1_charge_28 : decode cX1_charge 28 = .ok (.idiv, 1) := dk_108 (dk_at dksX1_charge_1 4 rfl rfl)
theorem dX1_charge_29 : decode cX1_charge 29 = .ok (.ireturn, 1) := dk_172 (dk_at dksX1_charge_1 5 rfl rfl)
abbrev cX1_premium : ByteArray := prog_1_method_36_code
def yX1_premium : MethodName := ⟨RX1, "premium", "(II)I"⟩
def dkwX1_premium_0 : List UInt8 := [42, 27, 182, 0, 97, 78, 28, 3, 42, 180, 0, 74, 184, 0, 55, 42, 45, 28, 182, 0, 233, 172]
abbrev dktX1_premium_0 : List UInt8 := dkwX1_premium_0 ++ []
theorem dksX1_premium_0 : cX1_premium.data.toList.drop 0 = dktX1_premium_0 := by decide +kernel
theorem dX1_premium_0 : decode cX1_premium 0 = .ok (.aload_n 0, 1) := dk_42 (dk_at dksX1_premium_0 0 rfl rfl)
theorem dX1_premium_1 : decode cX1_premium 1 = .ok (.iload_n 1, 1) := dk_27 (dk_at dksX1_premium_0 1 rfl rfl)
theorem dX1_premium_2 : decode cX1_premium 2 = .ok (.invokevirtual 97, 3) := dk_182 0 97 (dk_at dksX1_premium_0 2 rfl rfl)
theorem dX1_premium_5 : decode cX1_premium 5 = .ok (.astore_n 3, 1) := dk_78 (dk_at dksX1_premium_0 5 rfl rfl)
theorem dX1_premium_6 : decode cX1_premium 6 = .ok (.iload_n 2, 1) := dk_28 (dk_at dksX1_premium_0 6 rfl rfl)
theorem dX1_premium_7 : decode cX1_premium 7 = .ok (.iconst 0, 1) := dk_3 (dk_at dksX1_premium_0 7 rfl rfl)
theorem dX1_premium_8 : decode cX1_premium 8 = .ok (.aload_n 0, 1) := dk_42 (dk_at dksX1_premium_0 8 rfl rfl)
theorem dX1_premium_9 : decode cX1_premium 9 = .ok (.getfield 74, 3) := dk_180 0 74 (dk_at dksX1_premium_0 9 rfl rfl)
theorem dX1_premium_12 : decode cX1_premium 12 = .ok (.invokestatic 55, 3) := dk_184 0 55 (dk_at dksX1_premium_0 12 rfl rfl)
theorem dX1_premium_15 : decode cX1_premium 15 = .ok (.aload_n 0, 1) := dk_42 (dk_at dksX1_premium_0 15 rfl rfl)
theorem dX1_premium_16 : decode cX1_premium 16 = .ok (.aload_n 3, 1) := dk_45 (dk_at dksX1_premium_0 16 rfl rfl)
theorem dX1_premium_17 : decode cX1_premium 17 = .ok (.iload_n 2, 1) := dk_28 (dk_at dksX1_premium_0 17 rfl rfl)
theorem dX1_premium_18 : decode cX1_premium 18 = .ok (.invokevirtual 233, 3) := dk_182 0 233 (dk_at dksX1_premium_0 18 rfl rfl)
theorem dX1_premium_21 : decode cX1_premium 21 = .ok (.ireturn, 1) := dk_172 (dk_at dksX1_premium_0 21 rfl rfl)
abbrev cX1_premiumOf : ByteArray := prog_1_method_31_code
def yX1_premiumOf : MethodName := ⟨RX1, "premiumOf", "(LBackdater$Policy;I)I"⟩
def dkwX1_premiumOf_2 : List UInt8 := [182, 0, 226, 96, 62, 167, 255, 222, 29, 172]
abbrev dktX1_premiumOf_2 : List UInt8 := dkwX1_premiumOf_2 ++ []
def dkwX1_premiumOf_1 : List UInt8 := [153, 0, 30, 25, 4, 185, 0, 161, 1, 0, 192, 0, 1, 182, 0, 223, 54, 5, 29, 42, 21, 5]
abbrev dktX1_premiumOf_1 : List UInt8 := dkwX1_premiumOf_1 ++ dktX1_premiumOf_2
def dkwX1_premiumOf_0 : List UInt8 := [3, 62, 42, 43, 28, 182, 0, 218, 185, 0, 222, 1, 0, 58, 4, 25, 4, 185, 0, 155, 1, 0]
abbrev dktX1_premiumOf_0 : List UInt8 := dkwX1_premiumOf_0 ++ dktX1_premiumOf_1
theorem dksX1_premiumOf_0 : cX1_premiumOf.data.toList.drop 0 = dktX1_premiumOf_0 := by decide +kernel
theorem dksX1_premiumOf_1 : cX1_premiumOf.data.toList.drop 22 = dktX1_premiumOf_1 := dk_seg dksX1_premiumOf_0 22 rfl rfl
theorem dksX1_premiumOf_2 : cX1_premiumOf.data.toList.drop 44 = dktX1_premiumOf_2 := dk_seg dksX1_premiumOf_1 22 rfl rfl
theorem dX1_premiumOf_0 : decode cX1_premiumOf 0 = .ok (.iconst 0, 1) := dk_3 (dk_at dksX1_premiumOf_0 0 rfl rfl)
theorem dX1_premiumOf_1 : decode cX1_premiumOf 1 = .ok (.istore_n 3, 1) := dk_62 (dk_at dksX1_premiumOf_0 1 rfl rfl)
theorem dX1_premiumOf_2 : decode cX1_premiumOf 2 = .ok (.aload_n 0, 1) := dk_42 (dk_at dksX1_premiumOf_0 2 rfl rfl)
theorem dX1_premiumOf_3 : decode cX1_premiumOf 3 = .ok (.aload_n 1, 1) := dk_43 (dk_at dksX1_premiumOf_0 3 rfl rfl)
theorem dX1_premiumOf_4 : decode cX1_premiumOf 4 = .ok (.iload_n 2, 1) := dk_28 (dk_at dksX1_premiumOf_0 4 rfl rfl)
theorem dX1_premiumOf_5 : decode cX1_premiumOf 5 = .ok (.invokevirtual 218, 3) := dk_182 0 218 (dk_at dksX1_premiumOf_0 5 rfl rfl)
theorem dX1_premiumOf_8 : decode cX1_premiumOf 8 = .ok (.invokeinterface 222 1, 5) := by decide +kernel
theorem dX1_premiumOf_13 : decode cX1_premiumOf 13 = .ok (.astore 4, 2) := dk_58 4 (dk_at dksX1_premiumOf_0 13 rfl rfl)
theorem dX1_premiumOf_15 : decode cX1_premiumOf 15 = .ok (.aload 4, 2) := dk_25 4 (dk_at dksX1_premiumOf_0 15 rfl rfl)
theorem dX1_premiumOf_17 : decode cX1_premiumOf 17 = .ok (.invokeinterface 155 1, 5) := by decide +kernel
theorem dX1_premiumOf_22 : decode cX1_premiumOf 22 = .ok (.ifCond .eq 30, 3) := dk_153 0 30 (dk_at dksX1_premiumOf_1 0 rfl rfl)
theorem dX1_premiumOf_25 : decode cX1_premiumOf 25 = .ok (.aload 4, 2) := dk_25 4 (dk_at dksX1_premiumOf_1 3 rfl rfl)
theorem dX1_premiumOf_27 : decode cX1_premiumOf 27 = .ok (.invokeinterface 161 1, 5) := by decide +kernel
theorem dX1_premiumOf_32 : decode cX1_premiumOf 32 = .ok (.checkcast 1, 3) := dk_192 0 1 (dk_at dksX1_premiumOf_1 10 rfl rfl)
theorem dX1_premiumOf_35 : decode cX1_premiumOf 35 = .ok (.invokevirtual 223, 3) := dk_182 0 223 (dk_at dksX1_premiumOf_1 13 rfl rfl)
theorem dX1_premiumOf_38 : decode cX1_premiumOf 38 = .ok (.istore 5, 2) := dk_54 5 (dk_at dksX1_premiumOf_1 16 rfl rfl)
theorem dX1_premiumOf_40 : decode cX1_premiumOf 40 = .ok (.iload_n 3, 1) := dk_29 (dk_at dksX1_premiumOf_1 18 rfl rfl)
theorem dX1_premiumOf_41 : decode cX1_premiumOf 41 = .ok (.aload_n 0, 1) := dk_42 (dk_at dksX1_premiumOf_1 19 rfl rfl)
theorem dX1_premiumOf_42 : decode cX1_premiumOf 42 = .ok (.iload 5, 2) := dk_21 5 (dk_at dksX1_premiumOf_1 20 rfl rfl)
theorem dX1_premiumOf_44 : decode cX1_premiumOf 44 = .ok (.invokevirtual 226, 3) := dk_182 0 226 (dk_at dksX1_premiumOf_2 0 rfl rfl)
theorem dX1_premiumOf_47 : decode cX1_premiumOf 47 = .ok (.iadd, 1) := dk_96 (dk_at dksX1_premiumOf_2 3 rfl rfl)
theorem dX1_premiumOf_48 : decode cX1_premiumOf 48 = .ok (.istore_n 3, 1) := dk_62 (dk_at dksX1_premiumOf_2 4 rfl rfl)
theorem dX1_premiumOf_49 : decode cX1_premiumOf 49 = .ok (.goto (-34), 3) := dk_167 255 222 (dk_at dksX1_premiumOf_2 5 rfl rfl)
theorem dX1_premiumOf_52 : decode cX1_premiumOf 52 = .ok (.iload_n 3, 1) := dk_29 (dk_at dksX1_premiumOf_2 8 rfl rfl)
theorem dX1_premiumOf_53 : decode cX1_premiumOf 53 = .ok (.ireturn, 1) := dk_172 (dk_at dksX1_premiumOf_2 9 rfl rfl)
abbrev cX1_premiumByDays : ByteArray := prog_1_method_37_code
def yX1_premiumByDays : MethodName := ⟨RX1, "premiumByDays", "(II)I"⟩
def dkwX1_premiumByDays_2 : List UInt8 := [54, 4, 132, 5, 1, 167, 255, 225, 21, 4, 17, 1, 109, 108, 172]
abbrev dktX1_premiumByDays_2 : List UInt8 := dkwX1_premiumByDays_2 ++ []
def dkwX1_premiumByDays_1 : List UInt8 := [17, 1, 109, 162, 0, 29, 21, 4, 42, 45, 42, 45, 21, 5, 28, 182, 0, 197, 21, 5, 182, 0, 201, 96]
abbrev dktX1_premiumByDays_1 : List UInt8 := dkwX1_premiumByDays_1 ++ dktX1_premiumByDays_2
def dkwX1_premiumByDays_0 : List UInt8 := [42, 27, 182, 0, 97, 78, 28, 3, 42, 180, 0, 74, 184, 0, 55, 3, 54, 4, 3, 54, 5, 21, 5]
abbrev dktX1_premiumByDays_0 : List UInt8 := dkwX1_premiumByDays_0 ++ dktX1_premiumByDays_1
theorem dksX1_premiumByDays_0 : cX1_premiumByDays.data.toList.drop 0 = dktX1_premiumByDays_0 := by decide +kernel
theorem dksX1_premiumByDays_1 : cX1_premiumByDays.data.toList.drop 23 = dktX1_premiumByDays_1 := dk_seg dksX1_premiumByDays_0 23 rfl rfl
theorem dksX1_premiumByDays_2 : cX1_premiumByDays.data.toList.drop 47 = dktX1_premiumByDays_2 := dk_seg dksX1_premiumByDays_1 24 rfl rfl
theorem dX1_premiumByDays_0 : decode cX1_premiumByDays 0 = .ok (.aload_n 0, 1) := dk_42 (dk_at dksX1_premiumByDays_0 0 rfl rfl)
theorem dX1_premiumByDays_1 : decode cX1_premiumByDays 1 = .ok (.iload_n 1, 1) := dk_27 (dk_at dksX1_premiumByDays_0 1 rfl rfl)
theorem dX1_premiumByDays_2 : decode cX1_premiumByDays 2 = .ok (.invokevirtual 97, 3) := dk_182 0 97 (dk_at dksX1_premiumByDays_0 2 rfl rfl)
theorem dX1_premiumByDays_5 : decode cX1_premiumByDays 5 = .ok (.astore_n 3, 1) := dk_78 (dk_at dksX1_premiumByDays_0 5 rfl rfl)
theorem dX1_premiumByDays_6 : decode cX1_premiumByDays 6 = .ok (.iload_n 2, 1) := dk_28 (dk_at dksX1_premiumByDays_0 6 rfl rfl)
theorem dX1_premiumByDays_7 : decode cX1_premiumByDays 7 = .ok (.iconst 0, 1) := dk_3 (dk_at dksX1_premiumByDays_0 7 rfl rfl)
theorem dX1_premiumByDays_8 : decode cX1_premiumByDays 8 = .ok (.aload_n 0, 1) := dk_42 (dk_at dksX1_premiumByDays_0 8 rfl rfl)
theorem dX1_premiumByDays_9 : decode cX1_premiumByDays 9 = .ok (.getfield 74, 3) := dk_180 0 74 (dk_at dksX1_premiumByDays_0 9 rfl rfl)
theorem dX1_premiumByDays_12 : decode cX1_premiumByDays 12 = .ok (.invokestatic 55, 3) := dk_184 0 55 (dk_at dksX1_premiumByDays_0 12 rfl rfl)
theorem dX1_premiumByDays_15 : decode cX1_premiumByDays 15 = .ok (.iconst 0, 1) := dk_3 (dk_at dksX1_premiumByDays_0 15 rfl rfl)
theorem dX1_premiumByDays_16 : decode cX1_premiumByDays 16 = .ok (.istore 4, 2) := dk_54 4 (dk_at dksX1_premiumByDays_0 16 rfl rfl)
theorem dX1_premiumByDays_18 : decode cX1_premiumByDays 18 = .ok (.iconst 0, 1) := dk_3 (dk_at dksX1_premiumByDays_0 18 rfl rfl)
theorem dX1_premiumByDays_19 : decode cX1_premiumByDays 19 = .ok (.istore 5, 2) := dk_54 5 (dk_at dksX1_premiumByDays_0 19 rfl rfl)
theorem dX1_premiumByDays_21 : decode cX1_premiumByDays 21 = .ok (.iload 5, 2) := dk_21 5 (dk_at dksX1_premiumByDays_0 21 rfl rfl)
theorem dX1_premiumByDays_23 : decode cX1_premiumByDays 23 = .ok (.sipush 365, 3) := dk_17 1 109 (dk_at dksX1_premiumByDays_1 0 rfl rfl)
theorem dX1_premiumByDays_26 : decode cX1_premiumByDays 26 = .ok (.if_icmp .ge 29, 3) := dk_162 0 29 (dk_at dksX1_premiumByDays_1 3 rfl rfl)
theorem dX1_premiumByDays_29 : decode cX1_premiumByDays 29 = .ok (.iload 4, 2) := dk_21 4 (dk_at dksX1_premiumByDays_1 6 rfl rfl)
theorem dX1_premiumByDays_31 : decode cX1_premiumByDays 31 = .ok (.aload_n 0, 1) := dk_42 (dk_at dksX1_premiumByDays_1 8 rfl rfl)
theorem dX1_premiumByDays_32 : decode cX1_premiumByDays 32 = .ok (.aload_n 3, 1) := dk_45 (dk_at dksX1_premiumByDays_1 9 rfl rfl)
theorem dX1_premiumByDays_33 : decode cX1_premiumByDays 33 = .ok (.aload_n 0, 1) := dk_42 (dk_at dksX1_premiumByDays_1 10 rfl rfl)
theorem dX1_premiumByDays_34 : decode cX1_premiumByDays 34 = .ok (.aload_n 3, 1) := dk_45 (dk_at dksX1_premiumByDays_1 11 rfl rfl)
theorem dX1_premiumByDays_35 : decode cX1_premiumByDays 35 = .ok (.iload 5, 2) := dk_21 5 (dk_at dksX1_premiumByDays_1 12 rfl rfl)
theorem dX1_premiumByDays_37 : decode cX1_premiumByDays 37 = .ok (.iload_n 2, 1) := dk_28 (dk_at dksX1_premiumByDays_1 14 rfl rfl)
theorem dX1_premiumByDays_38 : decode cX1_premiumByDays 38 = .ok (.invokevirtual 197, 3) := dk_182 0 197 (dk_at dksX1_premiumByDays_1 15 rfl rfl)
theorem dX1_premiumByDays_41 : decode cX1_premiumByDays 41 = .ok (.iload 5, 2) := dk_21 5 (dk_at dksX1_premiumByDays_1 18 rfl rfl)
theorem dX1_premiumByDays_43 : decode cX1_premiumByDays 43 = .ok (.invokevirtual 201, 3) := dk_182 0 201 (dk_at dksX1_premiumByDays_1 20 rfl rfl)
theorem dX1_premiumByDays_46 : decode cX1_premiumByDays 46 = .ok (.iadd, 1) := dk_96 (dk_at dksX1_premiumByDays_1 23 rfl rfl)
theorem dX1_premiumByDays_47 : decode cX1_premiumByDays 47 = .ok (.istore 4, 2) := dk_54 4 (dk_at dksX1_premiumByDays_2 0 rfl rfl)
theorem dX1_premiumByDays_49 : decode cX1_premiumByDays 49 = .ok (.iinc 5 1, 3) := dk_132 5 1 (dk_at dksX1_premiumByDays_2 2 rfl rfl)
theorem dX1_premiumByDays_52 : decode cX1_premiumByDays 52 = .ok (.goto (-31), 3) := dk_167 255 225 (dk_at dksX1_premiumByDays_2 5 rfl rfl)
theorem dX1_premiumByDays_55 : decode cX1_premiumByDays 55 = .ok (.iload 4, 2) := dk_21 4 (dk_at dksX1_premiumByDays_2 8 rfl rfl)
theorem dX1_premiumByDays_57 : decode cX1_premiumByDays 57 = .ok (.sipush 365, 3) := dk_17 1 109 (dk_at dksX1_premiumByDays_2 10 rfl rfl)
theorem dX1_premiumByDays_60 : decode cX1_premiumByDays 60 = .ok (.idiv, 1) := dk_108 (dk_at dksX1_premiumByDays_2 13 rfl rfl)
theorem dX1_premiumByDays_61 : decode cX1_premiumByDays 61 = .ok (.ireturn, 1) := dk_172 (dk_at dksX1_premiumByDays_2 14 rfl rfl)
abbrev cX1_bill : ByteArray := prog_1_method_38_code
def yX1_bill : MethodName := ⟨RX1, "bill", "(I)I"⟩
def dkwX1_bill_1 : List UInt8 := [180, 0, 237, 29, 96, 181, 0, 237, 29, 172]
abbrev dktX1_bill_1 : List UInt8 := dkwX1_bill_1 ++ []
def dkwX1_bill_0 : List UInt8 := [42, 27, 182, 0, 97, 77, 42, 44, 42, 180, 0, 74, 182, 0, 233, 44, 180, 0, 237, 100, 62, 44, 89]
abbrev dktX1_bill_0 : List UInt8 := dkwX1_bill_0 ++ dktX1_bill_1
theorem dksX1_bill_0 : cX1_bill.data.toList.drop 0 = dktX1_bill_0 := by decide +kernel
theorem dksX1_bill_1 : cX1_bill.data.toList.drop 23 = dktX1_bill_1 := dk_seg dksX1_bill_0 23 rfl rfl
theorem dX1_bill_0 : decode cX1_bill 0 = .ok (.aload_n 0, 1) := dk_42 (dk_at dksX1_bill_0 0 rfl rfl)
theorem dX1_bill_1 : decode cX1_bill 1 = .ok (.iload_n 1, 1) := dk_27 (dk_at dksX1_bill_0 1 rfl rfl)
theorem dX1_bill_2 : decode cX1_bill 2 = .ok (.invokevirtual 97, 3) := dk_182 0 97 (dk_at dksX1_bill_0 2 rfl rfl)
theorem dX1_bill_5 : decode cX1_bill 5 = .ok (.astore_n 2, 1) := dk_77 (dk_at dksX1_bill_0 5 rfl rfl)
theorem dX1_bill_6 : decode cX1_bill 6 = .ok (.aload_n 0, 1) := dk_42 (dk_at dksX1_bill_0 6 rfl rfl)
theorem dX1_bill_7 : decode cX1_bill 7 = .ok (.aload_n 2, 1) := dk_44 (dk_at dksX1_bill_0 7 rfl rfl)
theorem dX1_bill_8 : decode cX1_bill 8 = .ok (.aload_n 0, 1) := dk_42 (dk_at dksX1_bill_0 8 rfl rfl)
theorem dX1_bill_9 : decode cX1_bill 9 = .ok (.getfield 74, 3) := dk_180 0 74 (dk_at dksX1_bill_0 9 rfl rfl)
theorem dX1_bill_12 : decode cX1_bill 12 = .ok (.invokevirtual 233, 3) := dk_182 0 233 (dk_at dksX1_bill_0 12 rfl rfl)
theorem dX1_bill_15 : decode cX1_bill 15 = .ok (.aload_n 2, 1) := dk_44 (dk_at dksX1_bill_0 15 rfl rfl)
theorem dX1_bill_16 : decode cX1_bill 16 = .ok (.getfield 237, 3) := dk_180 0 237 (dk_at dksX1_bill_0 16 rfl rfl)
theorem dX1_bill_19 : decode cX1_bill 19 = .ok (.isub, 1) := dk_100 (dk_at dksX1_bill_0 19 rfl rfl)
theorem dX1_bill_20 : decode cX1_bill 20 = .ok (.istore_n 3, 1) := dk_62 (dk_at dksX1_bill_0 20 rfl rfl)
theorem dX1_bill_21 : decode cX1_bill 21 = .ok (.aload_n 2, 1) := dk_44 (dk_at dksX1_bill_0 21 rfl rfl)
theorem dX1_bill_22 : decode cX1_bill 22 = .ok (.dup, 1) := dk_89 (dk_at dksX1_bill_0 22 rfl rfl)
theorem dX1_bill_23 : decode cX1_bill 23 = .ok (.getfield 237, 3) := dk_180 0 237 (dk_at dksX1_bill_1 0 rfl rfl)
theorem dX1_bill_26 : decode cX1_bill 26 = .ok (.iload_n 3, 1) := dk_29 (dk_at dksX1_bill_1 3 rfl rfl)
theorem dX1_bill_27 : decode cX1_bill 27 = .ok (.iadd, 1) := dk_96 (dk_at dksX1_bill_1 4 rfl rfl)
theorem dX1_bill_28 : decode cX1_bill 28 = .ok (.putfield 237, 3) := dk_181 0 237 (dk_at dksX1_bill_1 5 rfl rfl)
theorem dX1_bill_31 : decode cX1_bill 31 = .ok (.iload_n 3, 1) := dk_29 (dk_at dksX1_bill_1 8 rfl rfl)
theorem dX1_bill_32 : decode cX1_bill 32 = .ok (.ireturn, 1) := dk_172 (dk_at dksX1_bill_1 9 rfl rfl)
abbrev cX1_billed : ByteArray := prog_1_method_39_code
def yX1_billed : MethodName := ⟨RX1, "billed", "(I)I"⟩
def dkwX1_billed_0 : List UInt8 := [42, 27, 182, 0, 97, 180, 0, 237, 172]
abbrev dktX1_billed_0 : List UInt8 := dkwX1_billed_0 ++ []
theorem dksX1_billed_0 : cX1_billed.data.toList.drop 0 = dktX1_billed_0 := by decide +kernel
theorem dX1_billed_0 : decode cX1_billed 0 = .ok (.aload_n 0, 1) := dk_42 (dk_at dksX1_billed_0 0 rfl rfl)
theorem dX1_billed_1 : decode cX1_billed 1 = .ok (.iload_n 1, 1) := dk_27 (dk_at dksX1_billed_0 1 rfl rfl)
theorem dX1_billed_2 : decode cX1_billed 2 = .ok (.invokevirtual 97, 3) := dk_182 0 97 (dk_at dksX1_billed_0 2 rfl rfl)
theorem dX1_billed_5 : decode cX1_billed 5 = .ok (.getfield 237, 3) := dk_180 0 237 (dk_at dksX1_billed_0 5 rfl rfl)
theorem dX1_billed_8 : decode cX1_billed 8 = .ok (.ireturn, 1) := dk_172 (dk_at dksX1_billed_0 8 rfl rfl)
theorem q36 : (Jvm.Cond.initialized "Backdater") ∈ lw_all := lw_g (lw_at lw_m1 1 rfl) rfl
theorem q82 : (Jvm.Cond.instantiable "Backdater" (5 : Nat)) ∈ lw_all := lw_g (lw_at lw_m1 47 rfl) rfl
theorem q84 : (Jvm.Cond.instanceMethod ({ cls := "Backdater", name := "<init>", desc := "()V" } : Jvm.MethodName)) ∈ lw_all := lw_g (lw_at lw_m1 49 rfl) rfl
theorem q85 : (Jvm.Cond.code ({ cls := "Backdater", name := "<init>", desc := "()V" } : Jvm.MethodName) prog_1_method_1_code (1 : Nat) (Option.none : Option Jvm.ClassFile.FieldType)) ∈ lw_all := lw_g (lw_at lw_m1 50 rfl) rfl
theorem q86 : (Jvm.Cond.methodLink "Backdater" (3 : Nat) ({ cls := "java/lang/Object", name := "<init>", desc := "()V" } : Jvm.MethodName)) ∈ lw_all := lw_g (lw_at lw_m1 51 rfl) rfl
theorem q89 : (Jvm.Cond.classLink "Backdater" (9 : Nat) "java/util/ArrayList") ∈ lw_all := lw_g (lw_at lw_m1 54 rfl) rfl
theorem q91 : (Jvm.Cond.methodLink "Backdater" (11 : Nat) ({ cls := "java/util/ArrayList", name := "<init>", desc := "()V" } : Jvm.MethodName)) ∈ lw_all := lw_g (lw_at lw_m1 56 rfl) rfl
theorem q118 : (Jvm.Cond.fieldLink "Backdater" (12 : Nat) "Backdater" "policies" "Ljava/util/List;") ∈ lw_all := lw_g (lw_at lw_m1 83 rfl) rfl
theorem q119 : (Jvm.Cond.fieldLink "Backdater" (18 : Nat) "Backdater" "changes" "Ljava/util/List;") ∈ lw_all := lw_g (lw_at lw_m1 84 rfl) rfl
theorem q120 : (Jvm.Cond.fieldLink "Backdater" (21 : Nat) "Backdater" "tariffs" "Ljava/util/List;") ∈ lw_all := lw_g (lw_at lw_m1 85 rfl) rfl
theorem q121 : (Jvm.Cond.fieldLink "Backdater" (74 : Nat) "Backdater" "today" "I") ∈ lw_all := lw_g (lw_at lw_m1 86 rfl) rfl
theorem q122 : (Jvm.Cond.fieldLink "Backdater" (24 : Nat) "Backdater" "rates" "[I") ∈ lw_all := lw_g (lw_at lw_m1 87 rfl) rfl
theorem q123 : (Jvm.Cond.laysFinal "Backdater" "Backdater" "policies" "Ljava/util/List;") ∈ lw_all := lw_g (lw_at lw_m1 88 rfl) rfl
theorem q124 : (Jvm.Cond.soleField "Backdater" "policies") ∈ lw_all := lw_g (lw_at lw_m1 89 rfl) rfl
theorem q125 : (Jvm.Cond.laysFinal "Backdater" "Backdater" "changes" "Ljava/util/List;") ∈ lw_all := lw_g (lw_at lw_m1 90 rfl) rfl
theorem q126 : (Jvm.Cond.soleField "Backdater" "changes") ∈ lw_all := lw_g (lw_at lw_m1 91 rfl) rfl
theorem q127 : (Jvm.Cond.laysFinal "Backdater" "Backdater" "tariffs" "Ljava/util/List;") ∈ lw_all := lw_g (lw_at lw_m1 92 rfl) rfl
theorem q128 : (Jvm.Cond.soleField "Backdater" "tariffs") ∈ lw_all := lw_g (lw_at lw_m1 93 rfl) rfl
theorem q129 : (Jvm.Cond.lays "Backdater" "Backdater" "today" "I") ∈ lw_all := lw_g (lw_at lw_m1 94 rfl) rfl
theorem q130 : (Jvm.Cond.soleField "Backdater" "today") ∈ lw_all := lw_g (lw_at lw_m1 95 rfl) rfl
theorem q131 : (Jvm.Cond.laysFinal "Backdater" "Backdater" "rates" "[I") ∈ lw_all := lw_g (lw_at lw_m1 96 rfl) rfl
theorem q132 : (Jvm.Cond.soleField "Backdater" "rates") ∈ lw_all := lw_g (lw_at lw_m1 97 rfl) rfl
theorem q133 : (Jvm.Cond.superclass "Backdater" "java/lang/Object") ∈ lw_all := lw_g (lw_at lw_m1 98 rfl) rfl
theorem q136 : (Jvm.Cond.instanceMethod ({ cls := "Backdater", name := "today", desc := "()I" } : Jvm.MethodName)) ∈ lw_all := lw_g (lw_at lw_m1 101 rfl) rfl
theorem q137 : (Jvm.Cond.selects "Backdater" ({ cls := "Backdater", name := "today", desc := "()I" } : Jvm.MethodName) ({ cls := "Backdater", name := "today", desc := "()I" } : Jvm.MethodName)) ∈ lw_all := lw_g (lw_at lw_m1 102 rfl) rfl
theorem q138 : (Jvm.Cond.code ({ cls := "Backdater", name := "today", desc := "()I" } : Jvm.MethodName) prog_1_method_10_code (1 : Nat) (Option.some Jvm.ClassFile.FieldType.int)) ∈ lw_all := lw_g (lw_at lw_m1 103 rfl) rfl
theorem q140 : (Jvm.Cond.instanceMethod ({ cls := "Backdater", name := "changes", desc := "()I" } : Jvm.MethodName)) ∈ lw_all := lw_g (lw_at lw_m1 105 rfl) rfl
theorem q141 : (Jvm.Cond.selects "Backdater" ({ cls := "Backdater", name := "changes", desc := "()I" } : Jvm.MethodName) ({ cls := "Backdater", name := "changes", desc := "()I" } : Jvm.MethodName)) ∈ lw_all := lw_g (lw_at lw_m1 106 rfl) rfl
theorem q142 : (Jvm.Cond.code ({ cls := "Backdater", name := "changes", desc := "()I" } : Jvm.MethodName) prog_1_method_17_code (1 : Nat) (Option.some Jvm.ClassFile.FieldType.int)) ∈ lw_all := lw_g (lw_at lw_m1 107 rfl) rfl
theorem q143 : (Jvm.Cond.interfaceEntry "Backdater" (37 : Nat)) ∈ lw_tbl := lw_at lw_m1 108 rfl
theorem q144 : (Jvm.Cond.methodLink "Backdater" (37 : Nat) ({ cls := "java/util/List", name := "size", desc := "()I" } : Jvm.MethodName)) ∈ lw_all := lw_g (lw_at lw_m1 109 rfl) rfl
theorem q159 : (Jvm.Cond.instanceMethod ({ cls := "Backdater", name := "open", desc := "(I)I" } : Jvm.MethodName)) ∈ lw_all := lw_g (lw_at lw_m1 124 rfl) rfl
theorem q160 : (Jvm.Cond.selects "Backdater" ({ cls := "Backdater", name := "open", desc := "(I)I" } : Jvm.MethodName) ({ cls := "Backdater", name := "open", desc := "(I)I" } : Jvm.MethodName)) ∈ lw_all := lw_g (lw_at lw_m1 125 rfl) rfl
theorem q161 : (Jvm.Cond.code ({ cls := "Backdater", name := "open", desc := "(I)I" } : Jvm.MethodName) prog_1_method_7_code (2 : Nat) (Option.some Jvm.ClassFile.FieldType.int)) ∈ lw_all := lw_g (lw_at lw_m1 126 rfl) rfl
theorem q162 : (Jvm.Cond.methodLink "Backdater" (55 : Nat) ({ cls := "Backdater", name := "needNumber", desc := "(III)V" } : Jvm.MethodName)) ∈ lw_all := lw_g (lw_at lw_m1 127 rfl) rfl
theorem q163 : (Jvm.Cond.static ({ cls := "Backdater", name := "needNumber", desc := "(III)V" } : Jvm.MethodName)) ∈ lw_all := lw_g (lw_at lw_m1 128 rfl) rfl
theorem q164 : (Jvm.Cond.code ({ cls := "Backdater", name := "needNumber", desc := "(III)V" } : Jvm.MethodName) prog_1_method_3_code (3 : Nat) (Option.none : Option Jvm.ClassFile.FieldType)) ∈ lw_all := lw_g (lw_at lw_m1 129 rfl) rfl
theorem q165 : (Jvm.Cond.classLink "Backdater" (31 : Nat) "java/lang/IllegalArgumentException") ∈ lw_all := lw_g (lw_at lw_m1 130 rfl) rfl
theorem q207 : (Jvm.Cond.methodLink "Backdater" (33 : Nat) ({ cls := "java/lang/IllegalArgumentException", name := "<init>", desc := "()V" } : Jvm.MethodName)) ∈ lw_all := lw_g (lw_at lw_m1 172 rfl) rfl
theorem q230 : (Jvm.Cond.methodLink "Backdater" (59 : Nat) ({ cls := "Backdater", name := "needState", desc := "(Z)V" } : Jvm.MethodName)) ∈ lw_all := lw_g (lw_at lw_m1 195 rfl) rfl
theorem q231 : (Jvm.Cond.static ({ cls := "Backdater", name := "needState", desc := "(Z)V" } : Jvm.MethodName)) ∈ lw_all := lw_g (lw_at lw_m1 196 rfl) rfl
theorem q232 : (Jvm.Cond.code ({ cls := "Backdater", name := "needState", desc := "(Z)V" } : Jvm.MethodName) prog_1_method_4_code (1 : Nat) (Option.none : Option Jvm.ClassFile.FieldType)) ∈ lw_all := lw_g (lw_at lw_m1 197 rfl) rfl
theorem q233 : (Jvm.Cond.classLink "Backdater" (34 : Nat) "java/lang/IllegalStateException") ∈ lw_all := lw_g (lw_at lw_m1 198 rfl) rfl
theorem q242 : (Jvm.Cond.methodLink "Backdater" (36 : Nat) ({ cls := "java/lang/IllegalStateException", name := "<init>", desc := "()V" } : Jvm.MethodName)) ∈ lw_all := lw_g (lw_at lw_m1 207 rfl) rfl
theorem q248 : (Jvm.Cond.classLink "Backdater" (51 : Nat) "Backdater$Policy") ∈ lw_all := lw_g (lw_at lw_m1 213 rfl) rfl
theorem q250 : (Jvm.Cond.methodLink "Backdater" (63 : Nat) ({ cls := "Backdater$Policy", name := "<init>", desc := "(I)V" } : Jvm.MethodName)) ∈ lw_all := lw_g (lw_at lw_m1 215 rfl) rfl
theorem q293 : (Jvm.Cond.fieldLinkNest "Backdater" (186 : Nat) "Backdater$Policy" "base" "I" "Backdater") ∈ lw_tbl := lw_at lw_m2 18 rfl
theorem q294 : (Jvm.Cond.fieldLinkNest "Backdater" (237 : Nat) "Backdater$Policy" "billed" "I" "Backdater") ∈ lw_tbl := lw_at lw_m2 19 rfl
theorem q296 : (Jvm.Cond.fieldLinkNest "Backdater" (81 : Nat) "Backdater$Policy" "changes" "Ljava/util/TreeMap;" "Backdater") ∈ lw_tbl := lw_at lw_m2 21 rfl
theorem q304 : (Jvm.Cond.interfaceEntry "Backdater" (66 : Nat)) ∈ lw_tbl := lw_at lw_m2 29 rfl
theorem q305 : (Jvm.Cond.methodLink "Backdater" (66 : Nat) ({ cls := "java/util/List", name := "add", desc := "(Ljava/lang/Object;)Z" } : Jvm.MethodName)) ∈ lw_all := lw_g (lw_at lw_m2 30 rfl) rfl
theorem q341 : (Jvm.Cond.selects "Backdater" ({ cls := "java/lang/Object", name := "getClass", desc := "()Ljava/lang/Class;" } : Jvm.MethodName) ({ cls := "java/lang/Object", name := "getClass", desc := "()Ljava/lang/Class;" } : Jvm.MethodName)) ∈ lw_all := lw_g (lw_at lw_m2 66 rfl) rfl
theorem q417 : (Jvm.Cond.instanceMethod ({ cls := "Backdater", name := "setWeight", desc := "(III)I" } : Jvm.MethodName)) ∈ lw_all := lw_g (lw_at lw_m2 142 rfl) rfl
theorem q418 : (Jvm.Cond.selects "Backdater" ({ cls := "Backdater", name := "setWeight", desc := "(III)I" } : Jvm.MethodName) ({ cls := "Backdater", name := "setWeight", desc := "(III)I" } : Jvm.MethodName)) ∈ lw_all := lw_g (lw_at lw_m2 143 rfl) rfl
theorem q419 : (Jvm.Cond.code ({ cls := "Backdater", name := "setWeight", desc := "(III)I" } : Jvm.MethodName) prog_1_method_8_code (4 : Nat) (Option.some Jvm.ClassFile.FieldType.int)) ∈ lw_all := lw_g (lw_at lw_m2 144 rfl) rfl
theorem q420 : (Jvm.Cond.methodLink "Backdater" (43 : Nat) ({ cls := "Backdater", name := "needPlace", desc := "(II)V" } : Jvm.MethodName)) ∈ lw_all := lw_g (lw_at lw_m2 145 rfl) rfl
theorem q421 : (Jvm.Cond.static ({ cls := "Backdater", name := "needPlace", desc := "(II)V" } : Jvm.MethodName)) ∈ lw_all := lw_g (lw_at lw_m2 146 rfl) rfl
theorem q422 : (Jvm.Cond.code ({ cls := "Backdater", name := "needPlace", desc := "(II)V" } : Jvm.MethodName) prog_1_method_2_code (2 : Nat) (Option.none : Option Jvm.ClassFile.FieldType)) ∈ lw_all := lw_g (lw_at lw_m2 147 rfl) rfl
theorem q423 : (Jvm.Cond.classLink "Backdater" (28 : Nat) "java/lang/IndexOutOfBoundsException") ∈ lw_all := lw_g (lw_at lw_m2 148 rfl) rfl
theorem q432 : (Jvm.Cond.methodLink "Backdater" (30 : Nat) ({ cls := "java/lang/IndexOutOfBoundsException", name := "<init>", desc := "()V" } : Jvm.MethodName)) ∈ lw_all := lw_g (lw_at lw_m2 157 rfl) rfl
theorem q438 : (Jvm.Cond.classLink "Backdater" (70 : Nat) "Backdater$Tariff") ∈ lw_all := lw_g (lw_at lw_m2 163 rfl) rfl
theorem q440 : (Jvm.Cond.methodLinkNest "Backdater" (72 : Nat) ({ cls := "Backdater$Tariff", name := "<init>", desc := "(III)V" } : Jvm.MethodName) "Backdater") ∈ lw_tbl := lw_at lw_m2 165 rfl
theorem q461 : (Jvm.Cond.instanceMethod ({ cls := "Backdater", name := "pass", desc := "(I)I" } : Jvm.MethodName)) ∈ lw_all := lw_g (lw_at lw_m2 186 rfl) rfl
theorem q462 : (Jvm.Cond.selects "Backdater" ({ cls := "Backdater", name := "pass", desc := "(I)I" } : Jvm.MethodName) ({ cls := "Backdater", name := "pass", desc := "(I)I" } : Jvm.MethodName)) ∈ lw_all := lw_g (lw_at lw_m2 187 rfl) rfl
theorem q463 : (Jvm.Cond.code ({ cls := "Backdater", name := "pass", desc := "(I)I" } : Jvm.MethodName) prog_1_method_9_code (2 : Nat) (Option.some Jvm.ClassFile.FieldType.int)) ∈ lw_all := lw_g (lw_at lw_m2 188 rfl) rfl
theorem q468 : (Jvm.Cond.instanceMethod ({ cls := "Backdater", name := "change", desc := "(IIII)I" } : Jvm.MethodName)) ∈ lw_all := lw_g (lw_at lw_m2 193 rfl) rfl
theorem q469 : (Jvm.Cond.selects "Backdater" ({ cls := "Backdater", name := "change", desc := "(IIII)I" } : Jvm.MethodName) ({ cls := "Backdater", name := "change", desc := "(IIII)I" } : Jvm.MethodName)) ∈ lw_all := lw_g (lw_at lw_m2 194 rfl) rfl
theorem q470 : (Jvm.Cond.code ({ cls := "Backdater", name := "change", desc := "(IIII)I" } : Jvm.MethodName) prog_1_method_12_code (6 : Nat) (Option.some Jvm.ClassFile.FieldType.int)) ∈ lw_all := lw_g (lw_at lw_m2 195 rfl) rfl
theorem q471 : (Jvm.Cond.methodLink "Backdater" (97 : Nat) ({ cls := "Backdater", name := "policyAt", desc := "(I)LBackdater$Policy;" } : Jvm.MethodName)) ∈ lw_all := lw_g (lw_at lw_m2 196 rfl) rfl
theorem q472 : (Jvm.Cond.privateMethod ({ cls := "Backdater", name := "policyAt", desc := "(I)LBackdater$Policy;" } : Jvm.MethodName)) ∈ lw_tbl := lw_at lw_m2 197 rfl
theorem q473 : (Jvm.Cond.instanceMethod ({ cls := "Backdater", name := "policyAt", desc := "(I)LBackdater$Policy;" } : Jvm.MethodName)) ∈ lw_all := lw_g (lw_at lw_m2 198 rfl) rfl
theorem q474 : (Jvm.Cond.code ({ cls := "Backdater", name := "policyAt", desc := "(I)LBackdater$Policy;" } : Jvm.MethodName) prog_1_method_5_code (2 : Nat) (Option.some (Jvm.ClassFile.FieldType.object "Backdater$Policy"))) ∈ lw_all := lw_g (lw_at lw_m2 199 rfl) rfl
theorem q475 : (Jvm.Cond.interfaceEntry "Backdater" (47 : Nat)) ∈ lw_tbl := lw_at lw_m2 200 rfl
theorem q476 : (Jvm.Cond.methodLink "Backdater" (47 : Nat) ({ cls := "java/util/List", name := "get", desc := "(I)Ljava/lang/Object;" } : Jvm.MethodName)) ∈ lw_all := lw_g (lw_at lw_m2 201 rfl) rfl
theorem q494 : (Jvm.Cond.static ({ cls := "Backdater", name := "lambda$change$0", desc := "(IILBackdater$Version;)V" } : Jvm.MethodName)) ∈ lw_all := lw_g (lw_at lw_m2 219 rfl) rfl
theorem q495 : (Jvm.Cond.code ({ cls := "Backdater", name := "lambda$change$0", desc := "(IILBackdater$Version;)V" } : Jvm.MethodName) prog_1_method_43_code (3 : Nat) (Option.none : Option Jvm.ClassFile.FieldType)) ∈ lw_all := lw_g (lw_at lw_m2 220 rfl) rfl
theorem q496 : (Jvm.Cond.methodLink "Backdater" (105 : Nat) ({ cls := "Backdater", name := "tell", desc := "(LBackdater$Policy;ILBackdater$Effect;)I" } : Jvm.MethodName)) ∈ lw_all := lw_g (lw_at lw_m2 221 rfl) rfl
theorem q497 : (Jvm.Cond.privateMethod ({ cls := "Backdater", name := "tell", desc := "(LBackdater$Policy;ILBackdater$Effect;)I" } : Jvm.MethodName)) ∈ lw_tbl := lw_at lw_m2 222 rfl
theorem q498 : (Jvm.Cond.instanceMethod ({ cls := "Backdater", name := "tell", desc := "(LBackdater$Policy;ILBackdater$Effect;)I" } : Jvm.MethodName)) ∈ lw_all := lw_g (lw_at lw_m2 223 rfl) rfl
theorem q499 : (Jvm.Cond.code ({ cls := "Backdater", name := "tell", desc := "(LBackdater$Policy;ILBackdater$Effect;)I" } : Jvm.MethodName) prog_1_method_11_code (5 : Nat) (Option.some Jvm.ClassFile.FieldType.int)) ∈ lw_all := lw_g (lw_at lw_m2 224 rfl) rfl
theorem q500 : (Jvm.Cond.classLink "Backdater" (53 : Nat) "Backdater$Change") ∈ lw_all := lw_g (lw_at lw_m2 225 rfl) rfl
theorem q502 : (Jvm.Cond.methodLink "Backdater" (78 : Nat) ({ cls := "Backdater$Change", name := "<init>", desc := "(ILBackdater$Policy;IILBackdater$Effect;)V" } : Jvm.MethodName)) ∈ lw_all := lw_g (lw_at lw_m2 227 rfl) rfl
theorem q508 : (Jvm.Cond.fieldLinkNest "Backdater" (84 : Nat) "Backdater$Change" "number" "I" "Backdater") ∈ lw_tbl := lw_at lw_m2 233 rfl
theorem q510 : (Jvm.Cond.fieldLinkNest "Backdater" (125 : Nat) "Backdater$Change" "policy" "LBackdater$Policy;" "Backdater") ∈ lw_tbl := lw_at lw_m2 235 rfl
theorem q512 : (Jvm.Cond.fieldLinkNest "Backdater" (129 : Nat) "Backdater$Change" "from" "I" "Backdater") ∈ lw_tbl := lw_at lw_m2 237 rfl
theorem q514 : (Jvm.Cond.fieldLinkNest "Backdater" (122 : Nat) "Backdater$Change" "told" "I" "Backdater") ∈ lw_tbl := lw_at lw_m2 239 rfl
theorem q516 : (Jvm.Cond.fieldLinkNest "Backdater" (165 : Nat) "Backdater$Change" "effect" "LBackdater$Effect;" "Backdater") ∈ lw_tbl := lw_at lw_m3 1 rfl
theorem q518 : (Jvm.Cond.fieldLinkNest "Backdater" (118 : Nat) "Backdater$Change" "takenBack" "I" "Backdater") ∈ lw_tbl := lw_at lw_m3 3 rfl
theorem q532 : (Jvm.Cond.methodLink "Backdater" (87 : Nat) ({ cls := "java/lang/Integer", name := "valueOf", desc := "(I)Ljava/lang/Integer;" } : Jvm.MethodName)) ∈ lw_all := lw_g (lw_at lw_m3 17 rfl) rfl
theorem q552 : (Jvm.Cond.methodLink "Backdater" (91 : Nat) ({ cls := "java/util/TreeMap", name := "put", desc := "(Ljava/lang/Object;Ljava/lang/Object;)Ljava/lang/Object;" } : Jvm.MethodName)) ∈ lw_all := lw_g (lw_at lw_m3 37 rfl) rfl
theorem q677 : (Jvm.Cond.instanceMethod ({ cls := "Backdater", name := "add", desc := "(IIII)I" } : Jvm.MethodName)) ∈ lw_all := lw_g (lw_at lw_m3 162 rfl) rfl
theorem q678 : (Jvm.Cond.selects "Backdater" ({ cls := "Backdater", name := "add", desc := "(IIII)I" } : Jvm.MethodName) ({ cls := "Backdater", name := "add", desc := "(IIII)I" } : Jvm.MethodName)) ∈ lw_all := lw_g (lw_at lw_m3 163 rfl) rfl
theorem q679 : (Jvm.Cond.code ({ cls := "Backdater", name := "add", desc := "(IIII)I" } : Jvm.MethodName) prog_1_method_13_code (6 : Nat) (Option.some Jvm.ClassFile.FieldType.int)) ∈ lw_all := lw_g (lw_at lw_m3 164 rfl) rfl
theorem q680 : (Jvm.Cond.static ({ cls := "Backdater", name := "lambda$add$1", desc := "(IILBackdater$Version;)V" } : Jvm.MethodName)) ∈ lw_all := lw_g (lw_at lw_m3 165 rfl) rfl
theorem q681 : (Jvm.Cond.code ({ cls := "Backdater", name := "lambda$add$1", desc := "(IILBackdater$Version;)V" } : Jvm.MethodName) prog_1_method_42_code (3 : Nat) (Option.none : Option Jvm.ClassFile.FieldType)) ∈ lw_all := lw_g (lw_at lw_m3 166 rfl) rfl
theorem q682 : (Jvm.Cond.methodLink "Backdater" (240 : Nat) ({ cls := "java/lang/Math", name := "min", desc := "(II)I" } : Jvm.MethodName)) ∈ lw_all := lw_g (lw_at lw_m3 167 rfl) rfl
theorem q683 : (Jvm.Cond.methodLink "Backdater" (245 : Nat) ({ cls := "java/lang/Math", name := "max", desc := "(II)I" } : Jvm.MethodName)) ∈ lw_all := lw_g (lw_at lw_m3 168 rfl) rfl
theorem q688 : (Jvm.Cond.instanceMethod ({ cls := "Backdater", name := "cancel", desc := "(II)I" } : Jvm.MethodName)) ∈ lw_all := lw_g (lw_at lw_m3 173 rfl) rfl
theorem q689 : (Jvm.Cond.selects "Backdater" ({ cls := "Backdater", name := "cancel", desc := "(II)I" } : Jvm.MethodName) ({ cls := "Backdater", name := "cancel", desc := "(II)I" } : Jvm.MethodName)) ∈ lw_all := lw_g (lw_at lw_m3 174 rfl) rfl
theorem q690 : (Jvm.Cond.code ({ cls := "Backdater", name := "cancel", desc := "(II)I" } : Jvm.MethodName) prog_1_method_14_code (3 : Nat) (Option.some Jvm.ClassFile.FieldType.int)) ∈ lw_all := lw_g (lw_at lw_m3 175 rfl) rfl
theorem q691 : (Jvm.Cond.static ({ cls := "Backdater", name := "lambda$cancel$2", desc := "(LBackdater$Version;)V" } : Jvm.MethodName)) ∈ lw_all := lw_g (lw_at lw_m3 176 rfl) rfl
theorem q692 : (Jvm.Cond.code ({ cls := "Backdater", name := "lambda$cancel$2", desc := "(LBackdater$Version;)V" } : Jvm.MethodName) prog_1_method_41_code (1 : Nat) (Option.none : Option Jvm.ClassFile.FieldType)) ∈ lw_all := lw_g (lw_at lw_m3 177 rfl) rfl
theorem q697 : (Jvm.Cond.instanceMethod ({ cls := "Backdater", name := "reinstate", desc := "(II)I" } : Jvm.MethodName)) ∈ lw_all := lw_g (lw_at lw_m3 182 rfl) rfl
theorem q698 : (Jvm.Cond.selects "Backdater" ({ cls := "Backdater", name := "reinstate", desc := "(II)I" } : Jvm.MethodName) ({ cls := "Backdater", name := "reinstate", desc := "(II)I" } : Jvm.MethodName)) ∈ lw_all := lw_g (lw_at lw_m3 183 rfl) rfl
theorem q699 : (Jvm.Cond.code ({ cls := "Backdater", name := "reinstate", desc := "(II)I" } : Jvm.MethodName) prog_1_method_15_code (3 : Nat) (Option.some Jvm.ClassFile.FieldType.int)) ∈ lw_all := lw_g (lw_at lw_m3 184 rfl) rfl
theorem q700 : (Jvm.Cond.static ({ cls := "Backdater", name := "lambda$reinstate$3", desc := "(LBackdater$Version;)V" } : Jvm.MethodName)) ∈ lw_all := lw_g (lw_at lw_m3 185 rfl) rfl
theorem q701 : (Jvm.Cond.code ({ cls := "Backdater", name := "lambda$reinstate$3", desc := "(LBackdater$Version;)V" } : Jvm.MethodName) prog_1_method_40_code (1 : Nat) (Option.none : Option Jvm.ClassFile.FieldType)) ∈ lw_all := lw_g (lw_at lw_m3 186 rfl) rfl
theorem q706 : (Jvm.Cond.instanceMethod ({ cls := "Backdater", name := "takeBack", desc := "(I)I" } : Jvm.MethodName)) ∈ lw_all := lw_g (lw_at lw_m3 191 rfl) rfl
theorem q707 : (Jvm.Cond.selects "Backdater" ({ cls := "Backdater", name := "takeBack", desc := "(I)I" } : Jvm.MethodName) ({ cls := "Backdater", name := "takeBack", desc := "(I)I" } : Jvm.MethodName)) ∈ lw_all := lw_g (lw_at lw_m3 192 rfl) rfl
theorem q708 : (Jvm.Cond.code ({ cls := "Backdater", name := "takeBack", desc := "(I)I" } : Jvm.MethodName) prog_1_method_16_code (3 : Nat) (Option.some Jvm.ClassFile.FieldType.int)) ∈ lw_all := lw_g (lw_at lw_m3 193 rfl) rfl
theorem q709 : (Jvm.Cond.methodLink "Backdater" (114 : Nat) ({ cls := "Backdater", name := "changeAt", desc := "(I)LBackdater$Change;" } : Jvm.MethodName)) ∈ lw_all := lw_g (lw_at lw_m3 194 rfl) rfl
theorem q710 : (Jvm.Cond.privateMethod ({ cls := "Backdater", name := "changeAt", desc := "(I)LBackdater$Change;" } : Jvm.MethodName)) ∈ lw_tbl := lw_at lw_m3 195 rfl
theorem q711 : (Jvm.Cond.instanceMethod ({ cls := "Backdater", name := "changeAt", desc := "(I)LBackdater$Change;" } : Jvm.MethodName)) ∈ lw_all := lw_g (lw_at lw_m3 196 rfl) rfl
theorem q712 : (Jvm.Cond.code ({ cls := "Backdater", name := "changeAt", desc := "(I)LBackdater$Change;" } : Jvm.MethodName) prog_1_method_6_code (2 : Nat) (Option.some (Jvm.ClassFile.FieldType.object "Backdater$Change"))) ∈ lw_all := lw_g (lw_at lw_m3 197 rfl) rfl
theorem q713 : (Jvm.Cond.constant "Backdater" (121 : Nat) (2147483647 : Int32)) ∈ lw_all := lw_g (lw_at lw_m3 198 rfl) rfl
theorem q718 : (Jvm.Cond.instanceMethod ({ cls := "Backdater", name := "laidAnew", desc := "(I)I" } : Jvm.MethodName)) ∈ lw_all := lw_g (lw_at lw_m3 203 rfl) rfl
theorem q719 : (Jvm.Cond.selects "Backdater" ({ cls := "Backdater", name := "laidAnew", desc := "(I)I" } : Jvm.MethodName) ({ cls := "Backdater", name := "laidAnew", desc := "(I)I" } : Jvm.MethodName)) ∈ lw_all := lw_g (lw_at lw_m3 204 rfl) rfl
theorem q720 : (Jvm.Cond.code ({ cls := "Backdater", name := "laidAnew", desc := "(I)I" } : Jvm.MethodName) prog_1_method_18_code (6 : Nat) (Option.some Jvm.ClassFile.FieldType.int)) ∈ lw_all := lw_g (lw_at lw_m3 205 rfl) rfl
theorem q721 : (Jvm.Cond.methodLink "Backdater" (132 : Nat) ({ cls := "Backdater$Change", name := "isKnown", desc := "(I)Z" } : Jvm.MethodName)) ∈ lw_all := lw_g (lw_at lw_m3 206 rfl) rfl
theorem q729 : (Jvm.Cond.instanceMethod ({ cls := "Backdater", name := "value", desc := "(IIII)I" } : Jvm.MethodName)) ∈ lw_all := lw_g (lw_at lw_m3 214 rfl) rfl
theorem q730 : (Jvm.Cond.selects "Backdater" ({ cls := "Backdater", name := "value", desc := "(IIII)I" } : Jvm.MethodName) ({ cls := "Backdater", name := "value", desc := "(IIII)I" } : Jvm.MethodName)) ∈ lw_all := lw_g (lw_at lw_m3 215 rfl) rfl
theorem q731 : (Jvm.Cond.code ({ cls := "Backdater", name := "value", desc := "(IIII)I" } : Jvm.MethodName) prog_1_method_23_code (6 : Nat) (Option.some Jvm.ClassFile.FieldType.int)) ∈ lw_all := lw_g (lw_at lw_m3 216 rfl) rfl
theorem q732 : (Jvm.Cond.methodLink "Backdater" (194 : Nat) ({ cls := "Backdater", name := "needDays", desc := "(II)V" } : Jvm.MethodName)) ∈ lw_all := lw_g (lw_at lw_m3 217 rfl) rfl
theorem q733 : (Jvm.Cond.privateMethod ({ cls := "Backdater", name := "needDays", desc := "(II)V" } : Jvm.MethodName)) ∈ lw_tbl := lw_at lw_m3 218 rfl
theorem q734 : (Jvm.Cond.instanceMethod ({ cls := "Backdater", name := "needDays", desc := "(II)V" } : Jvm.MethodName)) ∈ lw_all := lw_g (lw_at lw_m3 219 rfl) rfl
theorem q735 : (Jvm.Cond.code ({ cls := "Backdater", name := "needDays", desc := "(II)V" } : Jvm.MethodName) prog_1_method_22_code (3 : Nat) (Option.none : Option Jvm.ClassFile.FieldType)) ∈ lw_all := lw_g (lw_at lw_m3 220 rfl) rfl
theorem q736 : (Jvm.Cond.methodLink "Backdater" (197 : Nat) ({ cls := "Backdater", name := "version", desc := "(LBackdater$Policy;II)LBackdater$Version;" } : Jvm.MethodName)) ∈ lw_all := lw_g (lw_at lw_m3 221 rfl) rfl
theorem q737 : (Jvm.Cond.privateMethod ({ cls := "Backdater", name := "version", desc := "(LBackdater$Policy;II)LBackdater$Version;" } : Jvm.MethodName)) ∈ lw_tbl := lw_at lw_m3 222 rfl
theorem q738 : (Jvm.Cond.instanceMethod ({ cls := "Backdater", name := "version", desc := "(LBackdater$Policy;II)LBackdater$Version;" } : Jvm.MethodName)) ∈ lw_all := lw_g (lw_at lw_m3 223 rfl) rfl
theorem q739 : (Jvm.Cond.code ({ cls := "Backdater", name := "version", desc := "(LBackdater$Policy;II)LBackdater$Version;" } : Jvm.MethodName) prog_1_method_19_code (7 : Nat) (Option.some (Jvm.ClassFile.FieldType.object "Backdater$Version"))) ∈ lw_all := lw_g (lw_at lw_m3 224 rfl) rfl
theorem q740 : (Jvm.Cond.classLink "Backdater" (136 : Nat) "Backdater$Version") ∈ lw_all := lw_g (lw_at lw_m3 225 rfl) rfl
theorem q742 : (Jvm.Cond.methodLinkNest "Backdater" (138 : Nat) ({ cls := "Backdater$Version", name := "<init>", desc := "()V" } : Jvm.MethodName) "Backdater") ∈ lw_tbl := lw_at lw_m3 227 rfl
theorem q747 : (Jvm.Cond.fieldLinkNest "Backdater" (189 : Nat) "Backdater$Version" "values" "[I" "Backdater") ∈ lw_tbl := lw_at lw_m3 232 rfl
theorem q749 : (Jvm.Cond.fieldLinkNest "Backdater" (182 : Nat) "Backdater$Version" "isCovered" "Z" "Backdater") ∈ lw_tbl := lw_at lw_m3 234 rfl
theorem q755 : (Jvm.Cond.methodLink "Backdater" (139 : Nat) ({ cls := "java/util/TreeMap", name := "headMap", desc := "(Ljava/lang/Object;)Ljava/util/SortedMap;" } : Jvm.MethodName)) ∈ lw_all := lw_g (lw_at lw_m4 0 rfl) rfl
theorem q812 : (Jvm.Cond.interfaceEntry "Backdater" (143 : Nat)) ∈ lw_tbl := lw_at lw_m4 57 rfl
theorem q813 : (Jvm.Cond.methodLink "Backdater" (143 : Nat) ({ cls := "java/util/SortedMap", name := "values", desc := "()Ljava/util/Collection;" } : Jvm.MethodName)) ∈ lw_all := lw_g (lw_at lw_m4 58 rfl) rfl
theorem q849 : (Jvm.Cond.interfaceEntry "Backdater" (149 : Nat)) ∈ lw_tbl := lw_at lw_m4 94 rfl
theorem q850 : (Jvm.Cond.methodLink "Backdater" (149 : Nat) ({ cls := "java/util/Collection", name := "iterator", desc := "()Ljava/util/Iterator;" } : Jvm.MethodName)) ∈ lw_all := lw_g (lw_at lw_m4 95 rfl) rfl
theorem q1057 : (Jvm.Cond.interfaceEntry "Backdater" (155 : Nat)) ∈ lw_tbl := lw_at lw_m5 62 rfl
theorem q1058 : (Jvm.Cond.methodLink "Backdater" (155 : Nat) ({ cls := "java/util/Iterator", name := "hasNext", desc := "()Z" } : Jvm.MethodName)) ∈ lw_all := lw_g (lw_at lw_m5 63 rfl) rfl
theorem q1090 : (Jvm.Cond.interfaceEntry "Backdater" (161 : Nat)) ∈ lw_tbl := lw_at lw_m5 95 rfl
theorem q1091 : (Jvm.Cond.methodLink "Backdater" (161 : Nat) ({ cls := "java/util/Iterator", name := "next", desc := "()Ljava/lang/Object;" } : Jvm.MethodName)) ∈ lw_all := lw_g (lw_at lw_m5 96 rfl) rfl
theorem q1163 : (Jvm.Cond.interfaceEntry "Backdater" (169 : Nat)) ∈ lw_tbl := lw_at lw_m5 168 rfl
theorem q1164 : (Jvm.Cond.methodLink "Backdater" (169 : Nat) ({ cls := "Backdater$Effect", name := "lay", desc := "(LBackdater$Version;)V" } : Jvm.MethodName)) ∈ lw_all := lw_g (lw_at lw_m5 169 rfl) rfl
theorem q1171 : (Jvm.Cond.instanceMethod ({ cls := "Backdater", name := "isCovered", desc := "(III)Z" } : Jvm.MethodName)) ∈ lw_all := lw_g (lw_at lw_m5 176 rfl) rfl
theorem q1172 : (Jvm.Cond.selects "Backdater" ({ cls := "Backdater", name := "isCovered", desc := "(III)Z" } : Jvm.MethodName) ({ cls := "Backdater", name := "isCovered", desc := "(III)Z" } : Jvm.MethodName)) ∈ lw_all := lw_g (lw_at lw_m5 177 rfl) rfl
theorem q1173 : (Jvm.Cond.code ({ cls := "Backdater", name := "isCovered", desc := "(III)Z" } : Jvm.MethodName) prog_1_method_24_code (5 : Nat) (Option.some Jvm.ClassFile.FieldType.boolean)) ∈ lw_all := lw_g (lw_at lw_m5 178 rfl) rfl
theorem q1178 : (Jvm.Cond.instanceMethod ({ cls := "Backdater", name := "rate", desc := "(III)I" } : Jvm.MethodName)) ∈ lw_all := lw_g (lw_at lw_m5 183 rfl) rfl
theorem q1179 : (Jvm.Cond.selects "Backdater" ({ cls := "Backdater", name := "rate", desc := "(III)I" } : Jvm.MethodName) ({ cls := "Backdater", name := "rate", desc := "(III)I" } : Jvm.MethodName)) ∈ lw_all := lw_g (lw_at lw_m5 184 rfl) rfl
theorem q1180 : (Jvm.Cond.code ({ cls := "Backdater", name := "rate", desc := "(III)I" } : Jvm.MethodName) prog_1_method_25_code (5 : Nat) (Option.some Jvm.ClassFile.FieldType.int)) ∈ lw_all := lw_g (lw_at lw_m5 185 rfl) rfl
theorem q1181 : (Jvm.Cond.methodLink "Backdater" (201 : Nat) ({ cls := "Backdater", name := "rateOf", desc := "(LBackdater$Policy;LBackdater$Version;I)I" } : Jvm.MethodName)) ∈ lw_all := lw_g (lw_at lw_m5 186 rfl) rfl
theorem q1182 : (Jvm.Cond.privateMethod ({ cls := "Backdater", name := "rateOf", desc := "(LBackdater$Policy;LBackdater$Version;I)I" } : Jvm.MethodName)) ∈ lw_tbl := lw_at lw_m5 187 rfl
theorem q1183 : (Jvm.Cond.instanceMethod ({ cls := "Backdater", name := "rateOf", desc := "(LBackdater$Policy;LBackdater$Version;I)I" } : Jvm.MethodName)) ∈ lw_all := lw_g (lw_at lw_m5 188 rfl) rfl
theorem q1184 : (Jvm.Cond.code ({ cls := "Backdater", name := "rateOf", desc := "(LBackdater$Policy;LBackdater$Version;I)I" } : Jvm.MethodName) prog_1_method_21_code (6 : Nat) (Option.some Jvm.ClassFile.FieldType.int)) ∈ lw_all := lw_g (lw_at lw_m5 189 rfl) rfl
theorem q1185 : (Jvm.Cond.methodLink "Backdater" (191 : Nat) ({ cls := "Backdater", name := "weight", desc := "(II)I" } : Jvm.MethodName)) ∈ lw_all := lw_g (lw_at lw_m5 190 rfl) rfl
theorem q1186 : (Jvm.Cond.privateMethod ({ cls := "Backdater", name := "weight", desc := "(II)I" } : Jvm.MethodName)) ∈ lw_tbl := lw_at lw_m5 191 rfl
theorem q1187 : (Jvm.Cond.instanceMethod ({ cls := "Backdater", name := "weight", desc := "(II)I" } : Jvm.MethodName)) ∈ lw_all := lw_g (lw_at lw_m5 192 rfl) rfl
theorem q1188 : (Jvm.Cond.code ({ cls := "Backdater", name := "weight", desc := "(II)I" } : Jvm.MethodName) prog_1_method_20_code (7 : Nat) (Option.some Jvm.ClassFile.FieldType.int)) ∈ lw_all := lw_g (lw_at lw_m5 193 rfl) rfl
theorem q1189 : (Jvm.Cond.methodLink "Backdater" (174 : Nat) ({ cls := "Backdater$Tariff", name := "field", desc := "()I" } : Jvm.MethodName)) ∈ lw_all := lw_g (lw_at lw_m5 194 rfl) rfl
theorem q1193 : (Jvm.Cond.methodLink "Backdater" (177 : Nat) ({ cls := "Backdater$Tariff", name := "from", desc := "()I" } : Jvm.MethodName)) ∈ lw_all := lw_g (lw_at lw_m5 198 rfl) rfl
theorem q1197 : (Jvm.Cond.methodLink "Backdater" (179 : Nat) ({ cls := "Backdater$Tariff", name := "weight", desc := "()I" } : Jvm.MethodName)) ∈ lw_all := lw_g (lw_at lw_m5 202 rfl) rfl
theorem q1205 : (Jvm.Cond.instanceMethod ({ cls := "Backdater", name := "segments", desc := "(II)I" } : Jvm.MethodName)) ∈ lw_all := lw_g (lw_at lw_m5 210 rfl) rfl
theorem q1206 : (Jvm.Cond.selects "Backdater" ({ cls := "Backdater", name := "segments", desc := "(II)I" } : Jvm.MethodName) ({ cls := "Backdater", name := "segments", desc := "(II)I" } : Jvm.MethodName)) ∈ lw_all := lw_g (lw_at lw_m5 211 rfl) rfl
theorem q1207 : (Jvm.Cond.code ({ cls := "Backdater", name := "segments", desc := "(II)I" } : Jvm.MethodName) prog_1_method_32_code (4 : Nat) (Option.some Jvm.ClassFile.FieldType.int)) ∈ lw_all := lw_g (lw_at lw_m5 212 rfl) rfl
theorem q1208 : (Jvm.Cond.methodLink "Backdater" (218 : Nat) ({ cls := "Backdater", name := "starts", desc := "(LBackdater$Policy;I)Ljava/util/List;" } : Jvm.MethodName)) ∈ lw_all := lw_g (lw_at lw_m5 213 rfl) rfl
theorem q1209 : (Jvm.Cond.privateMethod ({ cls := "Backdater", name := "starts", desc := "(LBackdater$Policy;I)Ljava/util/List;" } : Jvm.MethodName)) ∈ lw_tbl := lw_at lw_m5 214 rfl
theorem q1210 : (Jvm.Cond.instanceMethod ({ cls := "Backdater", name := "starts", desc := "(LBackdater$Policy;I)Ljava/util/List;" } : Jvm.MethodName)) ∈ lw_all := lw_g (lw_at lw_m5 215 rfl) rfl
theorem q1211 : (Jvm.Cond.code ({ cls := "Backdater", name := "starts", desc := "(LBackdater$Policy;I)Ljava/util/List;" } : Jvm.MethodName) prog_1_method_28_code (5 : Nat) (Option.some (Jvm.ClassFile.FieldType.object "java/util/List"))) ∈ lw_all := lw_g (lw_at lw_m5 216 rfl) rfl
theorem q1212 : (Jvm.Cond.methodLink "Backdater" (210 : Nat) ({ cls := "Backdater", name := "findRates", desc := "(LBackdater$Policy;I)V" } : Jvm.MethodName)) ∈ lw_all := lw_g (lw_at lw_m5 217 rfl) rfl
theorem q1213 : (Jvm.Cond.privateMethod ({ cls := "Backdater", name := "findRates", desc := "(LBackdater$Policy;I)V" } : Jvm.MethodName)) ∈ lw_tbl := lw_at lw_m5 218 rfl
theorem q1214 : (Jvm.Cond.instanceMethod ({ cls := "Backdater", name := "findRates", desc := "(LBackdater$Policy;I)V" } : Jvm.MethodName)) ∈ lw_all := lw_g (lw_at lw_m5 219 rfl) rfl
theorem q1215 : (Jvm.Cond.code ({ cls := "Backdater", name := "findRates", desc := "(LBackdater$Policy;I)V" } : Jvm.MethodName) prog_1_method_26_code (7 : Nat) (Option.none : Option Jvm.ClassFile.FieldType)) ∈ lw_all := lw_g (lw_at lw_m5 220 rfl) rfl
theorem q1216 : (Jvm.Cond.methodLink "Backdater" (205 : Nat) ({ cls := "java/util/TreeMap", name := "values", desc := "()Ljava/util/Collection;" } : Jvm.MethodName)) ∈ lw_all := lw_g (lw_at lw_m5 221 rfl) rfl
theorem q1217 : (Jvm.Cond.methodLink "Backdater" (206 : Nat) ({ cls := "Backdater", name := "fill", desc := "(LBackdater$Policy;LBackdater$Version;II)V" } : Jvm.MethodName)) ∈ lw_all := lw_g (lw_at lw_m5 222 rfl) rfl
theorem q1218 : (Jvm.Cond.privateMethod ({ cls := "Backdater", name := "fill", desc := "(LBackdater$Policy;LBackdater$Version;II)V" } : Jvm.MethodName)) ∈ lw_tbl := lw_at lw_m5 223 rfl
theorem q1219 : (Jvm.Cond.instanceMethod ({ cls := "Backdater", name := "fill", desc := "(LBackdater$Policy;LBackdater$Version;II)V" } : Jvm.MethodName)) ∈ lw_all := lw_g (lw_at lw_m5 224 rfl) rfl
theorem q1220 : (Jvm.Cond.code ({ cls := "Backdater", name := "fill", desc := "(LBackdater$Policy;LBackdater$Version;II)V" } : Jvm.MethodName) prog_1_method_27_code (6 : Nat) (Option.none : Option Jvm.ClassFile.FieldType)) ∈ lw_all := lw_g (lw_at lw_m5 225 rfl) rfl
theorem q1225 : (Jvm.Cond.instanceMethod ({ cls := "Backdater", name := "segmentStart", desc := "(III)I" } : Jvm.MethodName)) ∈ lw_all := lw_g (lw_at lw_m5 230 rfl) rfl
theorem q1226 : (Jvm.Cond.selects "Backdater" ({ cls := "Backdater", name := "segmentStart", desc := "(III)I" } : Jvm.MethodName) ({ cls := "Backdater", name := "segmentStart", desc := "(III)I" } : Jvm.MethodName)) ∈ lw_all := lw_g (lw_at lw_m5 231 rfl) rfl
theorem q1227 : (Jvm.Cond.code ({ cls := "Backdater", name := "segmentStart", desc := "(III)I" } : Jvm.MethodName) prog_1_method_34_code (4 : Nat) (Option.some Jvm.ClassFile.FieldType.int)) ∈ lw_all := lw_g (lw_at lw_m5 232 rfl) rfl
theorem q1228 : (Jvm.Cond.methodLink "Backdater" (229 : Nat) ({ cls := "Backdater", name := "startOf", desc := "(III)I" } : Jvm.MethodName)) ∈ lw_all := lw_g (lw_at lw_m5 233 rfl) rfl
theorem q1229 : (Jvm.Cond.privateMethod ({ cls := "Backdater", name := "startOf", desc := "(III)I" } : Jvm.MethodName)) ∈ lw_tbl := lw_at lw_m5 234 rfl
theorem q1230 : (Jvm.Cond.instanceMethod ({ cls := "Backdater", name := "startOf", desc := "(III)I" } : Jvm.MethodName)) ∈ lw_all := lw_g (lw_at lw_m5 235 rfl) rfl
theorem q1231 : (Jvm.Cond.code ({ cls := "Backdater", name := "startOf", desc := "(III)I" } : Jvm.MethodName) prog_1_method_33_code (5 : Nat) (Option.some Jvm.ClassFile.FieldType.int)) ∈ lw_all := lw_g (lw_at lw_m5 236 rfl) rfl
theorem q1232 : (Jvm.Cond.classLink "Backdater" (1 : Nat) "java/lang/Integer") ∈ lw_all := lw_g (lw_at lw_m5 237 rfl) rfl
theorem q1233 : (Jvm.Cond.methodLink "Backdater" (223 : Nat) ({ cls := "java/lang/Integer", name := "intValue", desc := "()I" } : Jvm.MethodName)) ∈ lw_all := lw_g (lw_at lw_m5 238 rfl) rfl
theorem q1241 : (Jvm.Cond.instanceMethod ({ cls := "Backdater", name := "segmentPremium", desc := "(III)I" } : Jvm.MethodName)) ∈ lw_all := lw_g (lw_at lw_m6 6 rfl) rfl
theorem q1242 : (Jvm.Cond.selects "Backdater" ({ cls := "Backdater", name := "segmentPremium", desc := "(III)I" } : Jvm.MethodName) ({ cls := "Backdater", name := "segmentPremium", desc := "(III)I" } : Jvm.MethodName)) ∈ lw_all := lw_g (lw_at lw_m6 7 rfl) rfl
theorem q1243 : (Jvm.Cond.code ({ cls := "Backdater", name := "segmentPremium", desc := "(III)I" } : Jvm.MethodName) prog_1_method_35_code (4 : Nat) (Option.some Jvm.ClassFile.FieldType.int)) ∈ lw_all := lw_g (lw_at lw_m6 8 rfl) rfl
theorem q1244 : (Jvm.Cond.methodLink "Backdater" (226 : Nat) ({ cls := "Backdater", name := "premiumFrom", desc := "(I)I" } : Jvm.MethodName)) ∈ lw_all := lw_g (lw_at lw_m6 9 rfl) rfl
theorem q1245 : (Jvm.Cond.privateMethod ({ cls := "Backdater", name := "premiumFrom", desc := "(I)I" } : Jvm.MethodName)) ∈ lw_tbl := lw_at lw_m6 10 rfl
theorem q1246 : (Jvm.Cond.instanceMethod ({ cls := "Backdater", name := "premiumFrom", desc := "(I)I" } : Jvm.MethodName)) ∈ lw_all := lw_g (lw_at lw_m6 11 rfl) rfl
theorem q1247 : (Jvm.Cond.code ({ cls := "Backdater", name := "premiumFrom", desc := "(I)I" } : Jvm.MethodName) prog_1_method_30_code (3 : Nat) (Option.some Jvm.ClassFile.FieldType.int)) ∈ lw_all := lw_g (lw_at lw_m6 12 rfl) rfl
theorem q1248 : (Jvm.Cond.methodLink "Backdater" (214 : Nat) ({ cls := "Backdater", name := "charge", desc := "(I)I" } : Jvm.MethodName)) ∈ lw_all := lw_g (lw_at lw_m6 13 rfl) rfl
theorem q1249 : (Jvm.Cond.privateMethod ({ cls := "Backdater", name := "charge", desc := "(I)I" } : Jvm.MethodName)) ∈ lw_tbl := lw_at lw_m6 14 rfl
theorem q1250 : (Jvm.Cond.instanceMethod ({ cls := "Backdater", name := "charge", desc := "(I)I" } : Jvm.MethodName)) ∈ lw_all := lw_g (lw_at lw_m6 15 rfl) rfl
theorem q1251 : (Jvm.Cond.code ({ cls := "Backdater", name := "charge", desc := "(I)I" } : Jvm.MethodName) prog_1_method_29_code (4 : Nat) (Option.some Jvm.ClassFile.FieldType.int)) ∈ lw_all := lw_g (lw_at lw_m6 16 rfl) rfl
theorem q1256 : (Jvm.Cond.instanceMethod ({ cls := "Backdater", name := "premium", desc := "(II)I" } : Jvm.MethodName)) ∈ lw_all := lw_g (lw_at lw_m6 21 rfl) rfl
theorem q1257 : (Jvm.Cond.selects "Backdater" ({ cls := "Backdater", name := "premium", desc := "(II)I" } : Jvm.MethodName) ({ cls := "Backdater", name := "premium", desc := "(II)I" } : Jvm.MethodName)) ∈ lw_all := lw_g (lw_at lw_m6 22 rfl) rfl
theorem q1258 : (Jvm.Cond.code ({ cls := "Backdater", name := "premium", desc := "(II)I" } : Jvm.MethodName) prog_1_method_36_code (4 : Nat) (Option.some Jvm.ClassFile.FieldType.int)) ∈ lw_all := lw_g (lw_at lw_m6 23 rfl) rfl
theorem q1259 : (Jvm.Cond.methodLink "Backdater" (233 : Nat) ({ cls := "Backdater", name := "premiumOf", desc := "(LBackdater$Policy;I)I" } : Jvm.MethodName)) ∈ lw_all := lw_g (lw_at lw_m6 24 rfl) rfl
theorem q1260 : (Jvm.Cond.privateMethod ({ cls := "Backdater", name := "premiumOf", desc := "(LBackdater$Policy;I)I" } : Jvm.MethodName)) ∈ lw_tbl := lw_at lw_m6 25 rfl
theorem q1261 : (Jvm.Cond.instanceMethod ({ cls := "Backdater", name := "premiumOf", desc := "(LBackdater$Policy;I)I" } : Jvm.MethodName)) ∈ lw_all := lw_g (lw_at lw_m6 26 rfl) rfl
theorem q1262 : (Jvm.Cond.code ({ cls := "Backdater", name := "premiumOf", desc := "(LBackdater$Policy;I)I" } : Jvm.MethodName) prog_1_method_31_code (6 : Nat) (Option.some Jvm.ClassFile.FieldType.int)) ∈ lw_all := lw_g (lw_at lw_m6 27 rfl) rfl
theorem q1263 : (Jvm.Cond.interfaceEntry "Backdater" (222 : Nat)) ∈ lw_tbl := lw_at lw_m6 28 rfl
theorem q1264 : (Jvm.Cond.methodLink "Backdater" (222 : Nat) ({ cls := "java/util/List", name := "iterator", desc := "()Ljava/util/Iterator;" } : Jvm.MethodName)) ∈ lw_all := lw_g (lw_at lw_m6 29 rfl) rfl
theorem q1272 : (Jvm.Cond.instanceMethod ({ cls := "Backdater", name := "premiumByDays", desc := "(II)I" } : Jvm.MethodName)) ∈ lw_all := lw_g (lw_at lw_m6 37 rfl) rfl
theorem q1273 : (Jvm.Cond.selects "Backdater" ({ cls := "Backdater", name := "premiumByDays", desc := "(II)I" } : Jvm.MethodName) ({ cls := "Backdater", name := "premiumByDays", desc := "(II)I" } : Jvm.MethodName)) ∈ lw_all := lw_g (lw_at lw_m6 38 rfl) rfl
theorem q1274 : (Jvm.Cond.code ({ cls := "Backdater", name := "premiumByDays", desc := "(II)I" } : Jvm.MethodName) prog_1_method_37_code (6 : Nat) (Option.some Jvm.ClassFile.FieldType.int)) ∈ lw_all := lw_g (lw_at lw_m6 39 rfl) rfl
theorem q1279 : (Jvm.Cond.instanceMethod ({ cls := "Backdater", name := "bill", desc := "(I)I" } : Jvm.MethodName)) ∈ lw_all := lw_g (lw_at lw_m6 44 rfl) rfl
theorem q1280 : (Jvm.Cond.selects "Backdater" ({ cls := "Backdater", name := "bill", desc := "(I)I" } : Jvm.MethodName) ({ cls := "Backdater", name := "bill", desc := "(I)I" } : Jvm.MethodName)) ∈ lw_all := lw_g (lw_at lw_m6 45 rfl) rfl
theorem q1281 : (Jvm.Cond.code ({ cls := "Backdater", name := "bill", desc := "(I)I" } : Jvm.MethodName) prog_1_method_38_code (4 : Nat) (Option.some Jvm.ClassFile.FieldType.int)) ∈ lw_all := lw_g (lw_at lw_m6 46 rfl) rfl
theorem q1286 : (Jvm.Cond.instanceMethod ({ cls := "Backdater", name := "billed", desc := "(I)I" } : Jvm.MethodName)) ∈ lw_all := lw_g (lw_at lw_m6 51 rfl) rfl
theorem q1287 : (Jvm.Cond.selects "Backdater" ({ cls := "Backdater", name := "billed", desc := "(I)I" } : Jvm.MethodName) ({ cls := "Backdater", name := "billed", desc := "(I)I" } : Jvm.MethodName)) ∈ lw_all := lw_g (lw_at lw_m6 52 rfl) rfl
theorem q1288 : (Jvm.Cond.code ({ cls := "Backdater", name := "billed", desc := "(I)I" } : Jvm.MethodName) prog_1_method_39_code (2 : Nat) (Option.some Jvm.ClassFile.FieldType.int)) ∈ lw_all := lw_g (lw_at lw_m6 53 rfl) rfl
theorem q1509 : (Jvm.Cond.castable "Backdater" "java/lang/Object") ∈ lw_tbl := lw_at lw_m7 34 rfl
theorem in_X1 : ∀ w ∈ wsX10, w ∈ lw_all := lw_in wsX10 [123, 125, 127, 129, 131] (by decide +kernel) (by decide +kernel)
/-! Backdater$Policy -/
set_option maxRecDepth 100000
def RX3 : String := "Backdater$Policy"
def TX3 : u_T := fun k => match k with
  | 0 => ("Backdater$Policy", "base", "I", true)
  | 1 => ("Backdater$Policy", "billed", "I", false)
  | _ => ("Backdater$Policy", "changes", "Ljava/util/TreeMap;", true)
def tyX3 : Nat → FieldType := fun k => match k with
  | 0 => .int
  | 1 => .int
  | _ => .object "java/util/TreeMap"
abbrev wsX30 : List Cond := u_ws RX3 TX3 3
theorem nmX3 : ∀ a, a < 3 → ∀ b, b < 3 → a ≠ b → (TX3 a).2.1 ≠ (TX3 b).2.1 := by decide +kernel
theorem tyX3_ok : ∀ k, k < 3 → parseFieldDescriptor (TX3 k).2.2.1 = some (tyX3 k) := by decide +kernel
abbrev cX3_init : ByteArray := prog_4_method_1_code
def yX3_init : MethodName := ⟨RX3, "<init>", "(I)V"⟩
def dkwX3_init_0 : List UInt8 := [42, 183, 0, 1, 42, 187, 0, 7, 89, 183, 0, 9, 181, 0, 10, 42, 27, 181, 0, 16, 177]
abbrev dktX3_init_0 : List UInt8 := dkwX3_init_0 ++ []
theorem dksX3_init_0 : cX3_init.data.toList.drop 0 = dktX3_init_0 := by decide +kernel
theorem dX3_init_0 : decode cX3_init 0 = .ok (.aload_n 0, 1) := dk_42 (dk_at dksX3_init_0 0 rfl rfl)
theorem dX3_init_1 : decode cX3_init 1 = .ok (.invokespecial 1, 3) := dk_183 0 1 (dk_at dksX3_init_0 1 rfl rfl)
theorem dX3_init_4 : decode cX3_init 4 = .ok (.aload_n 0, 1) := dk_42 (dk_at dksX3_init_0 4 rfl rfl)
theorem dX3_init_5 : decode cX3_init 5 = .ok (.new 7, 3) := dk_187 0 7 (dk_at dksX3_init_0 5 rfl rfl)
theorem dX3_init_8 : decode cX3_init 8 = .ok (.dup, 1) := dk_89 (dk_at dksX3_init_0 8 rfl rfl)
theorem dX3_init_9 : decode cX3_init 9 = .ok (.invokespecial 9, 3) := dk_183 0 9 (dk_at dksX3_init_0 9 rfl rfl)
theorem dX3_init_12 : decode cX3_init 12 = .ok (.putfield 10, 3) := dk_181 0 10 (dk_at dksX3_init_0 12 rfl rfl)
theorem dX3_init_15 : decode cX3_init 15 = .ok (.aload_n 0, 1) := dk_42 (dk_at dksX3_init_0 15 rfl rfl)
theorem dX3_init_16 : decode cX3_init 16 = .ok (.iload_n 1, 1) := dk_27 (dk_at dksX3_init_0 16 rfl rfl)
theorem dX3_init_17 : decode cX3_init 17 = .ok (.putfield 16, 3) := dk_181 0 16 (dk_at dksX3_init_0 17 rfl rfl)
theorem dX3_init_20 : decode cX3_init 20 = .ok (.return_, 1) := dk_177 (dk_at dksX3_init_0 20 rfl rfl)
theorem q46 : (Jvm.Cond.initialized "Backdater$Policy") ∈ lw_all := lw_g (lw_at lw_m1 11 rfl) rfl
theorem q249 : (Jvm.Cond.instantiable "Backdater$Policy" (3 : Nat)) ∈ lw_all := lw_g (lw_at lw_m1 214 rfl) rfl
theorem q251 : (Jvm.Cond.instanceMethod ({ cls := "Backdater$Policy", name := "<init>", desc := "(I)V" } : Jvm.MethodName)) ∈ lw_all := lw_g (lw_at lw_m1 216 rfl) rfl
theorem q252 : (Jvm.Cond.code ({ cls := "Backdater$Policy", name := "<init>", desc := "(I)V" } : Jvm.MethodName) prog_4_method_1_code (2 : Nat) (Option.none : Option Jvm.ClassFile.FieldType)) ∈ lw_all := lw_g (lw_at lw_m1 217 rfl) rfl
theorem q253 : (Jvm.Cond.methodLink "Backdater$Policy" (1 : Nat) ({ cls := "java/lang/Object", name := "<init>", desc := "()V" } : Jvm.MethodName)) ∈ lw_all := lw_g (lw_at lw_m1 218 rfl) rfl
theorem q254 : (Jvm.Cond.classLink "Backdater$Policy" (7 : Nat) "java/util/TreeMap") ∈ lw_all := lw_g (lw_at lw_m1 219 rfl) rfl
theorem q256 : (Jvm.Cond.methodLink "Backdater$Policy" (9 : Nat) ({ cls := "java/util/TreeMap", name := "<init>", desc := "()V" } : Jvm.MethodName)) ∈ lw_all := lw_g (lw_at lw_m1 221 rfl) rfl
theorem q292 : (Jvm.Cond.fieldLink "Backdater$Policy" (16 : Nat) "Backdater$Policy" "base" "I") ∈ lw_all := lw_g (lw_at lw_m2 17 rfl) rfl
theorem q295 : (Jvm.Cond.fieldLink "Backdater$Policy" (10 : Nat) "Backdater$Policy" "changes" "Ljava/util/TreeMap;") ∈ lw_all := lw_g (lw_at lw_m2 20 rfl) rfl
theorem q297 : (Jvm.Cond.laysFinal "Backdater$Policy" "Backdater$Policy" "base" "I") ∈ lw_all := lw_g (lw_at lw_m2 22 rfl) rfl
theorem q298 : (Jvm.Cond.soleField "Backdater$Policy" "base") ∈ lw_all := lw_g (lw_at lw_m2 23 rfl) rfl
theorem q299 : (Jvm.Cond.lays "Backdater$Policy" "Backdater$Policy" "billed" "I") ∈ lw_all := lw_g (lw_at lw_m2 24 rfl) rfl
theorem q300 : (Jvm.Cond.soleField "Backdater$Policy" "billed") ∈ lw_all := lw_g (lw_at lw_m2 25 rfl) rfl
theorem q301 : (Jvm.Cond.laysFinal "Backdater$Policy" "Backdater$Policy" "changes" "Ljava/util/TreeMap;") ∈ lw_all := lw_g (lw_at lw_m2 26 rfl) rfl
theorem q302 : (Jvm.Cond.soleField "Backdater$Policy" "changes") ∈ lw_all := lw_g (lw_at lw_m2 27 rfl) rfl
theorem q303 : (Jvm.Cond.superclass "Backdater$Policy" "java/lang/Object") ∈ lw_all := lw_g (lw_at lw_m2 28 rfl) rfl
theorem q343 : (Jvm.Cond.selects "Backdater$Policy" ({ cls := "java/lang/Object", name := "getClass", desc := "()Ljava/lang/Class;" } : Jvm.MethodName) ({ cls := "java/lang/Object", name := "getClass", desc := "()Ljava/lang/Class;" } : Jvm.MethodName)) ∈ lw_all := lw_g (lw_at lw_m2 68 rfl) rfl
theorem q1514 : (Jvm.Cond.castable "Backdater$Policy" "java/lang/Object") ∈ lw_tbl := lw_at lw_m7 39 rfl
theorem in_X3 : ∀ w ∈ wsX30, w ∈ lw_all := lw_in wsX30 [297, 299, 301] (by decide +kernel) (by decide +kernel)
/-! Backdater$Tariff -/
set_option maxRecDepth 100000
def RX4 : String := "Backdater$Tariff"
def TX4 : u_T := fun k => match k with
  | 0 => ("Backdater$Tariff", "field", "I", true)
  | 1 => ("Backdater$Tariff", "weight", "I", true)
  | _ => ("Backdater$Tariff", "from", "I", true)
def tyX4 : Nat → FieldType := fun k => match k with
  | 0 => .int
  | 1 => .int
  | _ => .int
abbrev wsX40 : List Cond := u_ws RX4 TX4 3
theorem nmX4 : ∀ a, a < 3 → ∀ b, b < 3 → a ≠ b → (TX4 a).2.1 ≠ (TX4 b).2.1 := by decide +kernel
theorem tyX4_ok : ∀ k, k < 3 → parseFieldDescriptor (TX4 k).2.2.1 = some (tyX4 k) := by decide +kernel
abbrev cX4_init : ByteArray := prog_5_method_1_code
def yX4_init : MethodName := ⟨RX4, "<init>", "(III)V"⟩
def dkwX4_init_0 : List UInt8 := [42, 183, 0, 1, 42, 27, 181, 0, 7, 42, 28, 181, 0, 13, 42, 29, 181, 0, 16, 177]
abbrev dktX4_init_0 : List UInt8 := dkwX4_init_0 ++ []
theorem dksX4_init_0 : cX4_init.data.toList.drop 0 = dktX4_init_0 := by decide +kernel
theorem dX4_init_0 : decode cX4_init 0 = .ok (.aload_n 0, 1) := dk_42 (dk_at dksX4_init_0 0 rfl rfl)
theorem dX4_init_1 : decode cX4_init 1 = .ok (.invokespecial 1, 3) := dk_183 0 1 (dk_at dksX4_init_0 1 rfl rfl)
theorem dX4_init_4 : decode cX4_init 4 = .ok (.aload_n 0, 1) := dk_42 (dk_at dksX4_init_0 4 rfl rfl)
theorem dX4_init_5 : decode cX4_init 5 = .ok (.iload_n 1, 1) := dk_27 (dk_at dksX4_init_0 5 rfl rfl)
theorem dX4_init_6 : decode cX4_init 6 = .ok (.putfield 7, 3) := dk_181 0 7 (dk_at dksX4_init_0 6 rfl rfl)
theorem dX4_init_9 : decode cX4_init 9 = .ok (.aload_n 0, 1) := dk_42 (dk_at dksX4_init_0 9 rfl rfl)
theorem dX4_init_10 : decode cX4_init 10 = .ok (.iload_n 2, 1) := dk_28 (dk_at dksX4_init_0 10 rfl rfl)
theorem dX4_init_11 : decode cX4_init 11 = .ok (.putfield 13, 3) := dk_181 0 13 (dk_at dksX4_init_0 11 rfl rfl)
theorem dX4_init_14 : decode cX4_init 14 = .ok (.aload_n 0, 1) := dk_42 (dk_at dksX4_init_0 14 rfl rfl)
theorem dX4_init_15 : decode cX4_init 15 = .ok (.iload_n 3, 1) := dk_29 (dk_at dksX4_init_0 15 rfl rfl)
theorem dX4_init_16 : decode cX4_init 16 = .ok (.putfield 16, 3) := dk_181 0 16 (dk_at dksX4_init_0 16 rfl rfl)
theorem dX4_init_19 : decode cX4_init 19 = .ok (.return_, 1) := dk_177 (dk_at dksX4_init_0 19 rfl rfl)
abbrev cX4_field : ByteArray := prog_5_method_5_code
def yX4_field : MethodName := ⟨RX4, "field", "()I"⟩
theorem dX4_field_0 : decode cX4_field 0 = .ok (.aload_n 0, 1) := by decide +kernel
theorem dX4_field_1 : decode cX4_field 1 = .ok (.getfield 7, 3) := by decide +kernel
theorem dX4_field_4 : decode cX4_field 4 = .ok (.ireturn, 1) := by decide +kernel
abbrev cX4_from : ByteArray := prog_5_method_7_code
def yX4_from : MethodName := ⟨RX4, "from", "()I"⟩
theorem dX4_from_0 : decode cX4_from 0 = .ok (.aload_n 0, 1) := by decide +kernel
theorem dX4_from_1 : decode cX4_from 1 = .ok (.getfield 16, 3) := by decide +kernel
theorem dX4_from_4 : decode cX4_from 4 = .ok (.ireturn, 1) := by decide +kernel
abbrev cX4_weight : ByteArray := prog_5_method_6_code
def yX4_weight : MethodName := ⟨RX4, "weight", "()I"⟩
theorem dX4_weight_0 : decode cX4_weight 0 = .ok (.aload_n 0, 1) := by decide +kernel
theorem dX4_weight_1 : decode cX4_weight 1 = .ok (.getfield 13, 3) := by decide +kernel
theorem dX4_weight_4 : decode cX4_weight 4 = .ok (.ireturn, 1) := by decide +kernel
theorem q57 : (Jvm.Cond.initialized "Backdater$Tariff") ∈ lw_all := lw_g (lw_at lw_m1 22 rfl) rfl
theorem q344 : (Jvm.Cond.selects "Backdater$Tariff" ({ cls := "java/lang/Object", name := "getClass", desc := "()Ljava/lang/Class;" } : Jvm.MethodName) ({ cls := "java/lang/Object", name := "getClass", desc := "()Ljava/lang/Class;" } : Jvm.MethodName)) ∈ lw_all := lw_g (lw_at lw_m2 69 rfl) rfl
theorem q439 : (Jvm.Cond.instantiable "Backdater$Tariff" (3 : Nat)) ∈ lw_all := lw_g (lw_at lw_m2 164 rfl) rfl
theorem q441 : (Jvm.Cond.instanceMethod ({ cls := "Backdater$Tariff", name := "<init>", desc := "(III)V" } : Jvm.MethodName)) ∈ lw_all := lw_g (lw_at lw_m2 166 rfl) rfl
theorem q442 : (Jvm.Cond.code ({ cls := "Backdater$Tariff", name := "<init>", desc := "(III)V" } : Jvm.MethodName) prog_5_method_1_code (4 : Nat) (Option.none : Option Jvm.ClassFile.FieldType)) ∈ lw_all := lw_g (lw_at lw_m2 167 rfl) rfl
theorem q443 : (Jvm.Cond.methodLink "Backdater$Tariff" (1 : Nat) ({ cls := "java/lang/Record", name := "<init>", desc := "()V" } : Jvm.MethodName)) ∈ lw_all := lw_g (lw_at lw_m2 168 rfl) rfl
theorem q447 : (Jvm.Cond.fieldLink "Backdater$Tariff" (7 : Nat) "Backdater$Tariff" "field" "I") ∈ lw_all := lw_g (lw_at lw_m2 172 rfl) rfl
theorem q448 : (Jvm.Cond.fieldLink "Backdater$Tariff" (13 : Nat) "Backdater$Tariff" "weight" "I") ∈ lw_all := lw_g (lw_at lw_m2 173 rfl) rfl
theorem q449 : (Jvm.Cond.fieldLink "Backdater$Tariff" (16 : Nat) "Backdater$Tariff" "from" "I") ∈ lw_all := lw_g (lw_at lw_m2 174 rfl) rfl
theorem q450 : (Jvm.Cond.laysFinal "Backdater$Tariff" "Backdater$Tariff" "field" "I") ∈ lw_all := lw_g (lw_at lw_m2 175 rfl) rfl
theorem q451 : (Jvm.Cond.soleField "Backdater$Tariff" "field") ∈ lw_all := lw_g (lw_at lw_m2 176 rfl) rfl
theorem q452 : (Jvm.Cond.laysFinal "Backdater$Tariff" "Backdater$Tariff" "weight" "I") ∈ lw_all := lw_g (lw_at lw_m2 177 rfl) rfl
theorem q453 : (Jvm.Cond.soleField "Backdater$Tariff" "weight") ∈ lw_all := lw_g (lw_at lw_m2 178 rfl) rfl
theorem q454 : (Jvm.Cond.laysFinal "Backdater$Tariff" "Backdater$Tariff" "from" "I") ∈ lw_all := lw_g (lw_at lw_m2 179 rfl) rfl
theorem q455 : (Jvm.Cond.soleField "Backdater$Tariff" "from") ∈ lw_all := lw_g (lw_at lw_m2 180 rfl) rfl
theorem q456 : (Jvm.Cond.superclass "Backdater$Tariff" "java/lang/Record") ∈ lw_all := lw_g (lw_at lw_m2 181 rfl) rfl
theorem q1190 : (Jvm.Cond.instanceMethod ({ cls := "Backdater$Tariff", name := "field", desc := "()I" } : Jvm.MethodName)) ∈ lw_all := lw_g (lw_at lw_m5 195 rfl) rfl
theorem q1191 : (Jvm.Cond.selects "Backdater$Tariff" ({ cls := "Backdater$Tariff", name := "field", desc := "()I" } : Jvm.MethodName) ({ cls := "Backdater$Tariff", name := "field", desc := "()I" } : Jvm.MethodName)) ∈ lw_all := lw_g (lw_at lw_m5 196 rfl) rfl
theorem q1192 : (Jvm.Cond.code ({ cls := "Backdater$Tariff", name := "field", desc := "()I" } : Jvm.MethodName) prog_5_method_5_code (1 : Nat) (Option.some Jvm.ClassFile.FieldType.int)) ∈ lw_all := lw_g (lw_at lw_m5 197 rfl) rfl
theorem q1194 : (Jvm.Cond.instanceMethod ({ cls := "Backdater$Tariff", name := "from", desc := "()I" } : Jvm.MethodName)) ∈ lw_all := lw_g (lw_at lw_m5 199 rfl) rfl
theorem q1195 : (Jvm.Cond.selects "Backdater$Tariff" ({ cls := "Backdater$Tariff", name := "from", desc := "()I" } : Jvm.MethodName) ({ cls := "Backdater$Tariff", name := "from", desc := "()I" } : Jvm.MethodName)) ∈ lw_all := lw_g (lw_at lw_m5 200 rfl) rfl
theorem q1196 : (Jvm.Cond.code ({ cls := "Backdater$Tariff", name := "from", desc := "()I" } : Jvm.MethodName) prog_5_method_7_code (1 : Nat) (Option.some Jvm.ClassFile.FieldType.int)) ∈ lw_all := lw_g (lw_at lw_m5 201 rfl) rfl
theorem q1198 : (Jvm.Cond.instanceMethod ({ cls := "Backdater$Tariff", name := "weight", desc := "()I" } : Jvm.MethodName)) ∈ lw_all := lw_g (lw_at lw_m5 203 rfl) rfl
theorem q1199 : (Jvm.Cond.selects "Backdater$Tariff" ({ cls := "Backdater$Tariff", name := "weight", desc := "()I" } : Jvm.MethodName) ({ cls := "Backdater$Tariff", name := "weight", desc := "()I" } : Jvm.MethodName)) ∈ lw_all := lw_g (lw_at lw_m5 204 rfl) rfl
theorem q1200 : (Jvm.Cond.code ({ cls := "Backdater$Tariff", name := "weight", desc := "()I" } : Jvm.MethodName) prog_5_method_6_code (1 : Nat) (Option.some Jvm.ClassFile.FieldType.int)) ∈ lw_all := lw_g (lw_at lw_m5 205 rfl) rfl
theorem q1518 : (Jvm.Cond.castable "Backdater$Tariff" "java/lang/Object") ∈ lw_tbl := lw_at lw_m7 43 rfl
theorem in_X4 : ∀ w ∈ wsX40, w ∈ lw_all := lw_in wsX40 [450, 452, 454] (by decide +kernel) (by decide +kernel)
/-! Backdater$Change -/
set_option maxRecDepth 100000
def RX5 : String := "Backdater$Change"
def TX5 : u_T := fun k => match k with
  | 0 => ("Backdater$Change", "number", "I", true)
  | 1 => ("Backdater$Change", "policy", "LBackdater$Policy;", true)
  | 2 => ("Backdater$Change", "from", "I", true)
  | 3 => ("Backdater$Change", "told", "I", true)
  | 4 => ("Backdater$Change", "effect", "LBackdater$Effect;", true)
  | _ => ("Backdater$Change", "takenBack", "I", false)
def tyX5 : Nat → FieldType := fun k => match k with
  | 0 => .int
  | 1 => .object "Backdater$Policy"
  | 2 => .int
  | 3 => .int
  | 4 => .object "Backdater$Effect"
  | _ => .int
abbrev wsX50 : List Cond := u_ws RX5 TX5 6
theorem nmX5 : ∀ a, a < 6 → ∀ b, b < 6 → a ≠ b → (TX5 a).2.1 ≠ (TX5 b).2.1 := by decide +kernel
theorem tyX5_ok : ∀ k, k < 6 → parseFieldDescriptor (TX5 k).2.2.1 = some (tyX5 k) := by decide +kernel
abbrev cX5_init : ByteArray := prog_2_method_1_code
def yX5_init : MethodName := ⟨RX5, "<init>", "(ILBackdater$Policy;IILBackdater$Effect;)V"⟩
def dkwX5_init_1 : List UInt8 := [181, 0, 23, 42, 21, 4, 181, 0, 26, 42, 25, 5, 181, 0, 29, 177]
abbrev dktX5_init_1 : List UInt8 := dkwX5_init_1 ++ []
def dkwX5_init_0 : List UInt8 := [42, 183, 0, 3, 42, 18, 9, 181, 0, 10, 42, 27, 181, 0, 16, 42, 44, 181, 0, 19, 42, 29]
abbrev dktX5_init_0 : List UInt8 := dkwX5_init_0 ++ dktX5_init_1
theorem dksX5_init_0 : cX5_init.data.toList.drop 0 = dktX5_init_0 := by decide +kernel
theorem dksX5_init_1 : cX5_init.data.toList.drop 22 = dktX5_init_1 := dk_seg dksX5_init_0 22 rfl rfl
theorem dX5_init_0 : decode cX5_init 0 = .ok (.aload_n 0, 1) := dk_42 (dk_at dksX5_init_0 0 rfl rfl)
theorem dX5_init_1 : decode cX5_init 1 = .ok (.invokespecial 3, 3) := dk_183 0 3 (dk_at dksX5_init_0 1 rfl rfl)
theorem dX5_init_4 : decode cX5_init 4 = .ok (.aload_n 0, 1) := dk_42 (dk_at dksX5_init_0 4 rfl rfl)
theorem dX5_init_5 : decode cX5_init 5 = .ok (.ldc 9, 2) := dk_18 9 (dk_at dksX5_init_0 5 rfl rfl)
theorem dX5_init_7 : decode cX5_init 7 = .ok (.putfield 10, 3) := dk_181 0 10 (dk_at dksX5_init_0 7 rfl rfl)
theorem dX5_init_10 : decode cX5_init 10 = .ok (.aload_n 0, 1) := dk_42 (dk_at dksX5_init_0 10 rfl rfl)
theorem dX5_init_11 : decode cX5_init 11 = .ok (.iload_n 1, 1) := dk_27 (dk_at dksX5_init_0 11 rfl rfl)
theorem dX5_init_12 : decode cX5_init 12 = .ok (.putfield 16, 3) := dk_181 0 16 (dk_at dksX5_init_0 12 rfl rfl)
theorem dX5_init_15 : decode cX5_init 15 = .ok (.aload_n 0, 1) := dk_42 (dk_at dksX5_init_0 15 rfl rfl)
theorem dX5_init_16 : decode cX5_init 16 = .ok (.aload_n 2, 1) := dk_44 (dk_at dksX5_init_0 16 rfl rfl)
theorem dX5_init_17 : decode cX5_init 17 = .ok (.putfield 19, 3) := dk_181 0 19 (dk_at dksX5_init_0 17 rfl rfl)
theorem dX5_init_20 : decode cX5_init 20 = .ok (.aload_n 0, 1) := dk_42 (dk_at dksX5_init_0 20 rfl rfl)
theorem dX5_init_21 : decode cX5_init 21 = .ok (.iload_n 3, 1) := dk_29 (dk_at dksX5_init_0 21 rfl rfl)
theorem dX5_init_22 : decode cX5_init 22 = .ok (.putfield 23, 3) := dk_181 0 23 (dk_at dksX5_init_1 0 rfl rfl)
theorem dX5_init_25 : decode cX5_init 25 = .ok (.aload_n 0, 1) := dk_42 (dk_at dksX5_init_1 3 rfl rfl)
theorem dX5_init_26 : decode cX5_init 26 = .ok (.iload 4, 2) := dk_21 4 (dk_at dksX5_init_1 4 rfl rfl)
theorem dX5_init_28 : decode cX5_init 28 = .ok (.putfield 26, 3) := dk_181 0 26 (dk_at dksX5_init_1 6 rfl rfl)
theorem dX5_init_31 : decode cX5_init 31 = .ok (.aload_n 0, 1) := dk_42 (dk_at dksX5_init_1 9 rfl rfl)
theorem dX5_init_32 : decode cX5_init 32 = .ok (.aload 5, 2) := dk_25 5 (dk_at dksX5_init_1 10 rfl rfl)
theorem dX5_init_34 : decode cX5_init 34 = .ok (.putfield 29, 3) := dk_181 0 29 (dk_at dksX5_init_1 12 rfl rfl)
theorem dX5_init_37 : decode cX5_init 37 = .ok (.return_, 1) := dk_177 (dk_at dksX5_init_1 15 rfl rfl)
abbrev cX5_isKnown : ByteArray := prog_2_method_2_code
def yX5_isKnown : MethodName := ⟨RX5, "isKnown", "(I)Z"⟩
def dkwX5_isKnown_0 : List UInt8 := [42, 180, 0, 26, 27, 163, 0, 15, 27, 42, 180, 0, 10, 162, 0, 7, 4, 167, 0, 4, 3, 172]
abbrev dktX5_isKnown_0 : List UInt8 := dkwX5_isKnown_0 ++ []
theorem dksX5_isKnown_0 : cX5_isKnown.data.toList.drop 0 = dktX5_isKnown_0 := by decide +kernel
theorem dX5_isKnown_0 : decode cX5_isKnown 0 = .ok (.aload_n 0, 1) := dk_42 (dk_at dksX5_isKnown_0 0 rfl rfl)
theorem dX5_isKnown_1 : decode cX5_isKnown 1 = .ok (.getfield 26, 3) := dk_180 0 26 (dk_at dksX5_isKnown_0 1 rfl rfl)
theorem dX5_isKnown_4 : decode cX5_isKnown 4 = .ok (.iload_n 1, 1) := dk_27 (dk_at dksX5_isKnown_0 4 rfl rfl)
theorem dX5_isKnown_5 : decode cX5_isKnown 5 = .ok (.if_icmp .gt 15, 3) := dk_163 0 15 (dk_at dksX5_isKnown_0 5 rfl rfl)
theorem dX5_isKnown_8 : decode cX5_isKnown 8 = .ok (.iload_n 1, 1) := dk_27 (dk_at dksX5_isKnown_0 8 rfl rfl)
theorem dX5_isKnown_9 : decode cX5_isKnown 9 = .ok (.aload_n 0, 1) := dk_42 (dk_at dksX5_isKnown_0 9 rfl rfl)
theorem dX5_isKnown_10 : decode cX5_isKnown 10 = .ok (.getfield 10, 3) := dk_180 0 10 (dk_at dksX5_isKnown_0 10 rfl rfl)
theorem dX5_isKnown_13 : decode cX5_isKnown 13 = .ok (.if_icmp .ge 7, 3) := dk_162 0 7 (dk_at dksX5_isKnown_0 13 rfl rfl)
theorem dX5_isKnown_16 : decode cX5_isKnown 16 = .ok (.iconst 1, 1) := dk_4 (dk_at dksX5_isKnown_0 16 rfl rfl)
theorem dX5_isKnown_17 : decode cX5_isKnown 17 = .ok (.goto 4, 3) := dk_167 0 4 (dk_at dksX5_isKnown_0 17 rfl rfl)
theorem dX5_isKnown_20 : decode cX5_isKnown 20 = .ok (.iconst 0, 1) := dk_3 (dk_at dksX5_isKnown_0 20 rfl rfl)
theorem dX5_isKnown_21 : decode cX5_isKnown 21 = .ok (.ireturn, 1) := dk_172 (dk_at dksX5_isKnown_0 21 rfl rfl)
theorem q60 : (Jvm.Cond.initialized "Backdater$Change") ∈ lw_all := lw_g (lw_at lw_m1 25 rfl) rfl
theorem q342 : (Jvm.Cond.selects "Backdater$Change" ({ cls := "java/lang/Object", name := "getClass", desc := "()Ljava/lang/Class;" } : Jvm.MethodName) ({ cls := "java/lang/Object", name := "getClass", desc := "()Ljava/lang/Class;" } : Jvm.MethodName)) ∈ lw_all := lw_g (lw_at lw_m2 67 rfl) rfl
theorem q501 : (Jvm.Cond.instantiable "Backdater$Change" (6 : Nat)) ∈ lw_all := lw_g (lw_at lw_m2 226 rfl) rfl
theorem q503 : (Jvm.Cond.instanceMethod ({ cls := "Backdater$Change", name := "<init>", desc := "(ILBackdater$Policy;IILBackdater$Effect;)V" } : Jvm.MethodName)) ∈ lw_all := lw_g (lw_at lw_m2 228 rfl) rfl
theorem q504 : (Jvm.Cond.code ({ cls := "Backdater$Change", name := "<init>", desc := "(ILBackdater$Policy;IILBackdater$Effect;)V" } : Jvm.MethodName) prog_2_method_1_code (6 : Nat) (Option.none : Option Jvm.ClassFile.FieldType)) ∈ lw_all := lw_g (lw_at lw_m2 229 rfl) rfl
theorem q505 : (Jvm.Cond.methodLink "Backdater$Change" (3 : Nat) ({ cls := "java/lang/Object", name := "<init>", desc := "()V" } : Jvm.MethodName)) ∈ lw_all := lw_g (lw_at lw_m2 230 rfl) rfl
theorem q506 : (Jvm.Cond.constant "Backdater$Change" (9 : Nat) (2147483647 : Int32)) ∈ lw_all := lw_g (lw_at lw_m2 231 rfl) rfl
theorem q507 : (Jvm.Cond.fieldLink "Backdater$Change" (16 : Nat) "Backdater$Change" "number" "I") ∈ lw_all := lw_g (lw_at lw_m2 232 rfl) rfl
theorem q509 : (Jvm.Cond.fieldLink "Backdater$Change" (19 : Nat) "Backdater$Change" "policy" "LBackdater$Policy;") ∈ lw_all := lw_g (lw_at lw_m2 234 rfl) rfl
theorem q511 : (Jvm.Cond.fieldLink "Backdater$Change" (23 : Nat) "Backdater$Change" "from" "I") ∈ lw_all := lw_g (lw_at lw_m2 236 rfl) rfl
theorem q513 : (Jvm.Cond.fieldLink "Backdater$Change" (26 : Nat) "Backdater$Change" "told" "I") ∈ lw_all := lw_g (lw_at lw_m2 238 rfl) rfl
theorem q515 : (Jvm.Cond.fieldLink "Backdater$Change" (29 : Nat) "Backdater$Change" "effect" "LBackdater$Effect;") ∈ lw_all := lw_g (lw_at lw_m3 0 rfl) rfl
theorem q517 : (Jvm.Cond.fieldLink "Backdater$Change" (10 : Nat) "Backdater$Change" "takenBack" "I") ∈ lw_all := lw_g (lw_at lw_m3 2 rfl) rfl
theorem q519 : (Jvm.Cond.laysFinal "Backdater$Change" "Backdater$Change" "number" "I") ∈ lw_all := lw_g (lw_at lw_m3 4 rfl) rfl
theorem q520 : (Jvm.Cond.soleField "Backdater$Change" "number") ∈ lw_all := lw_g (lw_at lw_m3 5 rfl) rfl
theorem q521 : (Jvm.Cond.laysFinal "Backdater$Change" "Backdater$Change" "policy" "LBackdater$Policy;") ∈ lw_all := lw_g (lw_at lw_m3 6 rfl) rfl
theorem q522 : (Jvm.Cond.soleField "Backdater$Change" "policy") ∈ lw_all := lw_g (lw_at lw_m3 7 rfl) rfl
theorem q523 : (Jvm.Cond.laysFinal "Backdater$Change" "Backdater$Change" "from" "I") ∈ lw_all := lw_g (lw_at lw_m3 8 rfl) rfl
theorem q524 : (Jvm.Cond.soleField "Backdater$Change" "from") ∈ lw_all := lw_g (lw_at lw_m3 9 rfl) rfl
theorem q525 : (Jvm.Cond.laysFinal "Backdater$Change" "Backdater$Change" "told" "I") ∈ lw_all := lw_g (lw_at lw_m3 10 rfl) rfl
theorem q526 : (Jvm.Cond.soleField "Backdater$Change" "told") ∈ lw_all := lw_g (lw_at lw_m3 11 rfl) rfl
theorem q527 : (Jvm.Cond.laysFinal "Backdater$Change" "Backdater$Change" "effect" "LBackdater$Effect;") ∈ lw_all := lw_g (lw_at lw_m3 12 rfl) rfl
theorem q528 : (Jvm.Cond.soleField "Backdater$Change" "effect") ∈ lw_all := lw_g (lw_at lw_m3 13 rfl) rfl
theorem q529 : (Jvm.Cond.lays "Backdater$Change" "Backdater$Change" "takenBack" "I") ∈ lw_all := lw_g (lw_at lw_m3 14 rfl) rfl
theorem q530 : (Jvm.Cond.soleField "Backdater$Change" "takenBack") ∈ lw_all := lw_g (lw_at lw_m3 15 rfl) rfl
theorem q531 : (Jvm.Cond.superclass "Backdater$Change" "java/lang/Object") ∈ lw_all := lw_g (lw_at lw_m3 16 rfl) rfl
theorem q722 : (Jvm.Cond.instanceMethod ({ cls := "Backdater$Change", name := "isKnown", desc := "(I)Z" } : Jvm.MethodName)) ∈ lw_all := lw_g (lw_at lw_m3 207 rfl) rfl
theorem q723 : (Jvm.Cond.selects "Backdater$Change" ({ cls := "Backdater$Change", name := "isKnown", desc := "(I)Z" } : Jvm.MethodName) ({ cls := "Backdater$Change", name := "isKnown", desc := "(I)Z" } : Jvm.MethodName)) ∈ lw_all := lw_g (lw_at lw_m3 208 rfl) rfl
theorem q724 : (Jvm.Cond.code ({ cls := "Backdater$Change", name := "isKnown", desc := "(I)Z" } : Jvm.MethodName) prog_2_method_2_code (2 : Nat) (Option.some Jvm.ClassFile.FieldType.boolean)) ∈ lw_all := lw_g (lw_at lw_m3 209 rfl) rfl
theorem q1519 : (Jvm.Cond.castable "Backdater$Change" "java/lang/Object") ∈ lw_tbl := lw_at lw_m7 44 rfl
theorem in_X5 : ∀ w ∈ wsX50, w ∈ lw_all := lw_in wsX50 [519, 521, 523, 525, 527, 529] (by decide +kernel) (by decide +kernel)
/-! Backdater$Version -/
set_option maxRecDepth 100000
def RX6 : String := "Backdater$Version"
def TX6 : u_T := fun k => match k with
  | 0 => ("Backdater$Version", "values", "[I", true)
  | _ => ("Backdater$Version", "isCovered", "Z", false)
def tyX6 : Nat → FieldType := fun k => match k with
  | 0 => .array .int
  | _ => .boolean
abbrev wsX60 : List Cond := u_ws RX6 TX6 2
theorem nmX6 : ∀ a, a < 2 → ∀ b, b < 2 → a ≠ b → (TX6 a).2.1 ≠ (TX6 b).2.1 := by decide +kernel
theorem tyX6_ok : ∀ k, k < 2 → parseFieldDescriptor (TX6 k).2.2.1 = some (tyX6 k) := by decide +kernel
abbrev cX6_init : ByteArray := prog_6_method_1_code
def yX6_init : MethodName := ⟨RX6, "<init>", "()V"⟩
def dkwX6_init_0 : List UInt8 := [42, 183, 0, 3, 42, 6, 188, 10, 181, 0, 9, 42, 4, 181, 0, 15, 177]
abbrev dktX6_init_0 : List UInt8 := dkwX6_init_0 ++ []
theorem dksX6_init_0 : cX6_init.data.toList.drop 0 = dktX6_init_0 := by decide +kernel
theorem dX6_init_0 : decode cX6_init 0 = .ok (.aload_n 0, 1) := dk_42 (dk_at dksX6_init_0 0 rfl rfl)
theorem dX6_init_1 : decode cX6_init 1 = .ok (.invokespecial 3, 3) := dk_183 0 3 (dk_at dksX6_init_0 1 rfl rfl)
theorem dX6_init_4 : decode cX6_init 4 = .ok (.aload_n 0, 1) := dk_42 (dk_at dksX6_init_0 4 rfl rfl)
theorem dX6_init_5 : decode cX6_init 5 = .ok (.iconst 3, 1) := dk_6 (dk_at dksX6_init_0 5 rfl rfl)
theorem dX6_init_6 : decode cX6_init 6 = .ok (.newarray .int, 2) := dk_188_10 (dk_at dksX6_init_0 6 rfl rfl)
theorem dX6_init_8 : decode cX6_init 8 = .ok (.putfield 9, 3) := dk_181 0 9 (dk_at dksX6_init_0 8 rfl rfl)
theorem dX6_init_11 : decode cX6_init 11 = .ok (.aload_n 0, 1) := dk_42 (dk_at dksX6_init_0 11 rfl rfl)
theorem dX6_init_12 : decode cX6_init 12 = .ok (.iconst 1, 1) := dk_4 (dk_at dksX6_init_0 12 rfl rfl)
theorem dX6_init_13 : decode cX6_init 13 = .ok (.putfield 15, 3) := dk_181 0 15 (dk_at dksX6_init_0 13 rfl rfl)
theorem dX6_init_16 : decode cX6_init 16 = .ok (.return_, 1) := dk_177 (dk_at dksX6_init_0 16 rfl rfl)
theorem q65 : (Jvm.Cond.initialized "Backdater$Version") ∈ lw_all := lw_g (lw_at lw_m1 30 rfl) rfl
theorem q345 : (Jvm.Cond.selects "Backdater$Version" ({ cls := "java/lang/Object", name := "getClass", desc := "()Ljava/lang/Class;" } : Jvm.MethodName) ({ cls := "java/lang/Object", name := "getClass", desc := "()Ljava/lang/Class;" } : Jvm.MethodName)) ∈ lw_all := lw_g (lw_at lw_m2 70 rfl) rfl
theorem q741 : (Jvm.Cond.instantiable "Backdater$Version" (2 : Nat)) ∈ lw_all := lw_g (lw_at lw_m3 226 rfl) rfl
theorem q743 : (Jvm.Cond.instanceMethod ({ cls := "Backdater$Version", name := "<init>", desc := "()V" } : Jvm.MethodName)) ∈ lw_all := lw_g (lw_at lw_m3 228 rfl) rfl
theorem q744 : (Jvm.Cond.code ({ cls := "Backdater$Version", name := "<init>", desc := "()V" } : Jvm.MethodName) prog_6_method_1_code (1 : Nat) (Option.none : Option Jvm.ClassFile.FieldType)) ∈ lw_all := lw_g (lw_at lw_m3 229 rfl) rfl
theorem q745 : (Jvm.Cond.methodLink "Backdater$Version" (3 : Nat) ({ cls := "java/lang/Object", name := "<init>", desc := "()V" } : Jvm.MethodName)) ∈ lw_all := lw_g (lw_at lw_m3 230 rfl) rfl
theorem q746 : (Jvm.Cond.fieldLink "Backdater$Version" (9 : Nat) "Backdater$Version" "values" "[I") ∈ lw_all := lw_g (lw_at lw_m3 231 rfl) rfl
theorem q748 : (Jvm.Cond.fieldLink "Backdater$Version" (15 : Nat) "Backdater$Version" "isCovered" "Z") ∈ lw_all := lw_g (lw_at lw_m3 233 rfl) rfl
theorem q750 : (Jvm.Cond.laysFinal "Backdater$Version" "Backdater$Version" "values" "[I") ∈ lw_all := lw_g (lw_at lw_m3 235 rfl) rfl
theorem q751 : (Jvm.Cond.soleField "Backdater$Version" "values") ∈ lw_all := lw_g (lw_at lw_m3 236 rfl) rfl
theorem q752 : (Jvm.Cond.lays "Backdater$Version" "Backdater$Version" "isCovered" "Z") ∈ lw_all := lw_g (lw_at lw_m3 237 rfl) rfl
theorem q753 : (Jvm.Cond.soleField "Backdater$Version" "isCovered") ∈ lw_all := lw_g (lw_at lw_m3 238 rfl) rfl
theorem q754 : (Jvm.Cond.superclass "Backdater$Version" "java/lang/Object") ∈ lw_all := lw_g (lw_at lw_m3 239 rfl) rfl
theorem q1522 : (Jvm.Cond.castable "Backdater$Version" "java/lang/Object") ∈ lw_tbl := lw_at lw_m7 47 rfl
theorem in_X6 : ∀ w ∈ wsX60, w ∈ lw_all := lw_in wsX60 [750, 752] (by decide +kernel) (by decide +kernel)

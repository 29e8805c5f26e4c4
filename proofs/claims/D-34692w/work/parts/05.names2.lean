/-! BackdaterModel -/
set_option maxRecDepth 100000
def RX2 : String := "BackdaterModel"
def TX2 : u_T := fun k => match k with
  | 0 => ("BackdaterModel", "policies", "I", false)
  | 1 => ("BackdaterModel", "base", "[I", true)
  | 2 => ("BackdaterModel", "paid", "[I", true)
  | 3 => ("BackdaterModel", "today", "I", false)
  | 4 => ("BackdaterModel", "tariffs", "I", false)
  | 5 => ("BackdaterModel", "field", "[I", true)
  | 6 => ("BackdaterModel", "weight", "[I", true)
  | 7 => ("BackdaterModel", "since", "[I", true)
  | 8 => ("BackdaterModel", "changes", "I", false)
  | 9 => ("BackdaterModel", "of", "[I", true)
  | 10 => ("BackdaterModel", "kind", "[I", true)
  | 11 => ("BackdaterModel", "which", "[I", true)
  | 12 => ("BackdaterModel", "from", "[I", true)
  | 13 => ("BackdaterModel", "number", "[I", true)
  | 14 => ("BackdaterModel", "told", "[I", true)
  | 15 => ("BackdaterModel", "taken", "[I", true)
  | 16 => ("BackdaterModel", "value", "[I", true)
  | 17 => ("BackdaterModel", "covered", "[Z", true)
  | 18 => ("BackdaterModel", "rate", "[I", true)
  | 19 => ("BackdaterModel", "sum", "[I", true)
  | _ => ("BackdaterModel", "thrown", "I", false)
def tyX2 : Nat → FieldType := fun k => match k with
  | 0 => .int
  | 1 => .array .int
  | 2 => .array .int
  | 3 => .int
  | 4 => .int
  | 5 => .array .int
  | 6 => .array .int
  | 7 => .array .int
  | 8 => .int
  | 9 => .array .int
  | 10 => .array .int
  | 11 => .array .int
  | 12 => .array .int
  | 13 => .array .int
  | 14 => .array .int
  | 15 => .array .int
  | 16 => .array .int
  | 17 => .array .boolean
  | 18 => .array .int
  | 19 => .array .int
  | _ => .int
abbrev wsX20 : List Cond := u_ws RX2 TX2 21
set_option maxRecDepth 100000 in
theorem nmX2 : ∀ a, a < 21 → ∀ b, b < 21 → a ≠ b → (TX2 a).2.1 ≠ (TX2 b).2.1 := by decide +kernel
set_option maxRecDepth 100000 in
theorem tyX2_ok : ∀ k, k < 21 → parseFieldDescriptor (TX2 k).2.2.1 = some (tyX2 k) := by decide +kernel
abbrev cX2_init : ByteArray := prog_8_method_1_code
def yX2_init : MethodName := ⟨RX2, "<init>", "()V"⟩
def dkwX2_init_5 : List UInt8 := [17, 1, 109, 188, 10, 181, 0, 53, 42, 17, 1, 110, 188, 10, 181, 0, 56, 177]
abbrev dktX2_init_5 : List UInt8 := dkwX2_init_5 ++ []
def dkwX2_init_4 : List UInt8 := [181, 0, 43, 42, 17, 4, 71, 188, 10, 181, 0, 46, 42, 17, 1, 109, 188, 4, 181, 0, 49, 42]
abbrev dktX2_init_4 : List UInt8 := dkwX2_init_4 ++ dktX2_init_5
def dkwX2_init_3 : List UInt8 := [181, 0, 34, 42, 16, 60, 188, 10, 181, 0, 37, 42, 16, 60, 188, 10, 181, 0, 40, 42, 16, 60, 188, 10]
abbrev dktX2_init_3 : List UInt8 := dkwX2_init_3 ++ dktX2_init_4
def dkwX2_init_2 : List UInt8 := [181, 0, 25, 42, 16, 60, 188, 10, 181, 0, 28, 42, 16, 60, 188, 10, 181, 0, 31, 42, 16, 60, 188, 10]
abbrev dktX2_init_2 : List UInt8 := dkwX2_init_2 ++ dktX2_init_3
def dkwX2_init_1 : List UInt8 := [181, 0, 16, 42, 16, 20, 188, 10, 181, 0, 19, 42, 16, 20, 188, 10, 181, 0, 22, 42, 16, 60, 188, 10]
abbrev dktX2_init_1 : List UInt8 := dkwX2_init_1 ++ dktX2_init_2
def dkwX2_init_0 : List UInt8 := [42, 183, 0, 1, 42, 7, 188, 10, 181, 0, 7, 42, 7, 188, 10, 181, 0, 13, 42, 16, 20, 188, 10]
abbrev dktX2_init_0 : List UInt8 := dkwX2_init_0 ++ dktX2_init_1
theorem dksX2_init_0 : cX2_init.data.toList.drop 0 = dktX2_init_0 := by decide +kernel
theorem dksX2_init_1 : cX2_init.data.toList.drop 23 = dktX2_init_1 := dk_seg dksX2_init_0 23 rfl rfl
theorem dksX2_init_2 : cX2_init.data.toList.drop 47 = dktX2_init_2 := dk_seg dksX2_init_1 24 rfl rfl
theorem dksX2_init_3 : cX2_init.data.toList.drop 71 = dktX2_init_3 := dk_seg dksX2_init_2 24 rfl rfl
theorem dksX2_init_4 : cX2_init.data.toList.drop 95 = dktX2_init_4 := dk_seg dksX2_init_3 24 rfl rfl
theorem dksX2_init_5 : cX2_init.data.toList.drop 117 = dktX2_init_5 := dk_seg dksX2_init_4 22 rfl rfl
theorem dX2_init_0 : decode cX2_init 0 = .ok (.aload_n 0, 1) := dk_42 (dk_at dksX2_init_0 0 rfl rfl)
theorem dX2_init_1 : decode cX2_init 1 = .ok (.invokespecial 1, 3) := dk_183 0 1 (dk_at dksX2_init_0 1 rfl rfl)
theorem dX2_init_4 : decode cX2_init 4 = .ok (.aload_n 0, 1) := dk_42 (dk_at dksX2_init_0 4 rfl rfl)
theorem dX2_init_5 : decode cX2_init 5 = .ok (.iconst 4, 1) := dk_7 (dk_at dksX2_init_0 5 rfl rfl)
theorem dX2_init_6 : decode cX2_init 6 = .ok (.newarray .int, 2) := dk_188_10 (dk_at dksX2_init_0 6 rfl rfl)
theorem dX2_init_8 : decode cX2_init 8 = .ok (.putfield 7, 3) := dk_181 0 7 (dk_at dksX2_init_0 8 rfl rfl)
theorem dX2_init_11 : decode cX2_init 11 = .ok (.aload_n 0, 1) := dk_42 (dk_at dksX2_init_0 11 rfl rfl)
theorem dX2_init_12 : decode cX2_init 12 = .ok (.iconst 4, 1) := dk_7 (dk_at dksX2_init_0 12 rfl rfl)
theorem dX2_init_13 : decode cX2_init 13 = .ok (.newarray .int, 2) := dk_188_10 (dk_at dksX2_init_0 13 rfl rfl)
theorem dX2_init_15 : decode cX2_init 15 = .ok (.putfield 13, 3) := dk_181 0 13 (dk_at dksX2_init_0 15 rfl rfl)
theorem dX2_init_18 : decode cX2_init 18 = .ok (.aload_n 0, 1) := dk_42 (dk_at dksX2_init_0 18 rfl rfl)
theorem dX2_init_19 : decode cX2_init 19 = .ok (.bipush 20, 2) := dk_16 20 (dk_at dksX2_init_0 19 rfl rfl)
theorem dX2_init_21 : decode cX2_init 21 = .ok (.newarray .int, 2) := dk_188_10 (dk_at dksX2_init_0 21 rfl rfl)
theorem dX2_init_23 : decode cX2_init 23 = .ok (.putfield 16, 3) := dk_181 0 16 (dk_at dksX2_init_1 0 rfl rfl)
theorem dX2_init_26 : decode cX2_init 26 = .ok (.aload_n 0, 1) := dk_42 (dk_at dksX2_init_1 3 rfl rfl)
theorem dX2_init_27 : decode cX2_init 27 = .ok (.bipush 20, 2) := dk_16 20 (dk_at dksX2_init_1 4 rfl rfl)
theorem dX2_init_29 : decode cX2_init 29 = .ok (.newarray .int, 2) := dk_188_10 (dk_at dksX2_init_1 6 rfl rfl)
theorem dX2_init_31 : decode cX2_init 31 = .ok (.putfield 19, 3) := dk_181 0 19 (dk_at dksX2_init_1 8 rfl rfl)
theorem dX2_init_34 : decode cX2_init 34 = .ok (.aload_n 0, 1) := dk_42 (dk_at dksX2_init_1 11 rfl rfl)
theorem dX2_init_35 : decode cX2_init 35 = .ok (.bipush 20, 2) := dk_16 20 (dk_at dksX2_init_1 12 rfl rfl)
theorem dX2_init_37 : decode cX2_init 37 = .ok (.newarray .int, 2) := dk_188_10 (dk_at dksX2_init_1 14 rfl rfl)
theorem dX2_init_39 : decode cX2_init 39 = .ok (.putfield 22, 3) := dk_181 0 22 (dk_at dksX2_init_1 16 rfl rfl)
theorem dX2_init_42 : decode cX2_init 42 = .ok (.aload_n 0, 1) := dk_42 (dk_at dksX2_init_1 19 rfl rfl)
theorem dX2_init_43 : decode cX2_init 43 = .ok (.bipush 60, 2) := dk_16 60 (dk_at dksX2_init_1 20 rfl rfl)
theorem dX2_init_45 : decode cX2_init 45 = .ok (.newarray .int, 2) := dk_188_10 (dk_at dksX2_init_1 22 rfl rfl)
theorem dX2_init_47 : decode cX2_init 47 = .ok (.putfield 25, 3) := dk_181 0 25 (dk_at dksX2_init_2 0 rfl rfl)
theorem dX2_init_50 : decode cX2_init 50 = .ok (.aload_n 0, 1) := dk_42 (dk_at dksX2_init_2 3 rfl rfl)
theorem dX2_init_51 : decode cX2_init 51 = .ok (.bipush 60, 2) := dk_16 60 (dk_at dksX2_init_2 4 rfl rfl)
theorem dX2_init_53 : decode cX2_init 53 = .ok (.newarray .int, 2) := dk_188_10 (dk_at dksX2_init_2 6 rfl rfl)
theorem dX2_init_55 : decode cX2_init 55 = .ok (.putfield 28, 3) := dk_181 0 28 (dk_at dksX2_init_2 8 rfl rfl)
theorem dX2_init_58 : decode cX2_init 58 = .ok (.aload_n 0, 1) := dk_42 (dk_at dksX2_init_2 11 rfl rfl)
theorem dX2_init_59 : decode cX2_init 59 = .ok (.bipush 60, 2) := dk_16 60 (dk_at dksX2_init_2 12 rfl rfl)
theorem dX2_init_61 : decode cX2_init 61 = .ok (.newarray .int, 2) := dk_188_10 (dk_at dksX2_init_2 14 rfl rfl)
theorem dX2_init_63 : decode cX2_init 63 = .ok (.putfield 31, 3) := dk_181 0 31 (dk_at dksX2_init_2 16 rfl rfl)
theorem dX2_init_66 : decode cX2_init 66 = .ok (.aload_n 0, 1) := dk_42 (dk_at dksX2_init_2 19 rfl rfl)
theorem dX2_init_67 : decode cX2_init 67 = .ok (.bipush 60, 2) := dk_16 60 (dk_at dksX2_init_2 20 rfl rfl)
theorem dX2_init_69 : decode cX2_init 69 = .ok (.newarray .int, 2) := dk_188_10 (dk_at dksX2_init_2 22 rfl rfl)
theorem dX2_init_71 : decode cX2_init 71 = .ok (.putfield 34, 3) := dk_181 0 34 (dk_at dksX2_init_3 0 rfl rfl)
theorem dX2_init_74 : decode cX2_init 74 = .ok (.aload_n 0, 1) := dk_42 (dk_at dksX2_init_3 3 rfl rfl)
theorem dX2_init_75 : decode cX2_init 75 = .ok (.bipush 60, 2) := dk_16 60 (dk_at dksX2_init_3 4 rfl rfl)
theorem dX2_init_77 : decode cX2_init 77 = .ok (.newarray .int, 2) := dk_188_10 (dk_at dksX2_init_3 6 rfl rfl)
theorem dX2_init_79 : decode cX2_init 79 = .ok (.putfield 37, 3) := dk_181 0 37 (dk_at dksX2_init_3 8 rfl rfl)
theorem dX2_init_82 : decode cX2_init 82 = .ok (.aload_n 0, 1) := dk_42 (dk_at dksX2_init_3 11 rfl rfl)
theorem dX2_init_83 : decode cX2_init 83 = .ok (.bipush 60, 2) := dk_16 60 (dk_at dksX2_init_3 12 rfl rfl)
theorem dX2_init_85 : decode cX2_init 85 = .ok (.newarray .int, 2) := dk_188_10 (dk_at dksX2_init_3 14 rfl rfl)
theorem dX2_init_87 : decode cX2_init 87 = .ok (.putfield 40, 3) := dk_181 0 40 (dk_at dksX2_init_3 16 rfl rfl)
theorem dX2_init_90 : decode cX2_init 90 = .ok (.aload_n 0, 1) := dk_42 (dk_at dksX2_init_3 19 rfl rfl)
theorem dX2_init_91 : decode cX2_init 91 = .ok (.bipush 60, 2) := dk_16 60 (dk_at dksX2_init_3 20 rfl rfl)
theorem dX2_init_93 : decode cX2_init 93 = .ok (.newarray .int, 2) := dk_188_10 (dk_at dksX2_init_3 22 rfl rfl)
theorem dX2_init_95 : decode cX2_init 95 = .ok (.putfield 43, 3) := dk_181 0 43 (dk_at dksX2_init_4 0 rfl rfl)
theorem dX2_init_98 : decode cX2_init 98 = .ok (.aload_n 0, 1) := dk_42 (dk_at dksX2_init_4 3 rfl rfl)
theorem dX2_init_99 : decode cX2_init 99 = .ok (.sipush 1095, 3) := dk_17 4 71 (dk_at dksX2_init_4 4 rfl rfl)
theorem dX2_init_102 : decode cX2_init 102 = .ok (.newarray .int, 2) := dk_188_10 (dk_at dksX2_init_4 7 rfl rfl)
theorem dX2_init_104 : decode cX2_init 104 = .ok (.putfield 46, 3) := dk_181 0 46 (dk_at dksX2_init_4 9 rfl rfl)
theorem dX2_init_107 : decode cX2_init 107 = .ok (.aload_n 0, 1) := dk_42 (dk_at dksX2_init_4 12 rfl rfl)
theorem dX2_init_108 : decode cX2_init 108 = .ok (.sipush 365, 3) := dk_17 1 109 (dk_at dksX2_init_4 13 rfl rfl)
theorem dX2_init_111 : decode cX2_init 111 = .ok (.newarray .boolean, 2) := dk_188_4 (dk_at dksX2_init_4 16 rfl rfl)
theorem dX2_init_113 : decode cX2_init 113 = .ok (.putfield 49, 3) := dk_181 0 49 (dk_at dksX2_init_4 18 rfl rfl)
theorem dX2_init_116 : decode cX2_init 116 = .ok (.aload_n 0, 1) := dk_42 (dk_at dksX2_init_4 21 rfl rfl)
theorem dX2_init_117 : decode cX2_init 117 = .ok (.sipush 365, 3) := dk_17 1 109 (dk_at dksX2_init_5 0 rfl rfl)
theorem dX2_init_120 : decode cX2_init 120 = .ok (.newarray .int, 2) := dk_188_10 (dk_at dksX2_init_5 3 rfl rfl)
theorem dX2_init_122 : decode cX2_init 122 = .ok (.putfield 53, 3) := dk_181 0 53 (dk_at dksX2_init_5 5 rfl rfl)
theorem dX2_init_125 : decode cX2_init 125 = .ok (.aload_n 0, 1) := dk_42 (dk_at dksX2_init_5 8 rfl rfl)
theorem dX2_init_126 : decode cX2_init 126 = .ok (.sipush 366, 3) := dk_17 1 110 (dk_at dksX2_init_5 9 rfl rfl)
theorem dX2_init_129 : decode cX2_init 129 = .ok (.newarray .int, 2) := dk_188_10 (dk_at dksX2_init_5 12 rfl rfl)
theorem dX2_init_131 : decode cX2_init 131 = .ok (.putfield 56, 3) := dk_181 0 56 (dk_at dksX2_init_5 14 rfl rfl)
theorem dX2_init_134 : decode cX2_init 134 = .ok (.return_, 1) := dk_177 (dk_at dksX2_init_5 17 rfl rfl)
abbrev cX2_thrown : ByteArray := prog_8_method_2_code
def yX2_thrown : MethodName := ⟨RX2, "thrown", "()I"⟩
theorem dX2_thrown_0 : decode cX2_thrown 0 = .ok (.aload_n 0, 1) := by decide +kernel
theorem dX2_thrown_1 : decode cX2_thrown 1 = .ok (.getfield 59, 3) := by decide +kernel
theorem dX2_thrown_4 : decode cX2_thrown 4 = .ok (.ireturn, 1) := by decide +kernel
abbrev cX2_open : ByteArray := prog_8_method_7_code
def yX2_open : MethodName := ⟨RX2, "open", "(I)I"⟩
def dkwX2_open_2 : List UInt8 := [180, 0, 67, 27, 79, 42, 89, 180, 0, 67, 4, 96, 181, 0, 67, 42, 180, 0, 67, 4, 100, 172]
abbrev dktX2_open_2 : List UInt8 := dkwX2_open_2 ++ []
def dkwX2_open_1 : List UInt8 := [5, 167, 0, 4, 3, 181, 0, 59, 42, 180, 0, 59, 158, 0, 5, 3, 172, 42, 180, 0, 7, 42]
abbrev dktX2_open_1 : List UInt8 := dkwX2_open_1 ++ dktX2_open_2
def dkwX2_open_0 : List UInt8 := [42, 27, 4, 17, 3, 232, 184, 0, 63, 154, 0, 7, 4, 167, 0, 16, 42, 180, 0, 67, 7, 160, 0, 7]
abbrev dktX2_open_0 : List UInt8 := dkwX2_open_0 ++ dktX2_open_1
theorem dksX2_open_0 : cX2_open.data.toList.drop 0 = dktX2_open_0 := by decide +kernel
theorem dksX2_open_1 : cX2_open.data.toList.drop 24 = dktX2_open_1 := dk_seg dksX2_open_0 24 rfl rfl
theorem dksX2_open_2 : cX2_open.data.toList.drop 46 = dktX2_open_2 := dk_seg dksX2_open_1 22 rfl rfl
theorem dX2_open_0 : decode cX2_open 0 = .ok (.aload_n 0, 1) := dk_42 (dk_at dksX2_open_0 0 rfl rfl)
theorem dX2_open_1 : decode cX2_open 1 = .ok (.iload_n 1, 1) := dk_27 (dk_at dksX2_open_0 1 rfl rfl)
theorem dX2_open_2 : decode cX2_open 2 = .ok (.iconst 1, 1) := dk_4 (dk_at dksX2_open_0 2 rfl rfl)
theorem dX2_open_3 : decode cX2_open 3 = .ok (.sipush 1000, 3) := dk_17 3 232 (dk_at dksX2_open_0 3 rfl rfl)
theorem dX2_open_6 : decode cX2_open 6 = .ok (.invokestatic 63, 3) := dk_184 0 63 (dk_at dksX2_open_0 6 rfl rfl)
theorem dX2_open_9 : decode cX2_open 9 = .ok (.ifCond .ne 7, 3) := dk_154 0 7 (dk_at dksX2_open_0 9 rfl rfl)
theorem dX2_open_12 : decode cX2_open 12 = .ok (.iconst 1, 1) := dk_4 (dk_at dksX2_open_0 12 rfl rfl)
theorem dX2_open_13 : decode cX2_open 13 = .ok (.goto 16, 3) := dk_167 0 16 (dk_at dksX2_open_0 13 rfl rfl)
theorem dX2_open_16 : decode cX2_open 16 = .ok (.aload_n 0, 1) := dk_42 (dk_at dksX2_open_0 16 rfl rfl)
theorem dX2_open_17 : decode cX2_open 17 = .ok (.getfield 67, 3) := dk_180 0 67 (dk_at dksX2_open_0 17 rfl rfl)
theorem dX2_open_20 : decode cX2_open 20 = .ok (.iconst 4, 1) := dk_7 (dk_at dksX2_open_0 20 rfl rfl)
theorem dX2_open_21 : decode cX2_open 21 = .ok (.if_icmp .ne 7, 3) := dk_160 0 7 (dk_at dksX2_open_0 21 rfl rfl)
theorem dX2_open_24 : decode cX2_open 24 = .ok (.iconst 2, 1) := dk_5 (dk_at dksX2_open_1 0 rfl rfl)
theorem dX2_open_25 : decode cX2_open 25 = .ok (.goto 4, 3) := dk_167 0 4 (dk_at dksX2_open_1 1 rfl rfl)
theorem dX2_open_28 : decode cX2_open 28 = .ok (.iconst 0, 1) := dk_3 (dk_at dksX2_open_1 4 rfl rfl)
theorem dX2_open_29 : decode cX2_open 29 = .ok (.putfield 59, 3) := dk_181 0 59 (dk_at dksX2_open_1 5 rfl rfl)
theorem dX2_open_32 : decode cX2_open 32 = .ok (.aload_n 0, 1) := dk_42 (dk_at dksX2_open_1 8 rfl rfl)
theorem dX2_open_33 : decode cX2_open 33 = .ok (.getfield 59, 3) := dk_180 0 59 (dk_at dksX2_open_1 9 rfl rfl)
theorem dX2_open_36 : decode cX2_open 36 = .ok (.ifCond .le 5, 3) := dk_158 0 5 (dk_at dksX2_open_1 12 rfl rfl)
theorem dX2_open_39 : decode cX2_open 39 = .ok (.iconst 0, 1) := dk_3 (dk_at dksX2_open_1 15 rfl rfl)
theorem dX2_open_40 : decode cX2_open 40 = .ok (.ireturn, 1) := dk_172 (dk_at dksX2_open_1 16 rfl rfl)
theorem dX2_open_41 : decode cX2_open 41 = .ok (.aload_n 0, 1) := dk_42 (dk_at dksX2_open_1 17 rfl rfl)
theorem dX2_open_42 : decode cX2_open 42 = .ok (.getfield 7, 3) := dk_180 0 7 (dk_at dksX2_open_1 18 rfl rfl)
theorem dX2_open_45 : decode cX2_open 45 = .ok (.aload_n 0, 1) := dk_42 (dk_at dksX2_open_1 21 rfl rfl)
theorem dX2_open_46 : decode cX2_open 46 = .ok (.getfield 67, 3) := dk_180 0 67 (dk_at dksX2_open_2 0 rfl rfl)
theorem dX2_open_49 : decode cX2_open 49 = .ok (.iload_n 1, 1) := dk_27 (dk_at dksX2_open_2 3 rfl rfl)
theorem dX2_open_50 : decode cX2_open 50 = .ok (.iastore, 1) := dk_79 (dk_at dksX2_open_2 4 rfl rfl)
theorem dX2_open_51 : decode cX2_open 51 = .ok (.aload_n 0, 1) := dk_42 (dk_at dksX2_open_2 5 rfl rfl)
theorem dX2_open_52 : decode cX2_open 52 = .ok (.dup, 1) := dk_89 (dk_at dksX2_open_2 6 rfl rfl)
theorem dX2_open_53 : decode cX2_open 53 = .ok (.getfield 67, 3) := dk_180 0 67 (dk_at dksX2_open_2 7 rfl rfl)
theorem dX2_open_56 : decode cX2_open 56 = .ok (.iconst 1, 1) := dk_4 (dk_at dksX2_open_2 10 rfl rfl)
theorem dX2_open_57 : decode cX2_open 57 = .ok (.iadd, 1) := dk_96 (dk_at dksX2_open_2 11 rfl rfl)
theorem dX2_open_58 : decode cX2_open 58 = .ok (.putfield 67, 3) := dk_181 0 67 (dk_at dksX2_open_2 12 rfl rfl)
theorem dX2_open_61 : decode cX2_open 61 = .ok (.aload_n 0, 1) := dk_42 (dk_at dksX2_open_2 15 rfl rfl)
theorem dX2_open_62 : decode cX2_open 62 = .ok (.getfield 67, 3) := dk_180 0 67 (dk_at dksX2_open_2 16 rfl rfl)
theorem dX2_open_65 : decode cX2_open 65 = .ok (.iconst 1, 1) := dk_4 (dk_at dksX2_open_2 19 rfl rfl)
theorem dX2_open_66 : decode cX2_open 66 = .ok (.isub, 1) := dk_100 (dk_at dksX2_open_2 20 rfl rfl)
theorem dX2_open_67 : decode cX2_open 67 = .ok (.ireturn, 1) := dk_172 (dk_at dksX2_open_2 21 rfl rfl)
abbrev cX2_isIn : ByteArray := prog_8_method_3_code
def yX2_isIn : MethodName := ⟨RX2, "isIn", "(III)Z"⟩
def dkwX2_isIn_0 : List UInt8 := [26, 27, 161, 0, 12, 26, 28, 163, 0, 7, 4, 167, 0, 4, 3, 172]
abbrev dktX2_isIn_0 : List UInt8 := dkwX2_isIn_0 ++ []
theorem dksX2_isIn_0 : cX2_isIn.data.toList.drop 0 = dktX2_isIn_0 := by decide +kernel
theorem dX2_isIn_0 : decode cX2_isIn 0 = .ok (.iload_n 0, 1) := dk_26 (dk_at dksX2_isIn_0 0 rfl rfl)
theorem dX2_isIn_1 : decode cX2_isIn 1 = .ok (.iload_n 1, 1) := dk_27 (dk_at dksX2_isIn_0 1 rfl rfl)
theorem dX2_isIn_2 : decode cX2_isIn 2 = .ok (.if_icmp .lt 12, 3) := dk_161 0 12 (dk_at dksX2_isIn_0 2 rfl rfl)
theorem dX2_isIn_5 : decode cX2_isIn 5 = .ok (.iload_n 0, 1) := dk_26 (dk_at dksX2_isIn_0 5 rfl rfl)
theorem dX2_isIn_6 : decode cX2_isIn 6 = .ok (.iload_n 2, 1) := dk_28 (dk_at dksX2_isIn_0 6 rfl rfl)
theorem dX2_isIn_7 : decode cX2_isIn 7 = .ok (.if_icmp .gt 7, 3) := dk_163 0 7 (dk_at dksX2_isIn_0 7 rfl rfl)
theorem dX2_isIn_10 : decode cX2_isIn 10 = .ok (.iconst 1, 1) := dk_4 (dk_at dksX2_isIn_0 10 rfl rfl)
theorem dX2_isIn_11 : decode cX2_isIn 11 = .ok (.goto 4, 3) := dk_167 0 4 (dk_at dksX2_isIn_0 11 rfl rfl)
theorem dX2_isIn_14 : decode cX2_isIn 14 = .ok (.iconst 0, 1) := dk_3 (dk_at dksX2_isIn_0 14 rfl rfl)
theorem dX2_isIn_15 : decode cX2_isIn 15 = .ok (.ireturn, 1) := dk_172 (dk_at dksX2_isIn_0 15 rfl rfl)
abbrev cX2_setWeight : ByteArray := prog_8_method_8_code
def yX2_setWeight : MethodName := ⟨RX2, "setWeight", "(III)I"⟩
def dkwX2_setWeight_4 : List UInt8 := [4, 96, 181, 0, 77, 42, 180, 0, 77, 172]
abbrev dktX2_setWeight_4 : List UInt8 := dkwX2_setWeight_4 ++ []
def dkwX2_setWeight_3 : List UInt8 := [180, 0, 19, 42, 180, 0, 77, 28, 79, 42, 180, 0, 22, 42, 180, 0, 77, 29, 79, 42, 89, 180, 0, 77]
abbrev dktX2_setWeight_3 : List UInt8 := dkwX2_setWeight_3 ++ dktX2_setWeight_4
def dkwX2_setWeight_2 : List UInt8 := [181, 0, 59, 42, 180, 0, 59, 158, 0, 5, 3, 172, 42, 180, 0, 16, 42, 180, 0, 77, 27, 79, 42]
abbrev dktX2_setWeight_2 : List UInt8 := dkwX2_setWeight_2 ++ dktX2_setWeight_3
def dkwX2_setWeight_1 : List UInt8 := [184, 0, 74, 154, 0, 7, 5, 167, 0, 17, 42, 180, 0, 77, 16, 20, 160, 0, 7, 6, 167, 0, 4, 3]
abbrev dktX2_setWeight_1 : List UInt8 := dkwX2_setWeight_1 ++ dktX2_setWeight_2
def dkwX2_setWeight_0 : List UInt8 := [42, 27, 184, 0, 70, 154, 0, 7, 4, 167, 0, 38, 28, 3, 16, 100, 184, 0, 63, 153, 0, 10, 29]
abbrev dktX2_setWeight_0 : List UInt8 := dkwX2_setWeight_0 ++ dktX2_setWeight_1
theorem dksX2_setWeight_0 : cX2_setWeight.data.toList.drop 0 = dktX2_setWeight_0 := by decide +kernel
theorem dksX2_setWeight_1 : cX2_setWeight.data.toList.drop 23 = dktX2_setWeight_1 := dk_seg dksX2_setWeight_0 23 rfl rfl
theorem dksX2_setWeight_2 : cX2_setWeight.data.toList.drop 47 = dktX2_setWeight_2 := dk_seg dksX2_setWeight_1 24 rfl rfl
theorem dksX2_setWeight_3 : cX2_setWeight.data.toList.drop 70 = dktX2_setWeight_3 := dk_seg dksX2_setWeight_2 23 rfl rfl
theorem dksX2_setWeight_4 : cX2_setWeight.data.toList.drop 94 = dktX2_setWeight_4 := dk_seg dksX2_setWeight_3 24 rfl rfl
theorem dX2_setWeight_0 : decode cX2_setWeight 0 = .ok (.aload_n 0, 1) := dk_42 (dk_at dksX2_setWeight_0 0 rfl rfl)
theorem dX2_setWeight_1 : decode cX2_setWeight 1 = .ok (.iload_n 1, 1) := dk_27 (dk_at dksX2_setWeight_0 1 rfl rfl)
theorem dX2_setWeight_2 : decode cX2_setWeight 2 = .ok (.invokestatic 70, 3) := dk_184 0 70 (dk_at dksX2_setWeight_0 2 rfl rfl)
theorem dX2_setWeight_5 : decode cX2_setWeight 5 = .ok (.ifCond .ne 7, 3) := dk_154 0 7 (dk_at dksX2_setWeight_0 5 rfl rfl)
theorem dX2_setWeight_8 : decode cX2_setWeight 8 = .ok (.iconst 1, 1) := dk_4 (dk_at dksX2_setWeight_0 8 rfl rfl)
theorem dX2_setWeight_9 : decode cX2_setWeight 9 = .ok (.goto 38, 3) := dk_167 0 38 (dk_at dksX2_setWeight_0 9 rfl rfl)
theorem dX2_setWeight_12 : decode cX2_setWeight 12 = .ok (.iload_n 2, 1) := dk_28 (dk_at dksX2_setWeight_0 12 rfl rfl)
theorem dX2_setWeight_13 : decode cX2_setWeight 13 = .ok (.iconst 0, 1) := dk_3 (dk_at dksX2_setWeight_0 13 rfl rfl)
theorem dX2_setWeight_14 : decode cX2_setWeight 14 = .ok (.bipush 100, 2) := dk_16 100 (dk_at dksX2_setWeight_0 14 rfl rfl)
theorem dX2_setWeight_16 : decode cX2_setWeight 16 = .ok (.invokestatic 63, 3) := dk_184 0 63 (dk_at dksX2_setWeight_0 16 rfl rfl)
theorem dX2_setWeight_19 : decode cX2_setWeight 19 = .ok (.ifCond .eq 10, 3) := dk_153 0 10 (dk_at dksX2_setWeight_0 19 rfl rfl)
theorem dX2_setWeight_22 : decode cX2_setWeight 22 = .ok (.iload_n 3, 1) := dk_29 (dk_at dksX2_setWeight_0 22 rfl rfl)
theorem dX2_setWeight_23 : decode cX2_setWeight 23 = .ok (.invokestatic 74, 3) := dk_184 0 74 (dk_at dksX2_setWeight_1 0 rfl rfl)
theorem dX2_setWeight_26 : decode cX2_setWeight 26 = .ok (.ifCond .ne 7, 3) := dk_154 0 7 (dk_at dksX2_setWeight_1 3 rfl rfl)
theorem dX2_setWeight_29 : decode cX2_setWeight 29 = .ok (.iconst 2, 1) := dk_5 (dk_at dksX2_setWeight_1 6 rfl rfl)
theorem dX2_setWeight_30 : decode cX2_setWeight 30 = .ok (.goto 17, 3) := dk_167 0 17 (dk_at dksX2_setWeight_1 7 rfl rfl)
theorem dX2_setWeight_33 : decode cX2_setWeight 33 = .ok (.aload_n 0, 1) := dk_42 (dk_at dksX2_setWeight_1 10 rfl rfl)
theorem dX2_setWeight_34 : decode cX2_setWeight 34 = .ok (.getfield 77, 3) := dk_180 0 77 (dk_at dksX2_setWeight_1 11 rfl rfl)
theorem dX2_setWeight_37 : decode cX2_setWeight 37 = .ok (.bipush 20, 2) := dk_16 20 (dk_at dksX2_setWeight_1 14 rfl rfl)
theorem dX2_setWeight_39 : decode cX2_setWeight 39 = .ok (.if_icmp .ne 7, 3) := dk_160 0 7 (dk_at dksX2_setWeight_1 16 rfl rfl)
theorem dX2_setWeight_42 : decode cX2_setWeight 42 = .ok (.iconst 3, 1) := dk_6 (dk_at dksX2_setWeight_1 19 rfl rfl)
theorem dX2_setWeight_43 : decode cX2_setWeight 43 = .ok (.goto 4, 3) := dk_167 0 4 (dk_at dksX2_setWeight_1 20 rfl rfl)
theorem dX2_setWeight_46 : decode cX2_setWeight 46 = .ok (.iconst 0, 1) := dk_3 (dk_at dksX2_setWeight_1 23 rfl rfl)
theorem dX2_setWeight_47 : decode cX2_setWeight 47 = .ok (.putfield 59, 3) := dk_181 0 59 (dk_at dksX2_setWeight_2 0 rfl rfl)
theorem dX2_setWeight_50 : decode cX2_setWeight 50 = .ok (.aload_n 0, 1) := dk_42 (dk_at dksX2_setWeight_2 3 rfl rfl)
theorem dX2_setWeight_51 : decode cX2_setWeight 51 = .ok (.getfield 59, 3) := dk_180 0 59 (dk_at dksX2_setWeight_2 4 rfl rfl)
theorem dX2_setWeight_54 : decode cX2_setWeight 54 = .ok (.ifCond .le 5, 3) := dk_158 0 5 (dk_at dksX2_setWeight_2 7 rfl rfl)
theorem dX2_setWeight_57 : decode cX2_setWeight 57 = .ok (.iconst 0, 1) := dk_3 (dk_at dksX2_setWeight_2 10 rfl rfl)
theorem dX2_setWeight_58 : decode cX2_setWeight 58 = .ok (.ireturn, 1) := dk_172 (dk_at dksX2_setWeight_2 11 rfl rfl)
theorem dX2_setWeight_59 : decode cX2_setWeight 59 = .ok (.aload_n 0, 1) := dk_42 (dk_at dksX2_setWeight_2 12 rfl rfl)
theorem dX2_setWeight_60 : decode cX2_setWeight 60 = .ok (.getfield 16, 3) := dk_180 0 16 (dk_at dksX2_setWeight_2 13 rfl rfl)
theorem dX2_setWeight_63 : decode cX2_setWeight 63 = .ok (.aload_n 0, 1) := dk_42 (dk_at dksX2_setWeight_2 16 rfl rfl)
theorem dX2_setWeight_64 : decode cX2_setWeight 64 = .ok (.getfield 77, 3) := dk_180 0 77 (dk_at dksX2_setWeight_2 17 rfl rfl)
theorem dX2_setWeight_67 : decode cX2_setWeight 67 = .ok (.iload_n 1, 1) := dk_27 (dk_at dksX2_setWeight_2 20 rfl rfl)
theorem dX2_setWeight_68 : decode cX2_setWeight 68 = .ok (.iastore, 1) := dk_79 (dk_at dksX2_setWeight_2 21 rfl rfl)
theorem dX2_setWeight_69 : decode cX2_setWeight 69 = .ok (.aload_n 0, 1) := dk_42 (dk_at dksX2_setWeight_2 22 rfl rfl)
theorem dX2_setWeight_70 : decode cX2_setWeight 70 = .ok (.getfield 19, 3) := dk_180 0 19 (dk_at dksX2_setWeight_3 0 rfl rfl)
theorem dX2_setWeight_73 : decode cX2_setWeight 73 = .ok (.aload_n 0, 1) := dk_42 (dk_at dksX2_setWeight_3 3 rfl rfl)
theorem dX2_setWeight_74 : decode cX2_setWeight 74 = .ok (.getfield 77, 3) := dk_180 0 77 (dk_at dksX2_setWeight_3 4 rfl rfl)
theorem dX2_setWeight_77 : decode cX2_setWeight 77 = .ok (.iload_n 2, 1) := dk_28 (dk_at dksX2_setWeight_3 7 rfl rfl)
theorem dX2_setWeight_78 : decode cX2_setWeight 78 = .ok (.iastore, 1) := dk_79 (dk_at dksX2_setWeight_3 8 rfl rfl)
theorem dX2_setWeight_79 : decode cX2_setWeight 79 = .ok (.aload_n 0, 1) := dk_42 (dk_at dksX2_setWeight_3 9 rfl rfl)
theorem dX2_setWeight_80 : decode cX2_setWeight 80 = .ok (.getfield 22, 3) := dk_180 0 22 (dk_at dksX2_setWeight_3 10 rfl rfl)
theorem dX2_setWeight_83 : decode cX2_setWeight 83 = .ok (.aload_n 0, 1) := dk_42 (dk_at dksX2_setWeight_3 13 rfl rfl)
theorem dX2_setWeight_84 : decode cX2_setWeight 84 = .ok (.getfield 77, 3) := dk_180 0 77 (dk_at dksX2_setWeight_3 14 rfl rfl)
theorem dX2_setWeight_87 : decode cX2_setWeight 87 = .ok (.iload_n 3, 1) := dk_29 (dk_at dksX2_setWeight_3 17 rfl rfl)
theorem dX2_setWeight_88 : decode cX2_setWeight 88 = .ok (.iastore, 1) := dk_79 (dk_at dksX2_setWeight_3 18 rfl rfl)
theorem dX2_setWeight_89 : decode cX2_setWeight 89 = .ok (.aload_n 0, 1) := dk_42 (dk_at dksX2_setWeight_3 19 rfl rfl)
theorem dX2_setWeight_90 : decode cX2_setWeight 90 = .ok (.dup, 1) := dk_89 (dk_at dksX2_setWeight_3 20 rfl rfl)
theorem dX2_setWeight_91 : decode cX2_setWeight 91 = .ok (.getfield 77, 3) := dk_180 0 77 (dk_at dksX2_setWeight_3 21 rfl rfl)
theorem dX2_setWeight_94 : decode cX2_setWeight 94 = .ok (.iconst 1, 1) := dk_4 (dk_at dksX2_setWeight_4 0 rfl rfl)
theorem dX2_setWeight_95 : decode cX2_setWeight 95 = .ok (.iadd, 1) := dk_96 (dk_at dksX2_setWeight_4 1 rfl rfl)
theorem dX2_setWeight_96 : decode cX2_setWeight 96 = .ok (.putfield 77, 3) := dk_181 0 77 (dk_at dksX2_setWeight_4 2 rfl rfl)
theorem dX2_setWeight_99 : decode cX2_setWeight 99 = .ok (.aload_n 0, 1) := dk_42 (dk_at dksX2_setWeight_4 5 rfl rfl)
theorem dX2_setWeight_100 : decode cX2_setWeight 100 = .ok (.getfield 77, 3) := dk_180 0 77 (dk_at dksX2_setWeight_4 6 rfl rfl)
theorem dX2_setWeight_103 : decode cX2_setWeight 103 = .ok (.ireturn, 1) := dk_172 (dk_at dksX2_setWeight_4 9 rfl rfl)
abbrev cX2_isField : ByteArray := prog_8_method_6_code
def yX2_isField : MethodName := ⟨RX2, "isField", "(I)Z"⟩
def dkwX2_isField_0 : List UInt8 := [26, 3, 5, 184, 0, 63, 172]
abbrev dktX2_isField_0 : List UInt8 := dkwX2_isField_0 ++ []
theorem dksX2_isField_0 : cX2_isField.data.toList.drop 0 = dktX2_isField_0 := by decide +kernel
theorem dX2_isField_0 : decode cX2_isField 0 = .ok (.iload_n 0, 1) := dk_26 (dk_at dksX2_isField_0 0 rfl rfl)
theorem dX2_isField_1 : decode cX2_isField 1 = .ok (.iconst 0, 1) := dk_3 (dk_at dksX2_isField_0 1 rfl rfl)
theorem dX2_isField_2 : decode cX2_isField 2 = .ok (.iconst 2, 1) := dk_5 (dk_at dksX2_isField_0 2 rfl rfl)
theorem dX2_isField_3 : decode cX2_isField 3 = .ok (.invokestatic 63, 3) := dk_184 0 63 (dk_at dksX2_isField_0 3 rfl rfl)
theorem dX2_isField_6 : decode cX2_isField 6 = .ok (.ireturn, 1) := dk_172 (dk_at dksX2_isField_0 6 rfl rfl)
abbrev cX2_isDay : ByteArray := prog_8_method_4_code
def yX2_isDay : MethodName := ⟨RX2, "isDay", "(I)Z"⟩
def dkwX2_isDay_0 : List UInt8 := [26, 3, 17, 1, 108, 184, 0, 63, 172]
abbrev dktX2_isDay_0 : List UInt8 := dkwX2_isDay_0 ++ []
theorem dksX2_isDay_0 : cX2_isDay.data.toList.drop 0 = dktX2_isDay_0 := by decide +kernel
theorem dX2_isDay_0 : decode cX2_isDay 0 = .ok (.iload_n 0, 1) := dk_26 (dk_at dksX2_isDay_0 0 rfl rfl)
theorem dX2_isDay_1 : decode cX2_isDay 1 = .ok (.iconst 0, 1) := dk_3 (dk_at dksX2_isDay_0 1 rfl rfl)
theorem dX2_isDay_2 : decode cX2_isDay 2 = .ok (.sipush 364, 3) := dk_17 1 108 (dk_at dksX2_isDay_0 2 rfl rfl)
theorem dX2_isDay_5 : decode cX2_isDay 5 = .ok (.invokestatic 63, 3) := dk_184 0 63 (dk_at dksX2_isDay_0 5 rfl rfl)
theorem dX2_isDay_8 : decode cX2_isDay 8 = .ok (.ireturn, 1) := dk_172 (dk_at dksX2_isDay_0 8 rfl rfl)
abbrev cX2_pass : ByteArray := prog_8_method_9_code
def yX2_pass : MethodName := ⟨RX2, "pass", "(I)I"⟩
def dkwX2_pass_1 : List UInt8 := [158, 0, 5, 3, 172, 42, 89, 180, 0, 80, 27, 96, 181, 0, 80, 42, 180, 0, 80, 172]
abbrev dktX2_pass_1 : List UInt8 := dkwX2_pass_1 ++ []
def dkwX2_pass_0 : List UInt8 := [42, 27, 4, 16, 100, 184, 0, 63, 153, 0, 7, 3, 167, 0, 4, 4, 181, 0, 59, 42, 180, 0, 59]
abbrev dktX2_pass_0 : List UInt8 := dkwX2_pass_0 ++ dktX2_pass_1
theorem dksX2_pass_0 : cX2_pass.data.toList.drop 0 = dktX2_pass_0 := by decide +kernel
theorem dksX2_pass_1 : cX2_pass.data.toList.drop 23 = dktX2_pass_1 := dk_seg dksX2_pass_0 23 rfl rfl
theorem dX2_pass_0 : decode cX2_pass 0 = .ok (.aload_n 0, 1) := dk_42 (dk_at dksX2_pass_0 0 rfl rfl)
theorem dX2_pass_1 : decode cX2_pass 1 = .ok (.iload_n 1, 1) := dk_27 (dk_at dksX2_pass_0 1 rfl rfl)
theorem dX2_pass_2 : decode cX2_pass 2 = .ok (.iconst 1, 1) := dk_4 (dk_at dksX2_pass_0 2 rfl rfl)
theorem dX2_pass_3 : decode cX2_pass 3 = .ok (.bipush 100, 2) := dk_16 100 (dk_at dksX2_pass_0 3 rfl rfl)
theorem dX2_pass_5 : decode cX2_pass 5 = .ok (.invokestatic 63, 3) := dk_184 0 63 (dk_at dksX2_pass_0 5 rfl rfl)
theorem dX2_pass_8 : decode cX2_pass 8 = .ok (.ifCond .eq 7, 3) := dk_153 0 7 (dk_at dksX2_pass_0 8 rfl rfl)
theorem dX2_pass_11 : decode cX2_pass 11 = .ok (.iconst 0, 1) := dk_3 (dk_at dksX2_pass_0 11 rfl rfl)
theorem dX2_pass_12 : decode cX2_pass 12 = .ok (.goto 4, 3) := dk_167 0 4 (dk_at dksX2_pass_0 12 rfl rfl)
theorem dX2_pass_15 : decode cX2_pass 15 = .ok (.iconst 1, 1) := dk_4 (dk_at dksX2_pass_0 15 rfl rfl)
theorem dX2_pass_16 : decode cX2_pass 16 = .ok (.putfield 59, 3) := dk_181 0 59 (dk_at dksX2_pass_0 16 rfl rfl)
theorem dX2_pass_19 : decode cX2_pass 19 = .ok (.aload_n 0, 1) := dk_42 (dk_at dksX2_pass_0 19 rfl rfl)
theorem dX2_pass_20 : decode cX2_pass 20 = .ok (.getfield 59, 3) := dk_180 0 59 (dk_at dksX2_pass_0 20 rfl rfl)
theorem dX2_pass_23 : decode cX2_pass 23 = .ok (.ifCond .le 5, 3) := dk_158 0 5 (dk_at dksX2_pass_1 0 rfl rfl)
theorem dX2_pass_26 : decode cX2_pass 26 = .ok (.iconst 0, 1) := dk_3 (dk_at dksX2_pass_1 3 rfl rfl)
theorem dX2_pass_27 : decode cX2_pass 27 = .ok (.ireturn, 1) := dk_172 (dk_at dksX2_pass_1 4 rfl rfl)
theorem dX2_pass_28 : decode cX2_pass 28 = .ok (.aload_n 0, 1) := dk_42 (dk_at dksX2_pass_1 5 rfl rfl)
theorem dX2_pass_29 : decode cX2_pass 29 = .ok (.dup, 1) := dk_89 (dk_at dksX2_pass_1 6 rfl rfl)
theorem dX2_pass_30 : decode cX2_pass 30 = .ok (.getfield 80, 3) := dk_180 0 80 (dk_at dksX2_pass_1 7 rfl rfl)
theorem dX2_pass_33 : decode cX2_pass 33 = .ok (.iload_n 1, 1) := dk_27 (dk_at dksX2_pass_1 10 rfl rfl)
theorem dX2_pass_34 : decode cX2_pass 34 = .ok (.iadd, 1) := dk_96 (dk_at dksX2_pass_1 11 rfl rfl)
theorem dX2_pass_35 : decode cX2_pass 35 = .ok (.putfield 80, 3) := dk_181 0 80 (dk_at dksX2_pass_1 12 rfl rfl)
theorem dX2_pass_38 : decode cX2_pass 38 = .ok (.aload_n 0, 1) := dk_42 (dk_at dksX2_pass_1 15 rfl rfl)
theorem dX2_pass_39 : decode cX2_pass 39 = .ok (.getfield 80, 3) := dk_180 0 80 (dk_at dksX2_pass_1 16 rfl rfl)
theorem dX2_pass_42 : decode cX2_pass 42 = .ok (.ireturn, 1) := dk_172 (dk_at dksX2_pass_1 19 rfl rfl)
abbrev cX2_today : ByteArray := prog_8_method_10_code
def yX2_today : MethodName := ⟨RX2, "today", "()I"⟩
def dkwX2_today_0 : List UInt8 := [42, 3, 181, 0, 59, 42, 180, 0, 80, 172]
abbrev dktX2_today_0 : List UInt8 := dkwX2_today_0 ++ []
theorem dksX2_today_0 : cX2_today.data.toList.drop 0 = dktX2_today_0 := by decide +kernel
theorem dX2_today_0 : decode cX2_today 0 = .ok (.aload_n 0, 1) := dk_42 (dk_at dksX2_today_0 0 rfl rfl)
theorem dX2_today_1 : decode cX2_today 1 = .ok (.iconst 0, 1) := dk_3 (dk_at dksX2_today_0 1 rfl rfl)
theorem dX2_today_2 : decode cX2_today 2 = .ok (.putfield 59, 3) := dk_181 0 59 (dk_at dksX2_today_0 2 rfl rfl)
theorem dX2_today_5 : decode cX2_today 5 = .ok (.aload_n 0, 1) := dk_42 (dk_at dksX2_today_0 5 rfl rfl)
theorem dX2_today_6 : decode cX2_today 6 = .ok (.getfield 80, 3) := dk_180 0 80 (dk_at dksX2_today_0 6 rfl rfl)
theorem dX2_today_9 : decode cX2_today 9 = .ok (.ireturn, 1) := dk_172 (dk_at dksX2_today_0 9 rfl rfl)
abbrev cX2_change : ByteArray := prog_8_method_12_code
def yX2_change : MethodName := ⟨RX2, "change", "(IIII)I"⟩
def dkwX2_change_0 : List UInt8 := [42, 27, 3, 28, 29, 21, 4, 21, 4, 3, 16, 20, 184, 0, 63, 182, 0, 89, 172]
abbrev dktX2_change_0 : List UInt8 := dkwX2_change_0 ++ []
theorem dksX2_change_0 : cX2_change.data.toList.drop 0 = dktX2_change_0 := by decide +kernel
theorem dX2_change_0 : decode cX2_change 0 = .ok (.aload_n 0, 1) := dk_42 (dk_at dksX2_change_0 0 rfl rfl)
theorem dX2_change_1 : decode cX2_change 1 = .ok (.iload_n 1, 1) := dk_27 (dk_at dksX2_change_0 1 rfl rfl)
theorem dX2_change_2 : decode cX2_change 2 = .ok (.iconst 0, 1) := dk_3 (dk_at dksX2_change_0 2 rfl rfl)
theorem dX2_change_3 : decode cX2_change 3 = .ok (.iload_n 2, 1) := dk_28 (dk_at dksX2_change_0 3 rfl rfl)
theorem dX2_change_4 : decode cX2_change 4 = .ok (.iload_n 3, 1) := dk_29 (dk_at dksX2_change_0 4 rfl rfl)
theorem dX2_change_5 : decode cX2_change 5 = .ok (.iload 4, 2) := dk_21 4 (dk_at dksX2_change_0 5 rfl rfl)
theorem dX2_change_7 : decode cX2_change 7 = .ok (.iload 4, 2) := dk_21 4 (dk_at dksX2_change_0 7 rfl rfl)
theorem dX2_change_9 : decode cX2_change 9 = .ok (.iconst 0, 1) := dk_3 (dk_at dksX2_change_0 9 rfl rfl)
theorem dX2_change_10 : decode cX2_change 10 = .ok (.bipush 20, 2) := dk_16 20 (dk_at dksX2_change_0 10 rfl rfl)
theorem dX2_change_12 : decode cX2_change 12 = .ok (.invokestatic 63, 3) := dk_184 0 63 (dk_at dksX2_change_0 12 rfl rfl)
theorem dX2_change_15 : decode cX2_change 15 = .ok (.invokevirtual 89, 3) := dk_182 0 89 (dk_at dksX2_change_0 15 rfl rfl)
theorem dX2_change_18 : decode cX2_change 18 = .ok (.ireturn, 1) := dk_172 (dk_at dksX2_change_0 18 rfl rfl)
abbrev cX2_tells : ByteArray := prog_8_method_11_code
def yX2_tells : MethodName := ⟨RX2, "tells", "(IIIIIZ)I"⟩
def dkwX2_tells_6 : List UInt8 := [180, 0, 86, 4, 96, 181, 0, 86, 42, 180, 0, 86, 4, 100, 172]
abbrev dktX2_tells_6 : List UInt8 := dkwX2_tells_6 ++ []
def dkwX2_tells_5 : List UInt8 := [180, 0, 40, 42, 180, 0, 86, 42, 180, 0, 80, 79, 42, 180, 0, 43, 42, 180, 0, 86, 2, 79, 42, 89]
abbrev dktX2_tells_5 : List UInt8 := dkwX2_tells_5 ++ dktX2_tells_6
def dkwX2_tells_4 : List UInt8 := [79, 42, 180, 0, 34, 42, 180, 0, 86, 21, 4, 79, 42, 180, 0, 37, 42, 180, 0, 86, 21, 5, 79, 42]
abbrev dktX2_tells_4 : List UInt8 := dkwX2_tells_4 ++ dktX2_tells_5
def dkwX2_tells_3 : List UInt8 := [180, 0, 86, 27, 79, 42, 180, 0, 28, 42, 180, 0, 86, 28, 79, 42, 180, 0, 31, 42, 180, 0, 86, 29]
abbrev dktX2_tells_3 : List UInt8 := dkwX2_tells_3 ++ dktX2_tells_4
def dkwX2_tells_2 : List UInt8 := [6, 167, 0, 4, 3, 181, 0, 59, 42, 180, 0, 59, 158, 0, 5, 3, 172, 42, 180, 0, 25, 42]
abbrev dktX2_tells_2 : List UInt8 := dkwX2_tells_2 ++ dktX2_tells_3
def dkwX2_tells_1 : List UInt8 := [184, 0, 74, 153, 0, 8, 21, 6, 154, 0, 7, 5, 167, 0, 17, 42, 180, 0, 86, 16, 60, 160, 0, 7]
abbrev dktX2_tells_1 : List UInt8 := dkwX2_tells_1 ++ dktX2_tells_2
def dkwX2_tells_0 : List UInt8 := [42, 42, 27, 182, 0, 83, 153, 0, 10, 29, 184, 0, 70, 154, 0, 7, 4, 167, 0, 34, 21, 4]
abbrev dktX2_tells_0 : List UInt8 := dkwX2_tells_0 ++ dktX2_tells_1
theorem dksX2_tells_0 : cX2_tells.data.toList.drop 0 = dktX2_tells_0 := by decide +kernel
theorem dksX2_tells_1 : cX2_tells.data.toList.drop 22 = dktX2_tells_1 := dk_seg dksX2_tells_0 22 rfl rfl
theorem dksX2_tells_2 : cX2_tells.data.toList.drop 46 = dktX2_tells_2 := dk_seg dksX2_tells_1 24 rfl rfl
theorem dksX2_tells_3 : cX2_tells.data.toList.drop 68 = dktX2_tells_3 := dk_seg dksX2_tells_2 22 rfl rfl
theorem dksX2_tells_4 : cX2_tells.data.toList.drop 92 = dktX2_tells_4 := dk_seg dksX2_tells_3 24 rfl rfl
theorem dksX2_tells_5 : cX2_tells.data.toList.drop 116 = dktX2_tells_5 := dk_seg dksX2_tells_4 24 rfl rfl
theorem dksX2_tells_6 : cX2_tells.data.toList.drop 140 = dktX2_tells_6 := dk_seg dksX2_tells_5 24 rfl rfl
theorem dX2_tells_0 : decode cX2_tells 0 = .ok (.aload_n 0, 1) := dk_42 (dk_at dksX2_tells_0 0 rfl rfl)
theorem dX2_tells_1 : decode cX2_tells 1 = .ok (.aload_n 0, 1) := dk_42 (dk_at dksX2_tells_0 1 rfl rfl)
theorem dX2_tells_2 : decode cX2_tells 2 = .ok (.iload_n 1, 1) := dk_27 (dk_at dksX2_tells_0 2 rfl rfl)
theorem dX2_tells_3 : decode cX2_tells 3 = .ok (.invokevirtual 83, 3) := dk_182 0 83 (dk_at dksX2_tells_0 3 rfl rfl)
theorem dX2_tells_6 : decode cX2_tells 6 = .ok (.ifCond .eq 10, 3) := dk_153 0 10 (dk_at dksX2_tells_0 6 rfl rfl)
theorem dX2_tells_9 : decode cX2_tells 9 = .ok (.iload_n 3, 1) := dk_29 (dk_at dksX2_tells_0 9 rfl rfl)
theorem dX2_tells_10 : decode cX2_tells 10 = .ok (.invokestatic 70, 3) := dk_184 0 70 (dk_at dksX2_tells_0 10 rfl rfl)
theorem dX2_tells_13 : decode cX2_tells 13 = .ok (.ifCond .ne 7, 3) := dk_154 0 7 (dk_at dksX2_tells_0 13 rfl rfl)
theorem dX2_tells_16 : decode cX2_tells 16 = .ok (.iconst 1, 1) := dk_4 (dk_at dksX2_tells_0 16 rfl rfl)
theorem dX2_tells_17 : decode cX2_tells 17 = .ok (.goto 34, 3) := dk_167 0 34 (dk_at dksX2_tells_0 17 rfl rfl)
theorem dX2_tells_20 : decode cX2_tells 20 = .ok (.iload 4, 2) := dk_21 4 (dk_at dksX2_tells_0 20 rfl rfl)
theorem dX2_tells_22 : decode cX2_tells 22 = .ok (.invokestatic 74, 3) := dk_184 0 74 (dk_at dksX2_tells_1 0 rfl rfl)
theorem dX2_tells_25 : decode cX2_tells 25 = .ok (.ifCond .eq 8, 3) := dk_153 0 8 (dk_at dksX2_tells_1 3 rfl rfl)
theorem dX2_tells_28 : decode cX2_tells 28 = .ok (.iload 6, 2) := dk_21 6 (dk_at dksX2_tells_1 6 rfl rfl)
theorem dX2_tells_30 : decode cX2_tells 30 = .ok (.ifCond .ne 7, 3) := dk_154 0 7 (dk_at dksX2_tells_1 8 rfl rfl)
theorem dX2_tells_33 : decode cX2_tells 33 = .ok (.iconst 2, 1) := dk_5 (dk_at dksX2_tells_1 11 rfl rfl)
theorem dX2_tells_34 : decode cX2_tells 34 = .ok (.goto 17, 3) := dk_167 0 17 (dk_at dksX2_tells_1 12 rfl rfl)
theorem dX2_tells_37 : decode cX2_tells 37 = .ok (.aload_n 0, 1) := dk_42 (dk_at dksX2_tells_1 15 rfl rfl)
theorem dX2_tells_38 : decode cX2_tells 38 = .ok (.getfield 86, 3) := dk_180 0 86 (dk_at dksX2_tells_1 16 rfl rfl)
theorem dX2_tells_41 : decode cX2_tells 41 = .ok (.bipush 60, 2) := dk_16 60 (dk_at dksX2_tells_1 19 rfl rfl)
theorem dX2_tells_43 : decode cX2_tells 43 = .ok (.if_icmp .ne 7, 3) := dk_160 0 7 (dk_at dksX2_tells_1 21 rfl rfl)
theorem dX2_tells_46 : decode cX2_tells 46 = .ok (.iconst 3, 1) := dk_6 (dk_at dksX2_tells_2 0 rfl rfl)
theorem dX2_tells_47 : decode cX2_tells 47 = .ok (.goto 4, 3) := dk_167 0 4 (dk_at dksX2_tells_2 1 rfl rfl)
theorem dX2_tells_50 : decode cX2_tells 50 = .ok (.iconst 0, 1) := dk_3 (dk_at dksX2_tells_2 4 rfl rfl)
theorem dX2_tells_51 : decode cX2_tells 51 = .ok (.putfield 59, 3) := dk_181 0 59 (dk_at dksX2_tells_2 5 rfl rfl)
theorem dX2_tells_54 : decode cX2_tells 54 = .ok (.aload_n 0, 1) := dk_42 (dk_at dksX2_tells_2 8 rfl rfl)
theorem dX2_tells_55 : decode cX2_tells 55 = .ok (.getfield 59, 3) := dk_180 0 59 (dk_at dksX2_tells_2 9 rfl rfl)
theorem dX2_tells_58 : decode cX2_tells 58 = .ok (.ifCond .le 5, 3) := dk_158 0 5 (dk_at dksX2_tells_2 12 rfl rfl)
theorem dX2_tells_61 : decode cX2_tells 61 = .ok (.iconst 0, 1) := dk_3 (dk_at dksX2_tells_2 15 rfl rfl)
theorem dX2_tells_62 : decode cX2_tells 62 = .ok (.ireturn, 1) := dk_172 (dk_at dksX2_tells_2 16 rfl rfl)
theorem dX2_tells_63 : decode cX2_tells 63 = .ok (.aload_n 0, 1) := dk_42 (dk_at dksX2_tells_2 17 rfl rfl)
theorem dX2_tells_64 : decode cX2_tells 64 = .ok (.getfield 25, 3) := dk_180 0 25 (dk_at dksX2_tells_2 18 rfl rfl)
theorem dX2_tells_67 : decode cX2_tells 67 = .ok (.aload_n 0, 1) := dk_42 (dk_at dksX2_tells_2 21 rfl rfl)
theorem dX2_tells_68 : decode cX2_tells 68 = .ok (.getfield 86, 3) := dk_180 0 86 (dk_at dksX2_tells_3 0 rfl rfl)
theorem dX2_tells_71 : decode cX2_tells 71 = .ok (.iload_n 1, 1) := dk_27 (dk_at dksX2_tells_3 3 rfl rfl)
theorem dX2_tells_72 : decode cX2_tells 72 = .ok (.iastore, 1) := dk_79 (dk_at dksX2_tells_3 4 rfl rfl)
theorem dX2_tells_73 : decode cX2_tells 73 = .ok (.aload_n 0, 1) := dk_42 (dk_at dksX2_tells_3 5 rfl rfl)
theorem dX2_tells_74 : decode cX2_tells 74 = .ok (.getfield 28, 3) := dk_180 0 28 (dk_at dksX2_tells_3 6 rfl rfl)
theorem dX2_tells_77 : decode cX2_tells 77 = .ok (.aload_n 0, 1) := dk_42 (dk_at dksX2_tells_3 9 rfl rfl)
theorem dX2_tells_78 : decode cX2_tells 78 = .ok (.getfield 86, 3) := dk_180 0 86 (dk_at dksX2_tells_3 10 rfl rfl)
theorem dX2_tells_81 : decode cX2_tells 81 = .ok (.iload_n 2, 1) := dk_28 (dk_at dksX2_tells_3 13 rfl rfl)
theorem dX2_tells_82 : decode cX2_tells 82 = .ok (.iastore, 1) := dk_79 (dk_at dksX2_tells_3 14 rfl rfl)
theorem dX2_tells_83 : decode cX2_tells 83 = .ok (.aload_n 0, 1) := dk_42 (dk_at dksX2_tells_3 15 rfl rfl)
theorem dX2_tells_84 : decode cX2_tells 84 = .ok (.getfield 31, 3) := dk_180 0 31 (dk_at dksX2_tells_3 16 rfl rfl)
theorem dX2_tells_87 : decode cX2_tells 87 = .ok (.aload_n 0, 1) := dk_42 (dk_at dksX2_tells_3 19 rfl rfl)
theorem dX2_tells_88 : decode cX2_tells 88 = .ok (.getfield 86, 3) := dk_180 0 86 (dk_at dksX2_tells_3 20 rfl rfl)
theorem dX2_tells_91 : decode cX2_tells 91 = .ok (.iload_n 3, 1) := dk_29 (dk_at dksX2_tells_3 23 rfl rfl)
theorem dX2_tells_92 : decode cX2_tells 92 = .ok (.iastore, 1) := dk_79 (dk_at dksX2_tells_4 0 rfl rfl)
theorem dX2_tells_93 : decode cX2_tells 93 = .ok (.aload_n 0, 1) := dk_42 (dk_at dksX2_tells_4 1 rfl rfl)
theorem dX2_tells_94 : decode cX2_tells 94 = .ok (.getfield 34, 3) := dk_180 0 34 (dk_at dksX2_tells_4 2 rfl rfl)
theorem dX2_tells_97 : decode cX2_tells 97 = .ok (.aload_n 0, 1) := dk_42 (dk_at dksX2_tells_4 5 rfl rfl)
theorem dX2_tells_98 : decode cX2_tells 98 = .ok (.getfield 86, 3) := dk_180 0 86 (dk_at dksX2_tells_4 6 rfl rfl)
theorem dX2_tells_101 : decode cX2_tells 101 = .ok (.iload 4, 2) := dk_21 4 (dk_at dksX2_tells_4 9 rfl rfl)
theorem dX2_tells_103 : decode cX2_tells 103 = .ok (.iastore, 1) := dk_79 (dk_at dksX2_tells_4 11 rfl rfl)
theorem dX2_tells_104 : decode cX2_tells 104 = .ok (.aload_n 0, 1) := dk_42 (dk_at dksX2_tells_4 12 rfl rfl)
theorem dX2_tells_105 : decode cX2_tells 105 = .ok (.getfield 37, 3) := dk_180 0 37 (dk_at dksX2_tells_4 13 rfl rfl)
theorem dX2_tells_108 : decode cX2_tells 108 = .ok (.aload_n 0, 1) := dk_42 (dk_at dksX2_tells_4 16 rfl rfl)
theorem dX2_tells_109 : decode cX2_tells 109 = .ok (.getfield 86, 3) := dk_180 0 86 (dk_at dksX2_tells_4 17 rfl rfl)
theorem dX2_tells_112 : decode cX2_tells 112 = .ok (.iload 5, 2) := dk_21 5 (dk_at dksX2_tells_4 20 rfl rfl)
theorem dX2_tells_114 : decode cX2_tells 114 = .ok (.iastore, 1) := dk_79 (dk_at dksX2_tells_4 22 rfl rfl)
theorem dX2_tells_115 : decode cX2_tells 115 = .ok (.aload_n 0, 1) := dk_42 (dk_at dksX2_tells_4 23 rfl rfl)
theorem dX2_tells_116 : decode cX2_tells 116 = .ok (.getfield 40, 3) := dk_180 0 40 (dk_at dksX2_tells_5 0 rfl rfl)
theorem dX2_tells_119 : decode cX2_tells 119 = .ok (.aload_n 0, 1) := dk_42 (dk_at dksX2_tells_5 3 rfl rfl)
theorem dX2_tells_120 : decode cX2_tells 120 = .ok (.getfield 86, 3) := dk_180 0 86 (dk_at dksX2_tells_5 4 rfl rfl)
theorem dX2_tells_123 : decode cX2_tells 123 = .ok (.aload_n 0, 1) := dk_42 (dk_at dksX2_tells_5 7 rfl rfl)
theorem dX2_tells_124 : decode cX2_tells 124 = .ok (.getfield 80, 3) := dk_180 0 80 (dk_at dksX2_tells_5 8 rfl rfl)
theorem dX2_tells_127 : decode cX2_tells 127 = .ok (.iastore, 1) := dk_79 (dk_at dksX2_tells_5 11 rfl rfl)
theorem dX2_tells_128 : decode cX2_tells 128 = .ok (.aload_n 0, 1) := dk_42 (dk_at dksX2_tells_5 12 rfl rfl)
theorem dX2_tells_129 : decode cX2_tells 129 = .ok (.getfield 43, 3) := dk_180 0 43 (dk_at dksX2_tells_5 13 rfl rfl)
theorem dX2_tells_132 : decode cX2_tells 132 = .ok (.aload_n 0, 1) := dk_42 (dk_at dksX2_tells_5 16 rfl rfl)
theorem dX2_tells_133 : decode cX2_tells 133 = .ok (.getfield 86, 3) := dk_180 0 86 (dk_at dksX2_tells_5 17 rfl rfl)
theorem dX2_tells_136 : decode cX2_tells 136 = .ok (.iconst (-1), 1) := dk_2 (dk_at dksX2_tells_5 20 rfl rfl)
theorem dX2_tells_137 : decode cX2_tells 137 = .ok (.iastore, 1) := dk_79 (dk_at dksX2_tells_5 21 rfl rfl)
theorem dX2_tells_138 : decode cX2_tells 138 = .ok (.aload_n 0, 1) := dk_42 (dk_at dksX2_tells_5 22 rfl rfl)
theorem dX2_tells_139 : decode cX2_tells 139 = .ok (.dup, 1) := dk_89 (dk_at dksX2_tells_5 23 rfl rfl)
theorem dX2_tells_140 : decode cX2_tells 140 = .ok (.getfield 86, 3) := dk_180 0 86 (dk_at dksX2_tells_6 0 rfl rfl)
theorem dX2_tells_143 : decode cX2_tells 143 = .ok (.iconst 1, 1) := dk_4 (dk_at dksX2_tells_6 3 rfl rfl)
theorem dX2_tells_144 : decode cX2_tells 144 = .ok (.iadd, 1) := dk_96 (dk_at dksX2_tells_6 4 rfl rfl)
theorem dX2_tells_145 : decode cX2_tells 145 = .ok (.putfield 86, 3) := dk_181 0 86 (dk_at dksX2_tells_6 5 rfl rfl)
theorem dX2_tells_148 : decode cX2_tells 148 = .ok (.aload_n 0, 1) := dk_42 (dk_at dksX2_tells_6 8 rfl rfl)
theorem dX2_tells_149 : decode cX2_tells 149 = .ok (.getfield 86, 3) := dk_180 0 86 (dk_at dksX2_tells_6 9 rfl rfl)
theorem dX2_tells_152 : decode cX2_tells 152 = .ok (.iconst 1, 1) := dk_4 (dk_at dksX2_tells_6 12 rfl rfl)
theorem dX2_tells_153 : decode cX2_tells 153 = .ok (.isub, 1) := dk_100 (dk_at dksX2_tells_6 13 rfl rfl)
theorem dX2_tells_154 : decode cX2_tells 154 = .ok (.ireturn, 1) := dk_172 (dk_at dksX2_tells_6 14 rfl rfl)
abbrev cX2_isPolicy : ByteArray := prog_8_method_5_code
def yX2_isPolicy : MethodName := ⟨RX2, "isPolicy", "(I)Z"⟩
def dkwX2_isPolicy_0 : List UInt8 := [27, 3, 42, 180, 0, 67, 4, 100, 184, 0, 63, 172]
abbrev dktX2_isPolicy_0 : List UInt8 := dkwX2_isPolicy_0 ++ []
theorem dksX2_isPolicy_0 : cX2_isPolicy.data.toList.drop 0 = dktX2_isPolicy_0 := by decide +kernel
theorem dX2_isPolicy_0 : decode cX2_isPolicy 0 = .ok (.iload_n 1, 1) := dk_27 (dk_at dksX2_isPolicy_0 0 rfl rfl)
theorem dX2_isPolicy_1 : decode cX2_isPolicy 1 = .ok (.iconst 0, 1) := dk_3 (dk_at dksX2_isPolicy_0 1 rfl rfl)
theorem dX2_isPolicy_2 : decode cX2_isPolicy 2 = .ok (.aload_n 0, 1) := dk_42 (dk_at dksX2_isPolicy_0 2 rfl rfl)
theorem dX2_isPolicy_3 : decode cX2_isPolicy 3 = .ok (.getfield 67, 3) := dk_180 0 67 (dk_at dksX2_isPolicy_0 3 rfl rfl)
theorem dX2_isPolicy_6 : decode cX2_isPolicy 6 = .ok (.iconst 1, 1) := dk_4 (dk_at dksX2_isPolicy_0 6 rfl rfl)
theorem dX2_isPolicy_7 : decode cX2_isPolicy 7 = .ok (.isub, 1) := dk_100 (dk_at dksX2_isPolicy_0 7 rfl rfl)
theorem dX2_isPolicy_8 : decode cX2_isPolicy 8 = .ok (.invokestatic 63, 3) := dk_184 0 63 (dk_at dksX2_isPolicy_0 8 rfl rfl)
theorem dX2_isPolicy_11 : decode cX2_isPolicy 11 = .ok (.ireturn, 1) := dk_172 (dk_at dksX2_isPolicy_0 11 rfl rfl)
abbrev cX2_add : ByteArray := prog_8_method_13_code
def yX2_add : MethodName := ⟨RX2, "add", "(IIII)I"⟩
def dkwX2_add_0 : List UInt8 := [42, 27, 4, 28, 29, 21, 4, 21, 4, 16, 236, 16, 20, 184, 0, 63, 182, 0, 89, 172]
abbrev dktX2_add_0 : List UInt8 := dkwX2_add_0 ++ []
theorem dksX2_add_0 : cX2_add.data.toList.drop 0 = dktX2_add_0 := by decide +kernel
theorem dX2_add_0 : decode cX2_add 0 = .ok (.aload_n 0, 1) := dk_42 (dk_at dksX2_add_0 0 rfl rfl)
theorem dX2_add_1 : decode cX2_add 1 = .ok (.iload_n 1, 1) := dk_27 (dk_at dksX2_add_0 1 rfl rfl)
theorem dX2_add_2 : decode cX2_add 2 = .ok (.iconst 1, 1) := dk_4 (dk_at dksX2_add_0 2 rfl rfl)
theorem dX2_add_3 : decode cX2_add 3 = .ok (.iload_n 2, 1) := dk_28 (dk_at dksX2_add_0 3 rfl rfl)
theorem dX2_add_4 : decode cX2_add 4 = .ok (.iload_n 3, 1) := dk_29 (dk_at dksX2_add_0 4 rfl rfl)
theorem dX2_add_5 : decode cX2_add 5 = .ok (.iload 4, 2) := dk_21 4 (dk_at dksX2_add_0 5 rfl rfl)
theorem dX2_add_7 : decode cX2_add 7 = .ok (.iload 4, 2) := dk_21 4 (dk_at dksX2_add_0 7 rfl rfl)
theorem dX2_add_9 : decode cX2_add 9 = .ok (.bipush (-20), 2) := dk_16 236 (dk_at dksX2_add_0 9 rfl rfl)
theorem dX2_add_11 : decode cX2_add 11 = .ok (.bipush 20, 2) := dk_16 20 (dk_at dksX2_add_0 11 rfl rfl)
theorem dX2_add_13 : decode cX2_add 13 = .ok (.invokestatic 63, 3) := dk_184 0 63 (dk_at dksX2_add_0 13 rfl rfl)
theorem dX2_add_16 : decode cX2_add 16 = .ok (.invokevirtual 89, 3) := dk_182 0 89 (dk_at dksX2_add_0 16 rfl rfl)
theorem dX2_add_19 : decode cX2_add 19 = .ok (.ireturn, 1) := dk_172 (dk_at dksX2_add_0 19 rfl rfl)
abbrev cX2_cancel : ByteArray := prog_8_method_14_code
def yX2_cancel : MethodName := ⟨RX2, "cancel", "(II)I"⟩
def dkwX2_cancel_0 : List UInt8 := [42, 27, 5, 3, 28, 3, 4, 182, 0, 89, 172]
abbrev dktX2_cancel_0 : List UInt8 := dkwX2_cancel_0 ++ []
theorem dksX2_cancel_0 : cX2_cancel.data.toList.drop 0 = dktX2_cancel_0 := by decide +kernel
theorem dX2_cancel_0 : decode cX2_cancel 0 = .ok (.aload_n 0, 1) := dk_42 (dk_at dksX2_cancel_0 0 rfl rfl)
theorem dX2_cancel_1 : decode cX2_cancel 1 = .ok (.iload_n 1, 1) := dk_27 (dk_at dksX2_cancel_0 1 rfl rfl)
theorem dX2_cancel_2 : decode cX2_cancel 2 = .ok (.iconst 2, 1) := dk_5 (dk_at dksX2_cancel_0 2 rfl rfl)
theorem dX2_cancel_3 : decode cX2_cancel 3 = .ok (.iconst 0, 1) := dk_3 (dk_at dksX2_cancel_0 3 rfl rfl)
theorem dX2_cancel_4 : decode cX2_cancel 4 = .ok (.iload_n 2, 1) := dk_28 (dk_at dksX2_cancel_0 4 rfl rfl)
theorem dX2_cancel_5 : decode cX2_cancel 5 = .ok (.iconst 0, 1) := dk_3 (dk_at dksX2_cancel_0 5 rfl rfl)
theorem dX2_cancel_6 : decode cX2_cancel 6 = .ok (.iconst 1, 1) := dk_4 (dk_at dksX2_cancel_0 6 rfl rfl)
theorem dX2_cancel_7 : decode cX2_cancel 7 = .ok (.invokevirtual 89, 3) := dk_182 0 89 (dk_at dksX2_cancel_0 7 rfl rfl)
theorem dX2_cancel_10 : decode cX2_cancel 10 = .ok (.ireturn, 1) := dk_172 (dk_at dksX2_cancel_0 10 rfl rfl)
abbrev cX2_reinstate : ByteArray := prog_8_method_15_code
def yX2_reinstate : MethodName := ⟨RX2, "reinstate", "(II)I"⟩
def dkwX2_reinstate_0 : List UInt8 := [42, 27, 6, 3, 28, 3, 4, 182, 0, 89, 172]
abbrev dktX2_reinstate_0 : List UInt8 := dkwX2_reinstate_0 ++ []
theorem dksX2_reinstate_0 : cX2_reinstate.data.toList.drop 0 = dktX2_reinstate_0 := by decide +kernel
theorem dX2_reinstate_0 : decode cX2_reinstate 0 = .ok (.aload_n 0, 1) := dk_42 (dk_at dksX2_reinstate_0 0 rfl rfl)
theorem dX2_reinstate_1 : decode cX2_reinstate 1 = .ok (.iload_n 1, 1) := dk_27 (dk_at dksX2_reinstate_0 1 rfl rfl)
theorem dX2_reinstate_2 : decode cX2_reinstate 2 = .ok (.iconst 3, 1) := dk_6 (dk_at dksX2_reinstate_0 2 rfl rfl)
theorem dX2_reinstate_3 : decode cX2_reinstate 3 = .ok (.iconst 0, 1) := dk_3 (dk_at dksX2_reinstate_0 3 rfl rfl)
theorem dX2_reinstate_4 : decode cX2_reinstate 4 = .ok (.iload_n 2, 1) := dk_28 (dk_at dksX2_reinstate_0 4 rfl rfl)
theorem dX2_reinstate_5 : decode cX2_reinstate 5 = .ok (.iconst 0, 1) := dk_3 (dk_at dksX2_reinstate_0 5 rfl rfl)
theorem dX2_reinstate_6 : decode cX2_reinstate 6 = .ok (.iconst 1, 1) := dk_4 (dk_at dksX2_reinstate_0 6 rfl rfl)
theorem dX2_reinstate_7 : decode cX2_reinstate 7 = .ok (.invokevirtual 89, 3) := dk_182 0 89 (dk_at dksX2_reinstate_0 7 rfl rfl)
theorem dX2_reinstate_10 : decode cX2_reinstate 10 = .ok (.ireturn, 1) := dk_172 (dk_at dksX2_reinstate_0 10 rfl rfl)
abbrev cX2_takeBack : ByteArray := prog_8_method_17_code
def yX2_takeBack : MethodName := ⟨RX2, "takeBack", "(I)I"⟩
def dkwX2_takeBack_2 : List UInt8 := [180, 0, 40, 27, 46, 172]
abbrev dktX2_takeBack_2 : List UInt8 := dkwX2_takeBack_2 ++ []
def dkwX2_takeBack_1 : List UInt8 := [3, 181, 0, 59, 42, 180, 0, 59, 158, 0, 5, 3, 172, 42, 180, 0, 43, 27, 42, 180, 0, 80, 79, 42]
abbrev dktX2_takeBack_1 : List UInt8 := dkwX2_takeBack_1 ++ dktX2_takeBack_2
def dkwX2_takeBack_0 : List UInt8 := [42, 27, 182, 0, 93, 154, 0, 5, 3, 172, 42, 42, 180, 0, 43, 27, 46, 155, 0, 7, 5, 167, 0, 4]
abbrev dktX2_takeBack_0 : List UInt8 := dkwX2_takeBack_0 ++ dktX2_takeBack_1
theorem dksX2_takeBack_0 : cX2_takeBack.data.toList.drop 0 = dktX2_takeBack_0 := by decide +kernel
theorem dksX2_takeBack_1 : cX2_takeBack.data.toList.drop 24 = dktX2_takeBack_1 := dk_seg dksX2_takeBack_0 24 rfl rfl
theorem dksX2_takeBack_2 : cX2_takeBack.data.toList.drop 48 = dktX2_takeBack_2 := dk_seg dksX2_takeBack_1 24 rfl rfl
theorem dX2_takeBack_0 : decode cX2_takeBack 0 = .ok (.aload_n 0, 1) := dk_42 (dk_at dksX2_takeBack_0 0 rfl rfl)
theorem dX2_takeBack_1 : decode cX2_takeBack 1 = .ok (.iload_n 1, 1) := dk_27 (dk_at dksX2_takeBack_0 1 rfl rfl)
theorem dX2_takeBack_2 : decode cX2_takeBack 2 = .ok (.invokevirtual 93, 3) := dk_182 0 93 (dk_at dksX2_takeBack_0 2 rfl rfl)
theorem dX2_takeBack_5 : decode cX2_takeBack 5 = .ok (.ifCond .ne 5, 3) := dk_154 0 5 (dk_at dksX2_takeBack_0 5 rfl rfl)
theorem dX2_takeBack_8 : decode cX2_takeBack 8 = .ok (.iconst 0, 1) := dk_3 (dk_at dksX2_takeBack_0 8 rfl rfl)
theorem dX2_takeBack_9 : decode cX2_takeBack 9 = .ok (.ireturn, 1) := dk_172 (dk_at dksX2_takeBack_0 9 rfl rfl)
theorem dX2_takeBack_10 : decode cX2_takeBack 10 = .ok (.aload_n 0, 1) := dk_42 (dk_at dksX2_takeBack_0 10 rfl rfl)
theorem dX2_takeBack_11 : decode cX2_takeBack 11 = .ok (.aload_n 0, 1) := dk_42 (dk_at dksX2_takeBack_0 11 rfl rfl)
theorem dX2_takeBack_12 : decode cX2_takeBack 12 = .ok (.getfield 43, 3) := dk_180 0 43 (dk_at dksX2_takeBack_0 12 rfl rfl)
theorem dX2_takeBack_15 : decode cX2_takeBack 15 = .ok (.iload_n 1, 1) := dk_27 (dk_at dksX2_takeBack_0 15 rfl rfl)
theorem dX2_takeBack_16 : decode cX2_takeBack 16 = .ok (.iaload, 1) := dk_46 (dk_at dksX2_takeBack_0 16 rfl rfl)
theorem dX2_takeBack_17 : decode cX2_takeBack 17 = .ok (.ifCond .lt 7, 3) := dk_155 0 7 (dk_at dksX2_takeBack_0 17 rfl rfl)
theorem dX2_takeBack_20 : decode cX2_takeBack 20 = .ok (.iconst 2, 1) := dk_5 (dk_at dksX2_takeBack_0 20 rfl rfl)
theorem dX2_takeBack_21 : decode cX2_takeBack 21 = .ok (.goto 4, 3) := dk_167 0 4 (dk_at dksX2_takeBack_0 21 rfl rfl)
theorem dX2_takeBack_24 : decode cX2_takeBack 24 = .ok (.iconst 0, 1) := dk_3 (dk_at dksX2_takeBack_1 0 rfl rfl)
theorem dX2_takeBack_25 : decode cX2_takeBack 25 = .ok (.putfield 59, 3) := dk_181 0 59 (dk_at dksX2_takeBack_1 1 rfl rfl)
theorem dX2_takeBack_28 : decode cX2_takeBack 28 = .ok (.aload_n 0, 1) := dk_42 (dk_at dksX2_takeBack_1 4 rfl rfl)
theorem dX2_takeBack_29 : decode cX2_takeBack 29 = .ok (.getfield 59, 3) := dk_180 0 59 (dk_at dksX2_takeBack_1 5 rfl rfl)
theorem dX2_takeBack_32 : decode cX2_takeBack 32 = .ok (.ifCond .le 5, 3) := dk_158 0 5 (dk_at dksX2_takeBack_1 8 rfl rfl)
theorem dX2_takeBack_35 : decode cX2_takeBack 35 = .ok (.iconst 0, 1) := dk_3 (dk_at dksX2_takeBack_1 11 rfl rfl)
theorem dX2_takeBack_36 : decode cX2_takeBack 36 = .ok (.ireturn, 1) := dk_172 (dk_at dksX2_takeBack_1 12 rfl rfl)
theorem dX2_takeBack_37 : decode cX2_takeBack 37 = .ok (.aload_n 0, 1) := dk_42 (dk_at dksX2_takeBack_1 13 rfl rfl)
theorem dX2_takeBack_38 : decode cX2_takeBack 38 = .ok (.getfield 43, 3) := dk_180 0 43 (dk_at dksX2_takeBack_1 14 rfl rfl)
theorem dX2_takeBack_41 : decode cX2_takeBack 41 = .ok (.iload_n 1, 1) := dk_27 (dk_at dksX2_takeBack_1 17 rfl rfl)
theorem dX2_takeBack_42 : decode cX2_takeBack 42 = .ok (.aload_n 0, 1) := dk_42 (dk_at dksX2_takeBack_1 18 rfl rfl)
theorem dX2_takeBack_43 : decode cX2_takeBack 43 = .ok (.getfield 80, 3) := dk_180 0 80 (dk_at dksX2_takeBack_1 19 rfl rfl)
theorem dX2_takeBack_46 : decode cX2_takeBack 46 = .ok (.iastore, 1) := dk_79 (dk_at dksX2_takeBack_1 22 rfl rfl)
theorem dX2_takeBack_47 : decode cX2_takeBack 47 = .ok (.aload_n 0, 1) := dk_42 (dk_at dksX2_takeBack_1 23 rfl rfl)
theorem dX2_takeBack_48 : decode cX2_takeBack 48 = .ok (.getfield 40, 3) := dk_180 0 40 (dk_at dksX2_takeBack_2 0 rfl rfl)
theorem dX2_takeBack_51 : decode cX2_takeBack 51 = .ok (.iload_n 1, 1) := dk_27 (dk_at dksX2_takeBack_2 3 rfl rfl)
theorem dX2_takeBack_52 : decode cX2_takeBack 52 = .ok (.iaload, 1) := dk_46 (dk_at dksX2_takeBack_2 4 rfl rfl)
theorem dX2_takeBack_53 : decode cX2_takeBack 53 = .ok (.ireturn, 1) := dk_172 (dk_at dksX2_takeBack_2 5 rfl rfl)
abbrev cX2_isChange : ByteArray := prog_8_method_16_code
def yX2_isChange : MethodName := ⟨RX2, "isChange", "(I)Z"⟩
def dkwX2_isChange_1 : List UInt8 := [180, 0, 59, 154, 0, 7, 4, 167, 0, 4, 3, 172]
abbrev dktX2_isChange_1 : List UInt8 := dkwX2_isChange_1 ++ []
def dkwX2_isChange_0 : List UInt8 := [42, 27, 3, 42, 180, 0, 86, 4, 100, 184, 0, 63, 153, 0, 7, 3, 167, 0, 4, 4, 181, 0, 59, 42]
abbrev dktX2_isChange_0 : List UInt8 := dkwX2_isChange_0 ++ dktX2_isChange_1
theorem dksX2_isChange_0 : cX2_isChange.data.toList.drop 0 = dktX2_isChange_0 := by decide +kernel
theorem dksX2_isChange_1 : cX2_isChange.data.toList.drop 24 = dktX2_isChange_1 := dk_seg dksX2_isChange_0 24 rfl rfl
theorem dX2_isChange_0 : decode cX2_isChange 0 = .ok (.aload_n 0, 1) := dk_42 (dk_at dksX2_isChange_0 0 rfl rfl)
theorem dX2_isChange_1 : decode cX2_isChange 1 = .ok (.iload_n 1, 1) := dk_27 (dk_at dksX2_isChange_0 1 rfl rfl)
theorem dX2_isChange_2 : decode cX2_isChange 2 = .ok (.iconst 0, 1) := dk_3 (dk_at dksX2_isChange_0 2 rfl rfl)
theorem dX2_isChange_3 : decode cX2_isChange 3 = .ok (.aload_n 0, 1) := dk_42 (dk_at dksX2_isChange_0 3 rfl rfl)
theorem dX2_isChange_4 : decode cX2_isChange 4 = .ok (.getfield 86, 3) := dk_180 0 86 (dk_at dksX2_isChange_0 4 rfl rfl)
theorem dX2_isChange_7 : decode cX2_isChange 7 = .ok (.iconst 1, 1) := dk_4 (dk_at dksX2_isChange_0 7 rfl rfl)
theorem dX2_isChange_8 : decode cX2_isChange 8 = .ok (.isub, 1) := dk_100 (dk_at dksX2_isChange_0 8 rfl rfl)
theorem dX2_isChange_9 : decode cX2_isChange 9 = .ok (.invokestatic 63, 3) := dk_184 0 63 (dk_at dksX2_isChange_0 9 rfl rfl)
theorem dX2_isChange_12 : decode cX2_isChange 12 = .ok (.ifCond .eq 7, 3) := dk_153 0 7 (dk_at dksX2_isChange_0 12 rfl rfl)
theorem dX2_isChange_15 : decode cX2_isChange 15 = .ok (.iconst 0, 1) := dk_3 (dk_at dksX2_isChange_0 15 rfl rfl)
theorem dX2_isChange_16 : decode cX2_isChange 16 = .ok (.goto 4, 3) := dk_167 0 4 (dk_at dksX2_isChange_0 16 rfl rfl)
theorem dX2_isChange_19 : decode cX2_isChange 19 = .ok (.iconst 1, 1) := dk_4 (dk_at dksX2_isChange_0 19 rfl rfl)
theorem dX2_isChange_20 : decode cX2_isChange 20 = .ok (.putfield 59, 3) := dk_181 0 59 (dk_at dksX2_isChange_0 20 rfl rfl)
theorem dX2_isChange_23 : decode cX2_isChange 23 = .ok (.aload_n 0, 1) := dk_42 (dk_at dksX2_isChange_0 23 rfl rfl)
theorem dX2_isChange_24 : decode cX2_isChange 24 = .ok (.getfield 59, 3) := dk_180 0 59 (dk_at dksX2_isChange_1 0 rfl rfl)
theorem dX2_isChange_27 : decode cX2_isChange 27 = .ok (.ifCond .ne 7, 3) := dk_154 0 7 (dk_at dksX2_isChange_1 3 rfl rfl)
theorem dX2_isChange_30 : decode cX2_isChange 30 = .ok (.iconst 1, 1) := dk_4 (dk_at dksX2_isChange_1 6 rfl rfl)
theorem dX2_isChange_31 : decode cX2_isChange 31 = .ok (.goto 4, 3) := dk_167 0 4 (dk_at dksX2_isChange_1 7 rfl rfl)
theorem dX2_isChange_34 : decode cX2_isChange 34 = .ok (.iconst 0, 1) := dk_3 (dk_at dksX2_isChange_1 10 rfl rfl)
theorem dX2_isChange_35 : decode cX2_isChange 35 = .ok (.ireturn, 1) := dk_172 (dk_at dksX2_isChange_1 11 rfl rfl)
abbrev cX2_changes : ByteArray := prog_8_method_18_code
def yX2_changes : MethodName := ⟨RX2, "changes", "()I"⟩
def dkwX2_changes_0 : List UInt8 := [42, 3, 181, 0, 59, 42, 180, 0, 86, 172]
abbrev dktX2_changes_0 : List UInt8 := dkwX2_changes_0 ++ []
theorem dksX2_changes_0 : cX2_changes.data.toList.drop 0 = dktX2_changes_0 := by decide +kernel
theorem dX2_changes_0 : decode cX2_changes 0 = .ok (.aload_n 0, 1) := dk_42 (dk_at dksX2_changes_0 0 rfl rfl)
theorem dX2_changes_1 : decode cX2_changes 1 = .ok (.iconst 0, 1) := dk_3 (dk_at dksX2_changes_0 1 rfl rfl)
theorem dX2_changes_2 : decode cX2_changes 2 = .ok (.putfield 59, 3) := dk_181 0 59 (dk_at dksX2_changes_0 2 rfl rfl)
theorem dX2_changes_5 : decode cX2_changes 5 = .ok (.aload_n 0, 1) := dk_42 (dk_at dksX2_changes_0 5 rfl rfl)
theorem dX2_changes_6 : decode cX2_changes 6 = .ok (.getfield 86, 3) := dk_180 0 86 (dk_at dksX2_changes_0 6 rfl rfl)
theorem dX2_changes_9 : decode cX2_changes 9 = .ok (.ireturn, 1) := dk_172 (dk_at dksX2_changes_0 9 rfl rfl)
abbrev cX2_laidAnew : ByteArray := prog_8_method_20_code
def yX2_laidAnew : MethodName := ⟨RX2, "laidAnew", "(I)I"⟩
def dkwX2_laidAnew_3 : List UInt8 := [167, 0, 4, 3, 96, 61, 132, 4, 1, 167, 255, 190, 28, 172]
abbrev dktX2_laidAnew_3 : List UInt8 := dkwX2_laidAnew_3 ++ []
def dkwX2_laidAnew_2 : List UInt8 := [182, 0, 96, 153, 0, 23, 42, 180, 0, 34, 21, 4, 46, 42, 180, 0, 34, 27, 46, 164, 0, 7, 4]
abbrev dktX2_laidAnew_2 : List UInt8 := dkwX2_laidAnew_2 ++ dktX2_laidAnew_3
def dkwX2_laidAnew_1 : List UInt8 := [180, 0, 25, 21, 4, 46, 42, 180, 0, 25, 27, 46, 160, 0, 36, 42, 21, 4, 42, 180, 0, 80]
abbrev dktX2_laidAnew_1 : List UInt8 := dkwX2_laidAnew_1 ++ dktX2_laidAnew_2
def dkwX2_laidAnew_0 : List UInt8 := [3, 61, 42, 27, 182, 0, 93, 62, 3, 54, 4, 29, 153, 0, 68, 21, 4, 27, 162, 0, 62, 28, 42]
abbrev dktX2_laidAnew_0 : List UInt8 := dkwX2_laidAnew_0 ++ dktX2_laidAnew_1
theorem dksX2_laidAnew_0 : cX2_laidAnew.data.toList.drop 0 = dktX2_laidAnew_0 := by decide +kernel
theorem dksX2_laidAnew_1 : cX2_laidAnew.data.toList.drop 23 = dktX2_laidAnew_1 := dk_seg dksX2_laidAnew_0 23 rfl rfl
theorem dksX2_laidAnew_2 : cX2_laidAnew.data.toList.drop 45 = dktX2_laidAnew_2 := dk_seg dksX2_laidAnew_1 22 rfl rfl
theorem dksX2_laidAnew_3 : cX2_laidAnew.data.toList.drop 68 = dktX2_laidAnew_3 := dk_seg dksX2_laidAnew_2 23 rfl rfl
theorem dX2_laidAnew_0 : decode cX2_laidAnew 0 = .ok (.iconst 0, 1) := dk_3 (dk_at dksX2_laidAnew_0 0 rfl rfl)
theorem dX2_laidAnew_1 : decode cX2_laidAnew 1 = .ok (.istore_n 2, 1) := dk_61 (dk_at dksX2_laidAnew_0 1 rfl rfl)
theorem dX2_laidAnew_2 : decode cX2_laidAnew 2 = .ok (.aload_n 0, 1) := dk_42 (dk_at dksX2_laidAnew_0 2 rfl rfl)
theorem dX2_laidAnew_3 : decode cX2_laidAnew 3 = .ok (.iload_n 1, 1) := dk_27 (dk_at dksX2_laidAnew_0 3 rfl rfl)
theorem dX2_laidAnew_4 : decode cX2_laidAnew 4 = .ok (.invokevirtual 93, 3) := dk_182 0 93 (dk_at dksX2_laidAnew_0 4 rfl rfl)
theorem dX2_laidAnew_7 : decode cX2_laidAnew 7 = .ok (.istore_n 3, 1) := dk_62 (dk_at dksX2_laidAnew_0 7 rfl rfl)
theorem dX2_laidAnew_8 : decode cX2_laidAnew 8 = .ok (.iconst 0, 1) := dk_3 (dk_at dksX2_laidAnew_0 8 rfl rfl)
theorem dX2_laidAnew_9 : decode cX2_laidAnew 9 = .ok (.istore 4, 2) := dk_54 4 (dk_at dksX2_laidAnew_0 9 rfl rfl)
theorem dX2_laidAnew_11 : decode cX2_laidAnew 11 = .ok (.iload_n 3, 1) := dk_29 (dk_at dksX2_laidAnew_0 11 rfl rfl)
theorem dX2_laidAnew_12 : decode cX2_laidAnew 12 = .ok (.ifCond .eq 68, 3) := dk_153 0 68 (dk_at dksX2_laidAnew_0 12 rfl rfl)
theorem dX2_laidAnew_15 : decode cX2_laidAnew 15 = .ok (.iload 4, 2) := dk_21 4 (dk_at dksX2_laidAnew_0 15 rfl rfl)
theorem dX2_laidAnew_17 : decode cX2_laidAnew 17 = .ok (.iload_n 1, 1) := dk_27 (dk_at dksX2_laidAnew_0 17 rfl rfl)
theorem dX2_laidAnew_18 : decode cX2_laidAnew 18 = .ok (.if_icmp .ge 62, 3) := dk_162 0 62 (dk_at dksX2_laidAnew_0 18 rfl rfl)
theorem dX2_laidAnew_21 : decode cX2_laidAnew 21 = .ok (.iload_n 2, 1) := dk_28 (dk_at dksX2_laidAnew_0 21 rfl rfl)
theorem dX2_laidAnew_22 : decode cX2_laidAnew 22 = .ok (.aload_n 0, 1) := dk_42 (dk_at dksX2_laidAnew_0 22 rfl rfl)
theorem dX2_laidAnew_23 : decode cX2_laidAnew 23 = .ok (.getfield 25, 3) := dk_180 0 25 (dk_at dksX2_laidAnew_1 0 rfl rfl)
theorem dX2_laidAnew_26 : decode cX2_laidAnew 26 = .ok (.iload 4, 2) := dk_21 4 (dk_at dksX2_laidAnew_1 3 rfl rfl)
theorem dX2_laidAnew_28 : decode cX2_laidAnew 28 = .ok (.iaload, 1) := dk_46 (dk_at dksX2_laidAnew_1 5 rfl rfl)
theorem dX2_laidAnew_29 : decode cX2_laidAnew 29 = .ok (.aload_n 0, 1) := dk_42 (dk_at dksX2_laidAnew_1 6 rfl rfl)
theorem dX2_laidAnew_30 : decode cX2_laidAnew 30 = .ok (.getfield 25, 3) := dk_180 0 25 (dk_at dksX2_laidAnew_1 7 rfl rfl)
theorem dX2_laidAnew_33 : decode cX2_laidAnew 33 = .ok (.iload_n 1, 1) := dk_27 (dk_at dksX2_laidAnew_1 10 rfl rfl)
theorem dX2_laidAnew_34 : decode cX2_laidAnew 34 = .ok (.iaload, 1) := dk_46 (dk_at dksX2_laidAnew_1 11 rfl rfl)
theorem dX2_laidAnew_35 : decode cX2_laidAnew 35 = .ok (.if_icmp .ne 36, 3) := dk_160 0 36 (dk_at dksX2_laidAnew_1 12 rfl rfl)
theorem dX2_laidAnew_38 : decode cX2_laidAnew 38 = .ok (.aload_n 0, 1) := dk_42 (dk_at dksX2_laidAnew_1 15 rfl rfl)
theorem dX2_laidAnew_39 : decode cX2_laidAnew 39 = .ok (.iload 4, 2) := dk_21 4 (dk_at dksX2_laidAnew_1 16 rfl rfl)
theorem dX2_laidAnew_41 : decode cX2_laidAnew 41 = .ok (.aload_n 0, 1) := dk_42 (dk_at dksX2_laidAnew_1 18 rfl rfl)
theorem dX2_laidAnew_42 : decode cX2_laidAnew 42 = .ok (.getfield 80, 3) := dk_180 0 80 (dk_at dksX2_laidAnew_1 19 rfl rfl)
theorem dX2_laidAnew_45 : decode cX2_laidAnew 45 = .ok (.invokevirtual 96, 3) := dk_182 0 96 (dk_at dksX2_laidAnew_2 0 rfl rfl)
theorem dX2_laidAnew_48 : decode cX2_laidAnew 48 = .ok (.ifCond .eq 23, 3) := dk_153 0 23 (dk_at dksX2_laidAnew_2 3 rfl rfl)
theorem dX2_laidAnew_51 : decode cX2_laidAnew 51 = .ok (.aload_n 0, 1) := dk_42 (dk_at dksX2_laidAnew_2 6 rfl rfl)
theorem dX2_laidAnew_52 : decode cX2_laidAnew 52 = .ok (.getfield 34, 3) := dk_180 0 34 (dk_at dksX2_laidAnew_2 7 rfl rfl)
theorem dX2_laidAnew_55 : decode cX2_laidAnew 55 = .ok (.iload 4, 2) := dk_21 4 (dk_at dksX2_laidAnew_2 10 rfl rfl)
theorem dX2_laidAnew_57 : decode cX2_laidAnew 57 = .ok (.iaload, 1) := dk_46 (dk_at dksX2_laidAnew_2 12 rfl rfl)
theorem dX2_laidAnew_58 : decode cX2_laidAnew 58 = .ok (.aload_n 0, 1) := dk_42 (dk_at dksX2_laidAnew_2 13 rfl rfl)
theorem dX2_laidAnew_59 : decode cX2_laidAnew 59 = .ok (.getfield 34, 3) := dk_180 0 34 (dk_at dksX2_laidAnew_2 14 rfl rfl)
theorem dX2_laidAnew_62 : decode cX2_laidAnew 62 = .ok (.iload_n 1, 1) := dk_27 (dk_at dksX2_laidAnew_2 17 rfl rfl)
theorem dX2_laidAnew_63 : decode cX2_laidAnew 63 = .ok (.iaload, 1) := dk_46 (dk_at dksX2_laidAnew_2 18 rfl rfl)
theorem dX2_laidAnew_64 : decode cX2_laidAnew 64 = .ok (.if_icmp .le 7, 3) := dk_164 0 7 (dk_at dksX2_laidAnew_2 19 rfl rfl)
theorem dX2_laidAnew_67 : decode cX2_laidAnew 67 = .ok (.iconst 1, 1) := dk_4 (dk_at dksX2_laidAnew_2 22 rfl rfl)
theorem dX2_laidAnew_68 : decode cX2_laidAnew 68 = .ok (.goto 4, 3) := dk_167 0 4 (dk_at dksX2_laidAnew_3 0 rfl rfl)
theorem dX2_laidAnew_71 : decode cX2_laidAnew 71 = .ok (.iconst 0, 1) := dk_3 (dk_at dksX2_laidAnew_3 3 rfl rfl)
theorem dX2_laidAnew_72 : decode cX2_laidAnew 72 = .ok (.iadd, 1) := dk_96 (dk_at dksX2_laidAnew_3 4 rfl rfl)
theorem dX2_laidAnew_73 : decode cX2_laidAnew 73 = .ok (.istore_n 2, 1) := dk_61 (dk_at dksX2_laidAnew_3 5 rfl rfl)
theorem dX2_laidAnew_74 : decode cX2_laidAnew 74 = .ok (.iinc 4 1, 3) := dk_132 4 1 (dk_at dksX2_laidAnew_3 6 rfl rfl)
theorem dX2_laidAnew_77 : decode cX2_laidAnew 77 = .ok (.goto (-66), 3) := dk_167 255 190 (dk_at dksX2_laidAnew_3 9 rfl rfl)
theorem dX2_laidAnew_80 : decode cX2_laidAnew 80 = .ok (.iload_n 2, 1) := dk_28 (dk_at dksX2_laidAnew_3 12 rfl rfl)
theorem dX2_laidAnew_81 : decode cX2_laidAnew 81 = .ok (.ireturn, 1) := dk_172 (dk_at dksX2_laidAnew_3 13 rfl rfl)
abbrev cX2_isKnown : ByteArray := prog_8_method_19_code
def yX2_isKnown : MethodName := ⟨RX2, "isKnown", "(II)Z"⟩
def dkwX2_isKnown_1 : List UInt8 := [46, 28, 164, 0, 7, 4, 167, 0, 4, 3, 172]
abbrev dktX2_isKnown_1 : List UInt8 := dkwX2_isKnown_1 ++ []
def dkwX2_isKnown_0 : List UInt8 := [42, 180, 0, 40, 27, 46, 28, 163, 0, 26, 42, 180, 0, 43, 27, 46, 155, 0, 13, 42, 180, 0, 43, 27]
abbrev dktX2_isKnown_0 : List UInt8 := dkwX2_isKnown_0 ++ dktX2_isKnown_1
theorem dksX2_isKnown_0 : cX2_isKnown.data.toList.drop 0 = dktX2_isKnown_0 := by decide +kernel
theorem dksX2_isKnown_1 : cX2_isKnown.data.toList.drop 24 = dktX2_isKnown_1 := dk_seg dksX2_isKnown_0 24 rfl rfl
theorem dX2_isKnown_0 : decode cX2_isKnown 0 = .ok (.aload_n 0, 1) := dk_42 (dk_at dksX2_isKnown_0 0 rfl rfl)
theorem dX2_isKnown_1 : decode cX2_isKnown 1 = .ok (.getfield 40, 3) := dk_180 0 40 (dk_at dksX2_isKnown_0 1 rfl rfl)
theorem dX2_isKnown_4 : decode cX2_isKnown 4 = .ok (.iload_n 1, 1) := dk_27 (dk_at dksX2_isKnown_0 4 rfl rfl)
theorem dX2_isKnown_5 : decode cX2_isKnown 5 = .ok (.iaload, 1) := dk_46 (dk_at dksX2_isKnown_0 5 rfl rfl)
theorem dX2_isKnown_6 : decode cX2_isKnown 6 = .ok (.iload_n 2, 1) := dk_28 (dk_at dksX2_isKnown_0 6 rfl rfl)
theorem dX2_isKnown_7 : decode cX2_isKnown 7 = .ok (.if_icmp .gt 26, 3) := dk_163 0 26 (dk_at dksX2_isKnown_0 7 rfl rfl)
theorem dX2_isKnown_10 : decode cX2_isKnown 10 = .ok (.aload_n 0, 1) := dk_42 (dk_at dksX2_isKnown_0 10 rfl rfl)
theorem dX2_isKnown_11 : decode cX2_isKnown 11 = .ok (.getfield 43, 3) := dk_180 0 43 (dk_at dksX2_isKnown_0 11 rfl rfl)
theorem dX2_isKnown_14 : decode cX2_isKnown 14 = .ok (.iload_n 1, 1) := dk_27 (dk_at dksX2_isKnown_0 14 rfl rfl)
theorem dX2_isKnown_15 : decode cX2_isKnown 15 = .ok (.iaload, 1) := dk_46 (dk_at dksX2_isKnown_0 15 rfl rfl)
theorem dX2_isKnown_16 : decode cX2_isKnown 16 = .ok (.ifCond .lt 13, 3) := dk_155 0 13 (dk_at dksX2_isKnown_0 16 rfl rfl)
theorem dX2_isKnown_19 : decode cX2_isKnown 19 = .ok (.aload_n 0, 1) := dk_42 (dk_at dksX2_isKnown_0 19 rfl rfl)
theorem dX2_isKnown_20 : decode cX2_isKnown 20 = .ok (.getfield 43, 3) := dk_180 0 43 (dk_at dksX2_isKnown_0 20 rfl rfl)
theorem dX2_isKnown_23 : decode cX2_isKnown 23 = .ok (.iload_n 1, 1) := dk_27 (dk_at dksX2_isKnown_0 23 rfl rfl)
theorem dX2_isKnown_24 : decode cX2_isKnown 24 = .ok (.iaload, 1) := dk_46 (dk_at dksX2_isKnown_1 0 rfl rfl)
theorem dX2_isKnown_25 : decode cX2_isKnown 25 = .ok (.iload_n 2, 1) := dk_28 (dk_at dksX2_isKnown_1 1 rfl rfl)
theorem dX2_isKnown_26 : decode cX2_isKnown 26 = .ok (.if_icmp .le 7, 3) := dk_164 0 7 (dk_at dksX2_isKnown_1 2 rfl rfl)
theorem dX2_isKnown_29 : decode cX2_isKnown 29 = .ok (.iconst 1, 1) := dk_4 (dk_at dksX2_isKnown_1 5 rfl rfl)
theorem dX2_isKnown_30 : decode cX2_isKnown 30 = .ok (.goto 4, 3) := dk_167 0 4 (dk_at dksX2_isKnown_1 6 rfl rfl)
theorem dX2_isKnown_33 : decode cX2_isKnown 33 = .ok (.iconst 0, 1) := dk_3 (dk_at dksX2_isKnown_1 9 rfl rfl)
theorem dX2_isKnown_34 : decode cX2_isKnown 34 = .ok (.ireturn, 1) := dk_172 (dk_at dksX2_isKnown_1 10 rfl rfl)
abbrev cX2_value : ByteArray := prog_8_method_25_code
def yX2_value : MethodName := ⟨RX2, "value", "(IIII)I"⟩
def dkwX2_value_1 : List UInt8 := [167, 0, 4, 3, 172]
abbrev dktX2_value_1 : List UInt8 := dkwX2_value_1 ++ []
def dkwX2_value_0 : List UInt8 := [42, 27, 28, 29, 21, 4, 182, 0, 112, 153, 0, 16, 42, 180, 0, 46, 6, 29, 104, 28, 96, 46]
abbrev dktX2_value_0 : List UInt8 := dkwX2_value_0 ++ dktX2_value_1
theorem dksX2_value_0 : cX2_value.data.toList.drop 0 = dktX2_value_0 := by decide +kernel
theorem dksX2_value_1 : cX2_value.data.toList.drop 22 = dktX2_value_1 := dk_seg dksX2_value_0 22 rfl rfl
theorem dX2_value_0 : decode cX2_value 0 = .ok (.aload_n 0, 1) := dk_42 (dk_at dksX2_value_0 0 rfl rfl)
theorem dX2_value_1 : decode cX2_value 1 = .ok (.iload_n 1, 1) := dk_27 (dk_at dksX2_value_0 1 rfl rfl)
theorem dX2_value_2 : decode cX2_value 2 = .ok (.iload_n 2, 1) := dk_28 (dk_at dksX2_value_0 2 rfl rfl)
theorem dX2_value_3 : decode cX2_value 3 = .ok (.iload_n 3, 1) := dk_29 (dk_at dksX2_value_0 3 rfl rfl)
theorem dX2_value_4 : decode cX2_value 4 = .ok (.iload 4, 2) := dk_21 4 (dk_at dksX2_value_0 4 rfl rfl)
theorem dX2_value_6 : decode cX2_value 6 = .ok (.invokevirtual 112, 3) := dk_182 0 112 (dk_at dksX2_value_0 6 rfl rfl)
theorem dX2_value_9 : decode cX2_value 9 = .ok (.ifCond .eq 16, 3) := dk_153 0 16 (dk_at dksX2_value_0 9 rfl rfl)
theorem dX2_value_12 : decode cX2_value 12 = .ok (.aload_n 0, 1) := dk_42 (dk_at dksX2_value_0 12 rfl rfl)
theorem dX2_value_13 : decode cX2_value 13 = .ok (.getfield 46, 3) := dk_180 0 46 (dk_at dksX2_value_0 13 rfl rfl)
theorem dX2_value_16 : decode cX2_value 16 = .ok (.iconst 3, 1) := dk_6 (dk_at dksX2_value_0 16 rfl rfl)
theorem dX2_value_17 : decode cX2_value 17 = .ok (.iload_n 3, 1) := dk_29 (dk_at dksX2_value_0 17 rfl rfl)
theorem dX2_value_18 : decode cX2_value 18 = .ok (.imul, 1) := dk_104 (dk_at dksX2_value_0 18 rfl rfl)
theorem dX2_value_19 : decode cX2_value 19 = .ok (.iload_n 2, 1) := dk_28 (dk_at dksX2_value_0 19 rfl rfl)
theorem dX2_value_20 : decode cX2_value 20 = .ok (.iadd, 1) := dk_96 (dk_at dksX2_value_0 20 rfl rfl)
theorem dX2_value_21 : decode cX2_value 21 = .ok (.iaload, 1) := dk_46 (dk_at dksX2_value_0 21 rfl rfl)
theorem dX2_value_22 : decode cX2_value 22 = .ok (.goto 4, 3) := dk_167 0 4 (dk_at dksX2_value_1 0 rfl rfl)
theorem dX2_value_25 : decode cX2_value 25 = .ok (.iconst 0, 1) := dk_3 (dk_at dksX2_value_1 3 rfl rfl)
theorem dX2_value_26 : decode cX2_value 26 = .ok (.ireturn, 1) := dk_172 (dk_at dksX2_value_1 4 rfl rfl)
abbrev cX2_looks : ByteArray := prog_8_method_24_code
def yX2_looks : MethodName := ⟨RX2, "looks", "(IIII)Z"⟩
def dkwX2_looks_3 : List UInt8 := [167, 0, 4, 3, 172]
abbrev dktX2_looks_3 : List UInt8 := dkwX2_looks_3 ++ []
def dkwX2_looks_2 : List UInt8 := [42, 180, 0, 59, 154, 0, 10, 42, 27, 21, 4, 182, 0, 108, 42, 180, 0, 59, 154, 0, 7, 4]
abbrev dktX2_looks_2 : List UInt8 := dkwX2_looks_2 ++ dktX2_looks_3
def dkwX2_looks_1 : List UInt8 := [153, 0, 20, 21, 4, 3, 42, 180, 0, 80, 184, 0, 63, 153, 0, 7, 3, 167, 0, 4, 5, 181, 0, 59]
abbrev dktX2_looks_1 : List UInt8 := dkwX2_looks_1 ++ dktX2_looks_2
def dkwX2_looks_0 : List UInt8 := [42, 42, 27, 182, 0, 83, 153, 0, 10, 28, 184, 0, 70, 154, 0, 7, 4, 167, 0, 28, 29, 184, 0, 74]
abbrev dktX2_looks_0 : List UInt8 := dkwX2_looks_0 ++ dktX2_looks_1
theorem dksX2_looks_0 : cX2_looks.data.toList.drop 0 = dktX2_looks_0 := by decide +kernel
theorem dksX2_looks_1 : cX2_looks.data.toList.drop 24 = dktX2_looks_1 := dk_seg dksX2_looks_0 24 rfl rfl
theorem dksX2_looks_2 : cX2_looks.data.toList.drop 48 = dktX2_looks_2 := dk_seg dksX2_looks_1 24 rfl rfl
theorem dksX2_looks_3 : cX2_looks.data.toList.drop 70 = dktX2_looks_3 := dk_seg dksX2_looks_2 22 rfl rfl
theorem dX2_looks_0 : decode cX2_looks 0 = .ok (.aload_n 0, 1) := dk_42 (dk_at dksX2_looks_0 0 rfl rfl)
theorem dX2_looks_1 : decode cX2_looks 1 = .ok (.aload_n 0, 1) := dk_42 (dk_at dksX2_looks_0 1 rfl rfl)
theorem dX2_looks_2 : decode cX2_looks 2 = .ok (.iload_n 1, 1) := dk_27 (dk_at dksX2_looks_0 2 rfl rfl)
theorem dX2_looks_3 : decode cX2_looks 3 = .ok (.invokevirtual 83, 3) := dk_182 0 83 (dk_at dksX2_looks_0 3 rfl rfl)
theorem dX2_looks_6 : decode cX2_looks 6 = .ok (.ifCond .eq 10, 3) := dk_153 0 10 (dk_at dksX2_looks_0 6 rfl rfl)
theorem dX2_looks_9 : decode cX2_looks 9 = .ok (.iload_n 2, 1) := dk_28 (dk_at dksX2_looks_0 9 rfl rfl)
theorem dX2_looks_10 : decode cX2_looks 10 = .ok (.invokestatic 70, 3) := dk_184 0 70 (dk_at dksX2_looks_0 10 rfl rfl)
theorem dX2_looks_13 : decode cX2_looks 13 = .ok (.ifCond .ne 7, 3) := dk_154 0 7 (dk_at dksX2_looks_0 13 rfl rfl)
theorem dX2_looks_16 : decode cX2_looks 16 = .ok (.iconst 1, 1) := dk_4 (dk_at dksX2_looks_0 16 rfl rfl)
theorem dX2_looks_17 : decode cX2_looks 17 = .ok (.goto 28, 3) := dk_167 0 28 (dk_at dksX2_looks_0 17 rfl rfl)
theorem dX2_looks_20 : decode cX2_looks 20 = .ok (.iload_n 3, 1) := dk_29 (dk_at dksX2_looks_0 20 rfl rfl)
theorem dX2_looks_21 : decode cX2_looks 21 = .ok (.invokestatic 74, 3) := dk_184 0 74 (dk_at dksX2_looks_0 21 rfl rfl)
theorem dX2_looks_24 : decode cX2_looks 24 = .ok (.ifCond .eq 20, 3) := dk_153 0 20 (dk_at dksX2_looks_1 0 rfl rfl)
theorem dX2_looks_27 : decode cX2_looks 27 = .ok (.iload 4, 2) := dk_21 4 (dk_at dksX2_looks_1 3 rfl rfl)
theorem dX2_looks_29 : decode cX2_looks 29 = .ok (.iconst 0, 1) := dk_3 (dk_at dksX2_looks_1 5 rfl rfl)
theorem dX2_looks_30 : decode cX2_looks 30 = .ok (.aload_n 0, 1) := dk_42 (dk_at dksX2_looks_1 6 rfl rfl)
theorem dX2_looks_31 : decode cX2_looks 31 = .ok (.getfield 80, 3) := dk_180 0 80 (dk_at dksX2_looks_1 7 rfl rfl)
theorem dX2_looks_34 : decode cX2_looks 34 = .ok (.invokestatic 63, 3) := dk_184 0 63 (dk_at dksX2_looks_1 10 rfl rfl)
theorem dX2_looks_37 : decode cX2_looks 37 = .ok (.ifCond .eq 7, 3) := dk_153 0 7 (dk_at dksX2_looks_1 13 rfl rfl)
theorem dX2_looks_40 : decode cX2_looks 40 = .ok (.iconst 0, 1) := dk_3 (dk_at dksX2_looks_1 16 rfl rfl)
theorem dX2_looks_41 : decode cX2_looks 41 = .ok (.goto 4, 3) := dk_167 0 4 (dk_at dksX2_looks_1 17 rfl rfl)
theorem dX2_looks_44 : decode cX2_looks 44 = .ok (.iconst 2, 1) := dk_5 (dk_at dksX2_looks_1 20 rfl rfl)
theorem dX2_looks_45 : decode cX2_looks 45 = .ok (.putfield 59, 3) := dk_181 0 59 (dk_at dksX2_looks_1 21 rfl rfl)
theorem dX2_looks_48 : decode cX2_looks 48 = .ok (.aload_n 0, 1) := dk_42 (dk_at dksX2_looks_2 0 rfl rfl)
theorem dX2_looks_49 : decode cX2_looks 49 = .ok (.getfield 59, 3) := dk_180 0 59 (dk_at dksX2_looks_2 1 rfl rfl)
theorem dX2_looks_52 : decode cX2_looks 52 = .ok (.ifCond .ne 10, 3) := dk_154 0 10 (dk_at dksX2_looks_2 4 rfl rfl)
theorem dX2_looks_55 : decode cX2_looks 55 = .ok (.aload_n 0, 1) := dk_42 (dk_at dksX2_looks_2 7 rfl rfl)
theorem dX2_looks_56 : decode cX2_looks 56 = .ok (.iload_n 1, 1) := dk_27 (dk_at dksX2_looks_2 8 rfl rfl)
theorem dX2_looks_57 : decode cX2_looks 57 = .ok (.iload 4, 2) := dk_21 4 (dk_at dksX2_looks_2 9 rfl rfl)
theorem dX2_looks_59 : decode cX2_looks 59 = .ok (.invokevirtual 108, 3) := dk_182 0 108 (dk_at dksX2_looks_2 11 rfl rfl)
theorem dX2_looks_62 : decode cX2_looks 62 = .ok (.aload_n 0, 1) := dk_42 (dk_at dksX2_looks_2 14 rfl rfl)
theorem dX2_looks_63 : decode cX2_looks 63 = .ok (.getfield 59, 3) := dk_180 0 59 (dk_at dksX2_looks_2 15 rfl rfl)
theorem dX2_looks_66 : decode cX2_looks 66 = .ok (.ifCond .ne 7, 3) := dk_154 0 7 (dk_at dksX2_looks_2 18 rfl rfl)
theorem dX2_looks_69 : decode cX2_looks 69 = .ok (.iconst 1, 1) := dk_4 (dk_at dksX2_looks_2 21 rfl rfl)
theorem dX2_looks_70 : decode cX2_looks 70 = .ok (.goto 4, 3) := dk_167 0 4 (dk_at dksX2_looks_3 0 rfl rfl)
theorem dX2_looks_73 : decode cX2_looks 73 = .ok (.iconst 0, 1) := dk_3 (dk_at dksX2_looks_3 3 rfl rfl)
theorem dX2_looks_74 : decode cX2_looks 74 = .ok (.ireturn, 1) := dk_172 (dk_at dksX2_looks_3 4 rfl rfl)
abbrev cX2_goes : ByteArray := prog_8_method_23_code
def yX2_goes : MethodName := ⟨RX2, "goes", "(II)V"⟩
def dkwX2_goes_14 : List UInt8 := [79, 132, 4, 1, 167, 254, 190, 177]
abbrev dktX2_goes_14 : List UInt8 := dkwX2_goes_14 ++ []
def dkwX2_goes_13 : List UInt8 := [79, 42, 180, 0, 56, 21, 4, 4, 96, 42, 180, 0, 56, 21, 4, 46, 42, 180, 0, 53, 21, 4, 46, 96]
abbrev dktX2_goes_13 : List UInt8 := dkwX2_goes_13 ++ dktX2_goes_14
def dkwX2_goes_12 : List UInt8 := [54, 5, 132, 6, 1, 167, 255, 221, 42, 180, 0, 53, 21, 4, 29, 153, 0, 8, 21, 5, 167, 0, 4, 3]
abbrev dktX2_goes_12 : List UInt8 := dkwX2_goes_12 ++ dktX2_goes_13
def dkwX2_goes_11 : List UInt8 := [21, 5, 42, 180, 0, 46, 6, 21, 4, 104, 21, 6, 96, 46, 42, 21, 6, 21, 4, 182, 0, 104, 104, 96]
abbrev dktX2_goes_11 : List UInt8 := dkwX2_goes_11 ++ dktX2_goes_12
def dkwX2_goes_10 : List UInt8 := [180, 0, 49, 21, 4, 29, 84, 42, 180, 0, 7, 27, 46, 54, 5, 3, 54, 6, 21, 6, 6, 162, 0, 35]
abbrev dktX2_goes_10 : List UInt8 := dkwX2_goes_10 ++ dktX2_goes_11
def dkwX2_goes_9 : List UInt8 := [46, 5, 159, 0, 11, 29, 153, 0, 7, 4, 167, 0, 4, 3, 62, 132, 5, 1, 167, 255, 99, 42]
abbrev dktX2_goes_9 : List UInt8 := dkwX2_goes_9 ++ dktX2_goes_10
def dkwX2_goes_8 : List UInt8 := [180, 0, 46, 21, 6, 46, 79, 42, 180, 0, 28, 21, 5, 46, 6, 159, 0, 18, 42, 180, 0, 28, 21, 5]
abbrev dktX2_goes_8 : List UInt8 := dkwX2_goes_8 ++ dktX2_goes_9
def dkwX2_goes_7 : List UInt8 := [42, 180, 0, 46, 21, 6, 46, 42, 180, 0, 37, 21, 5, 46, 96, 184, 0, 100, 167, 0, 10, 42]
abbrev dktX2_goes_7 : List UInt8 := dkwX2_goes_7 ++ dktX2_goes_8
def dkwX2_goes_6 : List UInt8 := [154, 0, 13, 42, 180, 0, 37, 21, 5, 46, 167, 0, 42, 42, 180, 0, 28, 21, 5, 46, 4, 160, 0, 24]
abbrev dktX2_goes_6 : List UInt8 := dkwX2_goes_6 ++ dktX2_goes_7
def dkwX2_goes_5 : List UInt8 := [104, 42, 180, 0, 31, 21, 5, 46, 96, 54, 6, 42, 180, 0, 46, 21, 6, 42, 180, 0, 28, 21, 5, 46]
abbrev dktX2_goes_5 : List UInt8 := dkwX2_goes_5 ++ dktX2_goes_6
def dkwX2_goes_4 : List UInt8 := [180, 0, 34, 21, 5, 46, 21, 4, 160, 0, 125, 42, 21, 5, 28, 182, 0, 96, 153, 0, 115, 6, 21, 4]
abbrev dktX2_goes_4 : List UInt8 := dkwX2_goes_4 ++ dktX2_goes_5
def dkwX2_goes_3 : List UInt8 := [3, 54, 5, 21, 5, 42, 180, 0, 86, 162, 0, 154, 42, 180, 0, 25, 21, 5, 46, 27, 160, 0, 137, 42]
abbrev dktX2_goes_3 : List UInt8 := dkwX2_goes_3 ++ dktX2_goes_4
def dkwX2_goes_2 : List UInt8 := [167, 0, 17, 42, 180, 0, 46, 6, 21, 4, 104, 6, 100, 21, 5, 96, 46, 79, 132, 5, 1, 167, 255, 212]
abbrev dktX2_goes_2 : List UInt8 := dkwX2_goes_2 ++ dktX2_goes_3
def dkwX2_goes_1 : List UInt8 := [21, 5, 6, 162, 0, 44, 42, 180, 0, 46, 6, 21, 4, 104, 21, 5, 96, 21, 4, 154, 0, 7, 3]
abbrev dktX2_goes_1 : List UInt8 := dkwX2_goes_1 ++ dktX2_goes_2
def dkwX2_goes_0 : List UInt8 := [4, 62, 42, 180, 0, 56, 3, 3, 79, 3, 54, 4, 21, 4, 17, 1, 109, 162, 1, 64, 3, 54, 5]
abbrev dktX2_goes_0 : List UInt8 := dkwX2_goes_0 ++ dktX2_goes_1
theorem dksX2_goes_0 : cX2_goes.data.toList.drop 0 = dktX2_goes_0 := by decide +kernel
theorem dksX2_goes_1 : cX2_goes.data.toList.drop 23 = dktX2_goes_1 := dk_seg dksX2_goes_0 23 rfl rfl
theorem dksX2_goes_2 : cX2_goes.data.toList.drop 46 = dktX2_goes_2 := dk_seg dksX2_goes_1 23 rfl rfl
theorem dksX2_goes_3 : cX2_goes.data.toList.drop 70 = dktX2_goes_3 := dk_seg dksX2_goes_2 24 rfl rfl
theorem dksX2_goes_4 : cX2_goes.data.toList.drop 94 = dktX2_goes_4 := dk_seg dksX2_goes_3 24 rfl rfl
theorem dksX2_goes_5 : cX2_goes.data.toList.drop 118 = dktX2_goes_5 := dk_seg dksX2_goes_4 24 rfl rfl
theorem dksX2_goes_6 : cX2_goes.data.toList.drop 142 = dktX2_goes_6 := dk_seg dksX2_goes_5 24 rfl rfl
theorem dksX2_goes_7 : cX2_goes.data.toList.drop 166 = dktX2_goes_7 := dk_seg dksX2_goes_6 24 rfl rfl
theorem dksX2_goes_8 : cX2_goes.data.toList.drop 188 = dktX2_goes_8 := dk_seg dksX2_goes_7 22 rfl rfl
theorem dksX2_goes_9 : cX2_goes.data.toList.drop 212 = dktX2_goes_9 := dk_seg dksX2_goes_8 24 rfl rfl
theorem dksX2_goes_10 : cX2_goes.data.toList.drop 234 = dktX2_goes_10 := dk_seg dksX2_goes_9 22 rfl rfl
theorem dksX2_goes_11 : cX2_goes.data.toList.drop 258 = dktX2_goes_11 := dk_seg dksX2_goes_10 24 rfl rfl
theorem dksX2_goes_12 : cX2_goes.data.toList.drop 282 = dktX2_goes_12 := dk_seg dksX2_goes_11 24 rfl rfl
theorem dksX2_goes_13 : cX2_goes.data.toList.drop 306 = dktX2_goes_13 := dk_seg dksX2_goes_12 24 rfl rfl
theorem dksX2_goes_14 : cX2_goes.data.toList.drop 330 = dktX2_goes_14 := dk_seg dksX2_goes_13 24 rfl rfl
theorem dX2_goes_0 : decode cX2_goes 0 = .ok (.iconst 1, 1) := dk_4 (dk_at dksX2_goes_0 0 rfl rfl)
theorem dX2_goes_1 : decode cX2_goes 1 = .ok (.istore_n 3, 1) := dk_62 (dk_at dksX2_goes_0 1 rfl rfl)
theorem dX2_goes_2 : decode cX2_goes 2 = .ok (.aload_n 0, 1) := dk_42 (dk_at dksX2_goes_0 2 rfl rfl)
theorem dX2_goes_3 : decode cX2_goes 3 = .ok (.getfield 56, 3) := dk_180 0 56 (dk_at dksX2_goes_0 3 rfl rfl)
theorem dX2_goes_6 : decode cX2_goes 6 = .ok (.iconst 0, 1) := dk_3 (dk_at dksX2_goes_0 6 rfl rfl)
theorem dX2_goes_7 : decode cX2_goes 7 = .ok (.iconst 0, 1) := dk_3 (dk_at dksX2_goes_0 7 rfl rfl)
theorem dX2_goes_8 : decode cX2_goes 8 = .ok (.iastore, 1) := dk_79 (dk_at dksX2_goes_0 8 rfl rfl)
theorem dX2_goes_9 : decode cX2_goes 9 = .ok (.iconst 0, 1) := dk_3 (dk_at dksX2_goes_0 9 rfl rfl)
theorem dX2_goes_10 : decode cX2_goes 10 = .ok (.istore 4, 2) := dk_54 4 (dk_at dksX2_goes_0 10 rfl rfl)
theorem dX2_goes_12 : decode cX2_goes 12 = .ok (.iload 4, 2) := dk_21 4 (dk_at dksX2_goes_0 12 rfl rfl)
theorem dX2_goes_14 : decode cX2_goes 14 = .ok (.sipush 365, 3) := dk_17 1 109 (dk_at dksX2_goes_0 14 rfl rfl)
theorem dX2_goes_17 : decode cX2_goes 17 = .ok (.if_icmp .ge 320, 3) := dk_162 1 64 (dk_at dksX2_goes_0 17 rfl rfl)
theorem dX2_goes_20 : decode cX2_goes 20 = .ok (.iconst 0, 1) := dk_3 (dk_at dksX2_goes_0 20 rfl rfl)
theorem dX2_goes_21 : decode cX2_goes 21 = .ok (.istore 5, 2) := dk_54 5 (dk_at dksX2_goes_0 21 rfl rfl)
theorem dX2_goes_23 : decode cX2_goes 23 = .ok (.iload 5, 2) := dk_21 5 (dk_at dksX2_goes_1 0 rfl rfl)
theorem dX2_goes_25 : decode cX2_goes 25 = .ok (.iconst 3, 1) := dk_6 (dk_at dksX2_goes_1 2 rfl rfl)
theorem dX2_goes_26 : decode cX2_goes 26 = .ok (.if_icmp .ge 44, 3) := dk_162 0 44 (dk_at dksX2_goes_1 3 rfl rfl)
theorem dX2_goes_29 : decode cX2_goes 29 = .ok (.aload_n 0, 1) := dk_42 (dk_at dksX2_goes_1 6 rfl rfl)
theorem dX2_goes_30 : decode cX2_goes 30 = .ok (.getfield 46, 3) := dk_180 0 46 (dk_at dksX2_goes_1 7 rfl rfl)
theorem dX2_goes_33 : decode cX2_goes 33 = .ok (.iconst 3, 1) := dk_6 (dk_at dksX2_goes_1 10 rfl rfl)
theorem dX2_goes_34 : decode cX2_goes 34 = .ok (.iload 4, 2) := dk_21 4 (dk_at dksX2_goes_1 11 rfl rfl)
theorem dX2_goes_36 : decode cX2_goes 36 = .ok (.imul, 1) := dk_104 (dk_at dksX2_goes_1 13 rfl rfl)
theorem dX2_goes_37 : decode cX2_goes 37 = .ok (.iload 5, 2) := dk_21 5 (dk_at dksX2_goes_1 14 rfl rfl)
theorem dX2_goes_39 : decode cX2_goes 39 = .ok (.iadd, 1) := dk_96 (dk_at dksX2_goes_1 16 rfl rfl)
theorem dX2_goes_40 : decode cX2_goes 40 = .ok (.iload 4, 2) := dk_21 4 (dk_at dksX2_goes_1 17 rfl rfl)
theorem dX2_goes_42 : decode cX2_goes 42 = .ok (.ifCond .ne 7, 3) := dk_154 0 7 (dk_at dksX2_goes_1 19 rfl rfl)
theorem dX2_goes_45 : decode cX2_goes 45 = .ok (.iconst 0, 1) := dk_3 (dk_at dksX2_goes_1 22 rfl rfl)
theorem dX2_goes_46 : decode cX2_goes 46 = .ok (.goto 17, 3) := dk_167 0 17 (dk_at dksX2_goes_2 0 rfl rfl)
theorem dX2_goes_49 : decode cX2_goes 49 = .ok (.aload_n 0, 1) := dk_42 (dk_at dksX2_goes_2 3 rfl rfl)
theorem dX2_goes_50 : decode cX2_goes 50 = .ok (.getfield 46, 3) := dk_180 0 46 (dk_at dksX2_goes_2 4 rfl rfl)
theorem dX2_goes_53 : decode cX2_goes 53 = .ok (.iconst 3, 1) := dk_6 (dk_at dksX2_goes_2 7 rfl rfl)
theorem dX2_goes_54 : decode cX2_goes 54 = .ok (.iload 4, 2) := dk_21 4 (dk_at dksX2_goes_2 8 rfl rfl)
theorem dX2_goes_56 : decode cX2_goes 56 = .ok (.imul, 1) := dk_104 (dk_at dksX2_goes_2 10 rfl rfl)
theorem dX2_goes_57 : decode cX2_goes 57 = .ok (.iconst 3, 1) := dk_6 (dk_at dksX2_goes_2 11 rfl rfl)
theorem dX2_goes_58 : decode cX2_goes 58 = .ok (.isub, 1) := dk_100 (dk_at dksX2_goes_2 12 rfl rfl)
theorem dX2_goes_59 : decode cX2_goes 59 = .ok (.iload 5, 2) := dk_21 5 (dk_at dksX2_goes_2 13 rfl rfl)
theorem dX2_goes_61 : decode cX2_goes 61 = .ok (.iadd, 1) := dk_96 (dk_at dksX2_goes_2 15 rfl rfl)
theorem dX2_goes_62 : decode cX2_goes 62 = .ok (.iaload, 1) := dk_46 (dk_at dksX2_goes_2 16 rfl rfl)
theorem dX2_goes_63 : decode cX2_goes 63 = .ok (.iastore, 1) := dk_79 (dk_at dksX2_goes_2 17 rfl rfl)
theorem dX2_goes_64 : decode cX2_goes 64 = .ok (.iinc 5 1, 3) := dk_132 5 1 (dk_at dksX2_goes_2 18 rfl rfl)
theorem dX2_goes_67 : decode cX2_goes 67 = .ok (.goto (-44), 3) := dk_167 255 212 (dk_at dksX2_goes_2 21 rfl rfl)
theorem dX2_goes_70 : decode cX2_goes 70 = .ok (.iconst 0, 1) := dk_3 (dk_at dksX2_goes_3 0 rfl rfl)
theorem dX2_goes_71 : decode cX2_goes 71 = .ok (.istore 5, 2) := dk_54 5 (dk_at dksX2_goes_3 1 rfl rfl)
theorem dX2_goes_73 : decode cX2_goes 73 = .ok (.iload 5, 2) := dk_21 5 (dk_at dksX2_goes_3 3 rfl rfl)
theorem dX2_goes_75 : decode cX2_goes 75 = .ok (.aload_n 0, 1) := dk_42 (dk_at dksX2_goes_3 5 rfl rfl)
theorem dX2_goes_76 : decode cX2_goes 76 = .ok (.getfield 86, 3) := dk_180 0 86 (dk_at dksX2_goes_3 6 rfl rfl)
theorem dX2_goes_79 : decode cX2_goes 79 = .ok (.if_icmp .ge 154, 3) := dk_162 0 154 (dk_at dksX2_goes_3 9 rfl rfl)
theorem dX2_goes_82 : decode cX2_goes 82 = .ok (.aload_n 0, 1) := dk_42 (dk_at dksX2_goes_3 12 rfl rfl)
theorem dX2_goes_83 : decode cX2_goes 83 = .ok (.getfield 25, 3) := dk_180 0 25 (dk_at dksX2_goes_3 13 rfl rfl)
theorem dX2_goes_86 : decode cX2_goes 86 = .ok (.iload 5, 2) := dk_21 5 (dk_at dksX2_goes_3 16 rfl rfl)
theorem dX2_goes_88 : decode cX2_goes 88 = .ok (.iaload, 1) := dk_46 (dk_at dksX2_goes_3 18 rfl rfl)
theorem dX2_goes_89 : decode cX2_goes 89 = .ok (.iload_n 1, 1) := dk_27 (dk_at dksX2_goes_3 19 rfl rfl)
theorem dX2_goes_90 : decode cX2_goes 90 = .ok (.if_icmp .ne 137, 3) := dk_160 0 137 (dk_at dksX2_goes_3 20 rfl rfl)
theorem dX2_goes_93 : decode cX2_goes 93 = .ok (.aload_n 0, 1) := dk_42 (dk_at dksX2_goes_3 23 rfl rfl)
theorem dX2_goes_94 : decode cX2_goes 94 = .ok (.getfield 34, 3) := dk_180 0 34 (dk_at dksX2_goes_4 0 rfl rfl)
theorem dX2_goes_97 : decode cX2_goes 97 = .ok (.iload 5, 2) := dk_21 5 (dk_at dksX2_goes_4 3 rfl rfl)
theorem dX2_goes_99 : decode cX2_goes 99 = .ok (.iaload, 1) := dk_46 (dk_at dksX2_goes_4 5 rfl rfl)
theorem dX2_goes_100 : decode cX2_goes 100 = .ok (.iload 4, 2) := dk_21 4 (dk_at dksX2_goes_4 6 rfl rfl)
theorem dX2_goes_102 : decode cX2_goes 102 = .ok (.if_icmp .ne 125, 3) := dk_160 0 125 (dk_at dksX2_goes_4 8 rfl rfl)
theorem dX2_goes_105 : decode cX2_goes 105 = .ok (.aload_n 0, 1) := dk_42 (dk_at dksX2_goes_4 11 rfl rfl)
theorem dX2_goes_106 : decode cX2_goes 106 = .ok (.iload 5, 2) := dk_21 5 (dk_at dksX2_goes_4 12 rfl rfl)
theorem dX2_goes_108 : decode cX2_goes 108 = .ok (.iload_n 2, 1) := dk_28 (dk_at dksX2_goes_4 14 rfl rfl)
theorem dX2_goes_109 : decode cX2_goes 109 = .ok (.invokevirtual 96, 3) := dk_182 0 96 (dk_at dksX2_goes_4 15 rfl rfl)
theorem dX2_goes_112 : decode cX2_goes 112 = .ok (.ifCond .eq 115, 3) := dk_153 0 115 (dk_at dksX2_goes_4 18 rfl rfl)
theorem dX2_goes_115 : decode cX2_goes 115 = .ok (.iconst 3, 1) := dk_6 (dk_at dksX2_goes_4 21 rfl rfl)
theorem dX2_goes_116 : decode cX2_goes 116 = .ok (.iload 4, 2) := dk_21 4 (dk_at dksX2_goes_4 22 rfl rfl)
theorem dX2_goes_118 : decode cX2_goes 118 = .ok (.imul, 1) := dk_104 (dk_at dksX2_goes_5 0 rfl rfl)
theorem dX2_goes_119 : decode cX2_goes 119 = .ok (.aload_n 0, 1) := dk_42 (dk_at dksX2_goes_5 1 rfl rfl)
theorem dX2_goes_120 : decode cX2_goes 120 = .ok (.getfield 31, 3) := dk_180 0 31 (dk_at dksX2_goes_5 2 rfl rfl)
theorem dX2_goes_123 : decode cX2_goes 123 = .ok (.iload 5, 2) := dk_21 5 (dk_at dksX2_goes_5 5 rfl rfl)
theorem dX2_goes_125 : decode cX2_goes 125 = .ok (.iaload, 1) := dk_46 (dk_at dksX2_goes_5 7 rfl rfl)
theorem dX2_goes_126 : decode cX2_goes 126 = .ok (.iadd, 1) := dk_96 (dk_at dksX2_goes_5 8 rfl rfl)
theorem dX2_goes_127 : decode cX2_goes 127 = .ok (.istore 6, 2) := dk_54 6 (dk_at dksX2_goes_5 9 rfl rfl)
theorem dX2_goes_129 : decode cX2_goes 129 = .ok (.aload_n 0, 1) := dk_42 (dk_at dksX2_goes_5 11 rfl rfl)
theorem dX2_goes_130 : decode cX2_goes 130 = .ok (.getfield 46, 3) := dk_180 0 46 (dk_at dksX2_goes_5 12 rfl rfl)
theorem dX2_goes_133 : decode cX2_goes 133 = .ok (.iload 6, 2) := dk_21 6 (dk_at dksX2_goes_5 15 rfl rfl)
theorem dX2_goes_135 : decode cX2_goes 135 = .ok (.aload_n 0, 1) := dk_42 (dk_at dksX2_goes_5 17 rfl rfl)
theorem dX2_goes_136 : decode cX2_goes 136 = .ok (.getfield 28, 3) := dk_180 0 28 (dk_at dksX2_goes_5 18 rfl rfl)
theorem dX2_goes_139 : decode cX2_goes 139 = .ok (.iload 5, 2) := dk_21 5 (dk_at dksX2_goes_5 21 rfl rfl)
theorem dX2_goes_141 : decode cX2_goes 141 = .ok (.iaload, 1) := dk_46 (dk_at dksX2_goes_5 23 rfl rfl)
theorem dX2_goes_142 : decode cX2_goes 142 = .ok (.ifCond .ne 13, 3) := dk_154 0 13 (dk_at dksX2_goes_6 0 rfl rfl)
theorem dX2_goes_145 : decode cX2_goes 145 = .ok (.aload_n 0, 1) := dk_42 (dk_at dksX2_goes_6 3 rfl rfl)
theorem dX2_goes_146 : decode cX2_goes 146 = .ok (.getfield 37, 3) := dk_180 0 37 (dk_at dksX2_goes_6 4 rfl rfl)
theorem dX2_goes_149 : decode cX2_goes 149 = .ok (.iload 5, 2) := dk_21 5 (dk_at dksX2_goes_6 7 rfl rfl)
theorem dX2_goes_151 : decode cX2_goes 151 = .ok (.iaload, 1) := dk_46 (dk_at dksX2_goes_6 9 rfl rfl)
theorem dX2_goes_152 : decode cX2_goes 152 = .ok (.goto 42, 3) := dk_167 0 42 (dk_at dksX2_goes_6 10 rfl rfl)
theorem dX2_goes_155 : decode cX2_goes 155 = .ok (.aload_n 0, 1) := dk_42 (dk_at dksX2_goes_6 13 rfl rfl)
theorem dX2_goes_156 : decode cX2_goes 156 = .ok (.getfield 28, 3) := dk_180 0 28 (dk_at dksX2_goes_6 14 rfl rfl)
theorem dX2_goes_159 : decode cX2_goes 159 = .ok (.iload 5, 2) := dk_21 5 (dk_at dksX2_goes_6 17 rfl rfl)
theorem dX2_goes_161 : decode cX2_goes 161 = .ok (.iaload, 1) := dk_46 (dk_at dksX2_goes_6 19 rfl rfl)
theorem dX2_goes_162 : decode cX2_goes 162 = .ok (.iconst 1, 1) := dk_4 (dk_at dksX2_goes_6 20 rfl rfl)
theorem dX2_goes_163 : decode cX2_goes 163 = .ok (.if_icmp .ne 24, 3) := dk_160 0 24 (dk_at dksX2_goes_6 21 rfl rfl)
theorem dX2_goes_166 : decode cX2_goes 166 = .ok (.aload_n 0, 1) := dk_42 (dk_at dksX2_goes_7 0 rfl rfl)
theorem dX2_goes_167 : decode cX2_goes 167 = .ok (.getfield 46, 3) := dk_180 0 46 (dk_at dksX2_goes_7 1 rfl rfl)
theorem dX2_goes_170 : decode cX2_goes 170 = .ok (.iload 6, 2) := dk_21 6 (dk_at dksX2_goes_7 4 rfl rfl)
theorem dX2_goes_172 : decode cX2_goes 172 = .ok (.iaload, 1) := dk_46 (dk_at dksX2_goes_7 6 rfl rfl)
theorem dX2_goes_173 : decode cX2_goes 173 = .ok (.aload_n 0, 1) := dk_42 (dk_at dksX2_goes_7 7 rfl rfl)
theorem dX2_goes_174 : decode cX2_goes 174 = .ok (.getfield 37, 3) := dk_180 0 37 (dk_at dksX2_goes_7 8 rfl rfl)
theorem dX2_goes_177 : decode cX2_goes 177 = .ok (.iload 5, 2) := dk_21 5 (dk_at dksX2_goes_7 11 rfl rfl)
theorem dX2_goes_179 : decode cX2_goes 179 = .ok (.iaload, 1) := dk_46 (dk_at dksX2_goes_7 13 rfl rfl)
theorem dX2_goes_180 : decode cX2_goes 180 = .ok (.iadd, 1) := dk_96 (dk_at dksX2_goes_7 14 rfl rfl)
theorem dX2_goes_181 : decode cX2_goes 181 = .ok (.invokestatic 100, 3) := dk_184 0 100 (dk_at dksX2_goes_7 15 rfl rfl)
theorem dX2_goes_184 : decode cX2_goes 184 = .ok (.goto 10, 3) := dk_167 0 10 (dk_at dksX2_goes_7 18 rfl rfl)
theorem dX2_goes_187 : decode cX2_goes 187 = .ok (.aload_n 0, 1) := dk_42 (dk_at dksX2_goes_7 21 rfl rfl)
theorem dX2_goes_188 : decode cX2_goes 188 = .ok (.getfield 46, 3) := dk_180 0 46 (dk_at dksX2_goes_8 0 rfl rfl)
theorem dX2_goes_191 : decode cX2_goes 191 = .ok (.iload 6, 2) := dk_21 6 (dk_at dksX2_goes_8 3 rfl rfl)
theorem dX2_goes_193 : decode cX2_goes 193 = .ok (.iaload, 1) := dk_46 (dk_at dksX2_goes_8 5 rfl rfl)
theorem dX2_goes_194 : decode cX2_goes 194 = .ok (.iastore, 1) := dk_79 (dk_at dksX2_goes_8 6 rfl rfl)
theorem dX2_goes_195 : decode cX2_goes 195 = .ok (.aload_n 0, 1) := dk_42 (dk_at dksX2_goes_8 7 rfl rfl)
theorem dX2_goes_196 : decode cX2_goes 196 = .ok (.getfield 28, 3) := dk_180 0 28 (dk_at dksX2_goes_8 8 rfl rfl)
theorem dX2_goes_199 : decode cX2_goes 199 = .ok (.iload 5, 2) := dk_21 5 (dk_at dksX2_goes_8 11 rfl rfl)
theorem dX2_goes_201 : decode cX2_goes 201 = .ok (.iaload, 1) := dk_46 (dk_at dksX2_goes_8 13 rfl rfl)
theorem dX2_goes_202 : decode cX2_goes 202 = .ok (.iconst 3, 1) := dk_6 (dk_at dksX2_goes_8 14 rfl rfl)
theorem dX2_goes_203 : decode cX2_goes 203 = .ok (.if_icmp .eq 18, 3) := dk_159 0 18 (dk_at dksX2_goes_8 15 rfl rfl)
theorem dX2_goes_206 : decode cX2_goes 206 = .ok (.aload_n 0, 1) := dk_42 (dk_at dksX2_goes_8 18 rfl rfl)
theorem dX2_goes_207 : decode cX2_goes 207 = .ok (.getfield 28, 3) := dk_180 0 28 (dk_at dksX2_goes_8 19 rfl rfl)
theorem dX2_goes_210 : decode cX2_goes 210 = .ok (.iload 5, 2) := dk_21 5 (dk_at dksX2_goes_8 22 rfl rfl)
theorem dX2_goes_212 : decode cX2_goes 212 = .ok (.iaload, 1) := dk_46 (dk_at dksX2_goes_9 0 rfl rfl)
theorem dX2_goes_213 : decode cX2_goes 213 = .ok (.iconst 2, 1) := dk_5 (dk_at dksX2_goes_9 1 rfl rfl)
theorem dX2_goes_214 : decode cX2_goes 214 = .ok (.if_icmp .eq 11, 3) := dk_159 0 11 (dk_at dksX2_goes_9 2 rfl rfl)
theorem dX2_goes_217 : decode cX2_goes 217 = .ok (.iload_n 3, 1) := dk_29 (dk_at dksX2_goes_9 5 rfl rfl)
theorem dX2_goes_218 : decode cX2_goes 218 = .ok (.ifCond .eq 7, 3) := dk_153 0 7 (dk_at dksX2_goes_9 6 rfl rfl)
theorem dX2_goes_221 : decode cX2_goes 221 = .ok (.iconst 1, 1) := dk_4 (dk_at dksX2_goes_9 9 rfl rfl)
theorem dX2_goes_222 : decode cX2_goes 222 = .ok (.goto 4, 3) := dk_167 0 4 (dk_at dksX2_goes_9 10 rfl rfl)
theorem dX2_goes_225 : decode cX2_goes 225 = .ok (.iconst 0, 1) := dk_3 (dk_at dksX2_goes_9 13 rfl rfl)
theorem dX2_goes_226 : decode cX2_goes 226 = .ok (.istore_n 3, 1) := dk_62 (dk_at dksX2_goes_9 14 rfl rfl)
theorem dX2_goes_227 : decode cX2_goes 227 = .ok (.iinc 5 1, 3) := dk_132 5 1 (dk_at dksX2_goes_9 15 rfl rfl)
theorem dX2_goes_230 : decode cX2_goes 230 = .ok (.goto (-157), 3) := dk_167 255 99 (dk_at dksX2_goes_9 18 rfl rfl)
theorem dX2_goes_233 : decode cX2_goes 233 = .ok (.aload_n 0, 1) := dk_42 (dk_at dksX2_goes_9 21 rfl rfl)
theorem dX2_goes_234 : decode cX2_goes 234 = .ok (.getfield 49, 3) := dk_180 0 49 (dk_at dksX2_goes_10 0 rfl rfl)
theorem dX2_goes_237 : decode cX2_goes 237 = .ok (.iload 4, 2) := dk_21 4 (dk_at dksX2_goes_10 3 rfl rfl)
theorem dX2_goes_239 : decode cX2_goes 239 = .ok (.iload_n 3, 1) := dk_29 (dk_at dksX2_goes_10 5 rfl rfl)
theorem dX2_goes_240 : decode cX2_goes 240 = .ok (.bastore, 1) := dk_84 (dk_at dksX2_goes_10 6 rfl rfl)
theorem dX2_goes_241 : decode cX2_goes 241 = .ok (.aload_n 0, 1) := dk_42 (dk_at dksX2_goes_10 7 rfl rfl)
theorem dX2_goes_242 : decode cX2_goes 242 = .ok (.getfield 7, 3) := dk_180 0 7 (dk_at dksX2_goes_10 8 rfl rfl)
theorem dX2_goes_245 : decode cX2_goes 245 = .ok (.iload_n 1, 1) := dk_27 (dk_at dksX2_goes_10 11 rfl rfl)
theorem dX2_goes_246 : decode cX2_goes 246 = .ok (.iaload, 1) := dk_46 (dk_at dksX2_goes_10 12 rfl rfl)
theorem dX2_goes_247 : decode cX2_goes 247 = .ok (.istore 5, 2) := dk_54 5 (dk_at dksX2_goes_10 13 rfl rfl)
theorem dX2_goes_249 : decode cX2_goes 249 = .ok (.iconst 0, 1) := dk_3 (dk_at dksX2_goes_10 15 rfl rfl)
theorem dX2_goes_250 : decode cX2_goes 250 = .ok (.istore 6, 2) := dk_54 6 (dk_at dksX2_goes_10 16 rfl rfl)
theorem dX2_goes_252 : decode cX2_goes 252 = .ok (.iload 6, 2) := dk_21 6 (dk_at dksX2_goes_10 18 rfl rfl)
theorem dX2_goes_254 : decode cX2_goes 254 = .ok (.iconst 3, 1) := dk_6 (dk_at dksX2_goes_10 20 rfl rfl)
theorem dX2_goes_255 : decode cX2_goes 255 = .ok (.if_icmp .ge 35, 3) := dk_162 0 35 (dk_at dksX2_goes_10 21 rfl rfl)
theorem dX2_goes_258 : decode cX2_goes 258 = .ok (.iload 5, 2) := dk_21 5 (dk_at dksX2_goes_11 0 rfl rfl)
theorem dX2_goes_260 : decode cX2_goes 260 = .ok (.aload_n 0, 1) := dk_42 (dk_at dksX2_goes_11 2 rfl rfl)
theorem dX2_goes_261 : decode cX2_goes 261 = .ok (.getfield 46, 3) := dk_180 0 46 (dk_at dksX2_goes_11 3 rfl rfl)
theorem dX2_goes_264 : decode cX2_goes 264 = .ok (.iconst 3, 1) := dk_6 (dk_at dksX2_goes_11 6 rfl rfl)
theorem dX2_goes_265 : decode cX2_goes 265 = .ok (.iload 4, 2) := dk_21 4 (dk_at dksX2_goes_11 7 rfl rfl)
theorem dX2_goes_267 : decode cX2_goes 267 = .ok (.imul, 1) := dk_104 (dk_at dksX2_goes_11 9 rfl rfl)
theorem dX2_goes_268 : decode cX2_goes 268 = .ok (.iload 6, 2) := dk_21 6 (dk_at dksX2_goes_11 10 rfl rfl)
theorem dX2_goes_270 : decode cX2_goes 270 = .ok (.iadd, 1) := dk_96 (dk_at dksX2_goes_11 12 rfl rfl)
theorem dX2_goes_271 : decode cX2_goes 271 = .ok (.iaload, 1) := dk_46 (dk_at dksX2_goes_11 13 rfl rfl)
theorem dX2_goes_272 : decode cX2_goes 272 = .ok (.aload_n 0, 1) := dk_42 (dk_at dksX2_goes_11 14 rfl rfl)
theorem dX2_goes_273 : decode cX2_goes 273 = .ok (.iload 6, 2) := dk_21 6 (dk_at dksX2_goes_11 15 rfl rfl)
theorem dX2_goes_275 : decode cX2_goes 275 = .ok (.iload 4, 2) := dk_21 4 (dk_at dksX2_goes_11 17 rfl rfl)
theorem dX2_goes_277 : decode cX2_goes 277 = .ok (.invokevirtual 104, 3) := dk_182 0 104 (dk_at dksX2_goes_11 19 rfl rfl)
theorem dX2_goes_280 : decode cX2_goes 280 = .ok (.imul, 1) := dk_104 (dk_at dksX2_goes_11 22 rfl rfl)
theorem dX2_goes_281 : decode cX2_goes 281 = .ok (.iadd, 1) := dk_96 (dk_at dksX2_goes_11 23 rfl rfl)
theorem dX2_goes_282 : decode cX2_goes 282 = .ok (.istore 5, 2) := dk_54 5 (dk_at dksX2_goes_12 0 rfl rfl)
theorem dX2_goes_284 : decode cX2_goes 284 = .ok (.iinc 6 1, 3) := dk_132 6 1 (dk_at dksX2_goes_12 2 rfl rfl)
theorem dX2_goes_287 : decode cX2_goes 287 = .ok (.goto (-35), 3) := dk_167 255 221 (dk_at dksX2_goes_12 5 rfl rfl)
theorem dX2_goes_290 : decode cX2_goes 290 = .ok (.aload_n 0, 1) := dk_42 (dk_at dksX2_goes_12 8 rfl rfl)
theorem dX2_goes_291 : decode cX2_goes 291 = .ok (.getfield 53, 3) := dk_180 0 53 (dk_at dksX2_goes_12 9 rfl rfl)
theorem dX2_goes_294 : decode cX2_goes 294 = .ok (.iload 4, 2) := dk_21 4 (dk_at dksX2_goes_12 12 rfl rfl)
theorem dX2_goes_296 : decode cX2_goes 296 = .ok (.iload_n 3, 1) := dk_29 (dk_at dksX2_goes_12 14 rfl rfl)
theorem dX2_goes_297 : decode cX2_goes 297 = .ok (.ifCond .eq 8, 3) := dk_153 0 8 (dk_at dksX2_goes_12 15 rfl rfl)
theorem dX2_goes_300 : decode cX2_goes 300 = .ok (.iload 5, 2) := dk_21 5 (dk_at dksX2_goes_12 18 rfl rfl)
theorem dX2_goes_302 : decode cX2_goes 302 = .ok (.goto 4, 3) := dk_167 0 4 (dk_at dksX2_goes_12 20 rfl rfl)
theorem dX2_goes_305 : decode cX2_goes 305 = .ok (.iconst 0, 1) := dk_3 (dk_at dksX2_goes_12 23 rfl rfl)
theorem dX2_goes_306 : decode cX2_goes 306 = .ok (.iastore, 1) := dk_79 (dk_at dksX2_goes_13 0 rfl rfl)
theorem dX2_goes_307 : decode cX2_goes 307 = .ok (.aload_n 0, 1) := dk_42 (dk_at dksX2_goes_13 1 rfl rfl)
theorem dX2_goes_308 : decode cX2_goes 308 = .ok (.getfield 56, 3) := dk_180 0 56 (dk_at dksX2_goes_13 2 rfl rfl)
theorem dX2_goes_311 : decode cX2_goes 311 = .ok (.iload 4, 2) := dk_21 4 (dk_at dksX2_goes_13 5 rfl rfl)
theorem dX2_goes_313 : decode cX2_goes 313 = .ok (.iconst 1, 1) := dk_4 (dk_at dksX2_goes_13 7 rfl rfl)
theorem dX2_goes_314 : decode cX2_goes 314 = .ok (.iadd, 1) := dk_96 (dk_at dksX2_goes_13 8 rfl rfl)
theorem dX2_goes_315 : decode cX2_goes 315 = .ok (.aload_n 0, 1) := dk_42 (dk_at dksX2_goes_13 9 rfl rfl)
theorem dX2_goes_316 : decode cX2_goes 316 = .ok (.getfield 56, 3) := dk_180 0 56 (dk_at dksX2_goes_13 10 rfl rfl)
theorem dX2_goes_319 : decode cX2_goes 319 = .ok (.iload 4, 2) := dk_21 4 (dk_at dksX2_goes_13 13 rfl rfl)
theorem dX2_goes_321 : decode cX2_goes 321 = .ok (.iaload, 1) := dk_46 (dk_at dksX2_goes_13 15 rfl rfl)
theorem dX2_goes_322 : decode cX2_goes 322 = .ok (.aload_n 0, 1) := dk_42 (dk_at dksX2_goes_13 16 rfl rfl)
theorem dX2_goes_323 : decode cX2_goes 323 = .ok (.getfield 53, 3) := dk_180 0 53 (dk_at dksX2_goes_13 17 rfl rfl)
theorem dX2_goes_326 : decode cX2_goes 326 = .ok (.iload 4, 2) := dk_21 4 (dk_at dksX2_goes_13 20 rfl rfl)
theorem dX2_goes_328 : decode cX2_goes 328 = .ok (.iaload, 1) := dk_46 (dk_at dksX2_goes_13 22 rfl rfl)
theorem dX2_goes_329 : decode cX2_goes 329 = .ok (.iadd, 1) := dk_96 (dk_at dksX2_goes_13 23 rfl rfl)
theorem dX2_goes_330 : decode cX2_goes 330 = .ok (.iastore, 1) := dk_79 (dk_at dksX2_goes_14 0 rfl rfl)
theorem dX2_goes_331 : decode cX2_goes 331 = .ok (.iinc 4 1, 3) := dk_132 4 1 (dk_at dksX2_goes_14 1 rfl rfl)
theorem dX2_goes_334 : decode cX2_goes 334 = .ok (.goto (-322), 3) := dk_167 254 190 (dk_at dksX2_goes_14 4 rfl rfl)
theorem dX2_goes_337 : decode cX2_goes 337 = .ok (.return_, 1) := dk_177 (dk_at dksX2_goes_14 7 rfl rfl)
abbrev cX2_bounded : ByteArray := prog_8_method_22_code
def yX2_bounded : MethodName := ⟨RX2, "bounded", "(I)I"⟩
def dkwX2_bounded_0 : List UInt8 := [26, 156, 0, 7, 3, 167, 0, 15, 26, 16, 20, 164, 0, 8, 16, 20, 167, 0, 4, 26, 172]
abbrev dktX2_bounded_0 : List UInt8 := dkwX2_bounded_0 ++ []
theorem dksX2_bounded_0 : cX2_bounded.data.toList.drop 0 = dktX2_bounded_0 := by decide +kernel
theorem dX2_bounded_0 : decode cX2_bounded 0 = .ok (.iload_n 0, 1) := dk_26 (dk_at dksX2_bounded_0 0 rfl rfl)
theorem dX2_bounded_1 : decode cX2_bounded 1 = .ok (.ifCond .ge 7, 3) := dk_156 0 7 (dk_at dksX2_bounded_0 1 rfl rfl)
theorem dX2_bounded_4 : decode cX2_bounded 4 = .ok (.iconst 0, 1) := dk_3 (dk_at dksX2_bounded_0 4 rfl rfl)
theorem dX2_bounded_5 : decode cX2_bounded 5 = .ok (.goto 15, 3) := dk_167 0 15 (dk_at dksX2_bounded_0 5 rfl rfl)
theorem dX2_bounded_8 : decode cX2_bounded 8 = .ok (.iload_n 0, 1) := dk_26 (dk_at dksX2_bounded_0 8 rfl rfl)
theorem dX2_bounded_9 : decode cX2_bounded 9 = .ok (.bipush 20, 2) := dk_16 20 (dk_at dksX2_bounded_0 9 rfl rfl)
theorem dX2_bounded_11 : decode cX2_bounded 11 = .ok (.if_icmp .le 8, 3) := dk_164 0 8 (dk_at dksX2_bounded_0 11 rfl rfl)
theorem dX2_bounded_14 : decode cX2_bounded 14 = .ok (.bipush 20, 2) := dk_16 20 (dk_at dksX2_bounded_0 14 rfl rfl)
theorem dX2_bounded_16 : decode cX2_bounded 16 = .ok (.goto 4, 3) := dk_167 0 4 (dk_at dksX2_bounded_0 16 rfl rfl)
theorem dX2_bounded_19 : decode cX2_bounded 19 = .ok (.iload_n 0, 1) := dk_26 (dk_at dksX2_bounded_0 19 rfl rfl)
theorem dX2_bounded_20 : decode cX2_bounded 20 = .ok (.ireturn, 1) := dk_172 (dk_at dksX2_bounded_0 20 rfl rfl)
abbrev cX2_weighs : ByteArray := prog_8_method_21_code
def yX2_weighs : MethodName := ⟨RX2, "weighs", "(II)I"⟩
def dkwX2_weighs_4 : List UInt8 := [180, 0, 19, 29, 46, 172]
abbrev dktX2_weighs_4 : List UInt8 := dkwX2_weighs_4 ++ []
def dkwX2_weighs_3 : List UInt8 := [21, 4, 167, 0, 4, 29, 62, 132, 4, 1, 167, 255, 183, 29, 156, 0, 7, 4, 167, 0, 9, 42]
abbrev dktX2_weighs_3 : List UInt8 := dkwX2_weighs_3 ++ dktX2_weighs_4
def dkwX2_weighs_2 : List UInt8 := [153, 0, 28, 29, 155, 0, 19, 42, 180, 0, 22, 21, 4, 46, 42, 180, 0, 22, 29, 46, 161, 0, 8]
abbrev dktX2_weighs_2 : List UInt8 := dkwX2_weighs_2 ++ dktX2_weighs_3
def dkwX2_weighs_1 : List UInt8 := [160, 0, 18, 42, 180, 0, 22, 21, 4, 46, 28, 163, 0, 7, 4, 167, 0, 4, 3, 54, 5, 21, 5]
abbrev dktX2_weighs_1 : List UInt8 := dkwX2_weighs_1 ++ dktX2_weighs_2
def dkwX2_weighs_0 : List UInt8 := [2, 62, 3, 54, 4, 21, 4, 42, 180, 0, 77, 162, 0, 70, 42, 180, 0, 16, 21, 4, 46, 27]
abbrev dktX2_weighs_0 : List UInt8 := dkwX2_weighs_0 ++ dktX2_weighs_1
theorem dksX2_weighs_0 : cX2_weighs.data.toList.drop 0 = dktX2_weighs_0 := by decide +kernel
theorem dksX2_weighs_1 : cX2_weighs.data.toList.drop 22 = dktX2_weighs_1 := dk_seg dksX2_weighs_0 22 rfl rfl
theorem dksX2_weighs_2 : cX2_weighs.data.toList.drop 45 = dktX2_weighs_2 := dk_seg dksX2_weighs_1 23 rfl rfl
theorem dksX2_weighs_3 : cX2_weighs.data.toList.drop 68 = dktX2_weighs_3 := dk_seg dksX2_weighs_2 23 rfl rfl
theorem dksX2_weighs_4 : cX2_weighs.data.toList.drop 90 = dktX2_weighs_4 := dk_seg dksX2_weighs_3 22 rfl rfl
theorem dX2_weighs_0 : decode cX2_weighs 0 = .ok (.iconst (-1), 1) := dk_2 (dk_at dksX2_weighs_0 0 rfl rfl)
theorem dX2_weighs_1 : decode cX2_weighs 1 = .ok (.istore_n 3, 1) := dk_62 (dk_at dksX2_weighs_0 1 rfl rfl)
theorem dX2_weighs_2 : decode cX2_weighs 2 = .ok (.iconst 0, 1) := dk_3 (dk_at dksX2_weighs_0 2 rfl rfl)
theorem dX2_weighs_3 : decode cX2_weighs 3 = .ok (.istore 4, 2) := dk_54 4 (dk_at dksX2_weighs_0 3 rfl rfl)
theorem dX2_weighs_5 : decode cX2_weighs 5 = .ok (.iload 4, 2) := dk_21 4 (dk_at dksX2_weighs_0 5 rfl rfl)
theorem dX2_weighs_7 : decode cX2_weighs 7 = .ok (.aload_n 0, 1) := dk_42 (dk_at dksX2_weighs_0 7 rfl rfl)
theorem dX2_weighs_8 : decode cX2_weighs 8 = .ok (.getfield 77, 3) := dk_180 0 77 (dk_at dksX2_weighs_0 8 rfl rfl)
theorem dX2_weighs_11 : decode cX2_weighs 11 = .ok (.if_icmp .ge 70, 3) := dk_162 0 70 (dk_at dksX2_weighs_0 11 rfl rfl)
theorem dX2_weighs_14 : decode cX2_weighs 14 = .ok (.aload_n 0, 1) := dk_42 (dk_at dksX2_weighs_0 14 rfl rfl)
theorem dX2_weighs_15 : decode cX2_weighs 15 = .ok (.getfield 16, 3) := dk_180 0 16 (dk_at dksX2_weighs_0 15 rfl rfl)
theorem dX2_weighs_18 : decode cX2_weighs 18 = .ok (.iload 4, 2) := dk_21 4 (dk_at dksX2_weighs_0 18 rfl rfl)
theorem dX2_weighs_20 : decode cX2_weighs 20 = .ok (.iaload, 1) := dk_46 (dk_at dksX2_weighs_0 20 rfl rfl)
theorem dX2_weighs_21 : decode cX2_weighs 21 = .ok (.iload_n 1, 1) := dk_27 (dk_at dksX2_weighs_0 21 rfl rfl)
theorem dX2_weighs_22 : decode cX2_weighs 22 = .ok (.if_icmp .ne 18, 3) := dk_160 0 18 (dk_at dksX2_weighs_1 0 rfl rfl)
theorem dX2_weighs_25 : decode cX2_weighs 25 = .ok (.aload_n 0, 1) := dk_42 (dk_at dksX2_weighs_1 3 rfl rfl)
theorem dX2_weighs_26 : decode cX2_weighs 26 = .ok (.getfield 22, 3) := dk_180 0 22 (dk_at dksX2_weighs_1 4 rfl rfl)
theorem dX2_weighs_29 : decode cX2_weighs 29 = .ok (.iload 4, 2) := dk_21 4 (dk_at dksX2_weighs_1 7 rfl rfl)
theorem dX2_weighs_31 : decode cX2_weighs 31 = .ok (.iaload, 1) := dk_46 (dk_at dksX2_weighs_1 9 rfl rfl)
theorem dX2_weighs_32 : decode cX2_weighs 32 = .ok (.iload_n 2, 1) := dk_28 (dk_at dksX2_weighs_1 10 rfl rfl)
theorem dX2_weighs_33 : decode cX2_weighs 33 = .ok (.if_icmp .gt 7, 3) := dk_163 0 7 (dk_at dksX2_weighs_1 11 rfl rfl)
theorem dX2_weighs_36 : decode cX2_weighs 36 = .ok (.iconst 1, 1) := dk_4 (dk_at dksX2_weighs_1 14 rfl rfl)
theorem dX2_weighs_37 : decode cX2_weighs 37 = .ok (.goto 4, 3) := dk_167 0 4 (dk_at dksX2_weighs_1 15 rfl rfl)
theorem dX2_weighs_40 : decode cX2_weighs 40 = .ok (.iconst 0, 1) := dk_3 (dk_at dksX2_weighs_1 18 rfl rfl)
theorem dX2_weighs_41 : decode cX2_weighs 41 = .ok (.istore 5, 2) := dk_54 5 (dk_at dksX2_weighs_1 19 rfl rfl)
theorem dX2_weighs_43 : decode cX2_weighs 43 = .ok (.iload 5, 2) := dk_21 5 (dk_at dksX2_weighs_1 21 rfl rfl)
theorem dX2_weighs_45 : decode cX2_weighs 45 = .ok (.ifCond .eq 28, 3) := dk_153 0 28 (dk_at dksX2_weighs_2 0 rfl rfl)
theorem dX2_weighs_48 : decode cX2_weighs 48 = .ok (.iload_n 3, 1) := dk_29 (dk_at dksX2_weighs_2 3 rfl rfl)
theorem dX2_weighs_49 : decode cX2_weighs 49 = .ok (.ifCond .lt 19, 3) := dk_155 0 19 (dk_at dksX2_weighs_2 4 rfl rfl)
theorem dX2_weighs_52 : decode cX2_weighs 52 = .ok (.aload_n 0, 1) := dk_42 (dk_at dksX2_weighs_2 7 rfl rfl)
theorem dX2_weighs_53 : decode cX2_weighs 53 = .ok (.getfield 22, 3) := dk_180 0 22 (dk_at dksX2_weighs_2 8 rfl rfl)
theorem dX2_weighs_56 : decode cX2_weighs 56 = .ok (.iload 4, 2) := dk_21 4 (dk_at dksX2_weighs_2 11 rfl rfl)
theorem dX2_weighs_58 : decode cX2_weighs 58 = .ok (.iaload, 1) := dk_46 (dk_at dksX2_weighs_2 13 rfl rfl)
theorem dX2_weighs_59 : decode cX2_weighs 59 = .ok (.aload_n 0, 1) := dk_42 (dk_at dksX2_weighs_2 14 rfl rfl)
theorem dX2_weighs_60 : decode cX2_weighs 60 = .ok (.getfield 22, 3) := dk_180 0 22 (dk_at dksX2_weighs_2 15 rfl rfl)
theorem dX2_weighs_63 : decode cX2_weighs 63 = .ok (.iload_n 3, 1) := dk_29 (dk_at dksX2_weighs_2 18 rfl rfl)
theorem dX2_weighs_64 : decode cX2_weighs 64 = .ok (.iaload, 1) := dk_46 (dk_at dksX2_weighs_2 19 rfl rfl)
theorem dX2_weighs_65 : decode cX2_weighs 65 = .ok (.if_icmp .lt 8, 3) := dk_161 0 8 (dk_at dksX2_weighs_2 20 rfl rfl)
theorem dX2_weighs_68 : decode cX2_weighs 68 = .ok (.iload 4, 2) := dk_21 4 (dk_at dksX2_weighs_3 0 rfl rfl)
theorem dX2_weighs_70 : decode cX2_weighs 70 = .ok (.goto 4, 3) := dk_167 0 4 (dk_at dksX2_weighs_3 2 rfl rfl)
theorem dX2_weighs_73 : decode cX2_weighs 73 = .ok (.iload_n 3, 1) := dk_29 (dk_at dksX2_weighs_3 5 rfl rfl)
theorem dX2_weighs_74 : decode cX2_weighs 74 = .ok (.istore_n 3, 1) := dk_62 (dk_at dksX2_weighs_3 6 rfl rfl)
theorem dX2_weighs_75 : decode cX2_weighs 75 = .ok (.iinc 4 1, 3) := dk_132 4 1 (dk_at dksX2_weighs_3 7 rfl rfl)
theorem dX2_weighs_78 : decode cX2_weighs 78 = .ok (.goto (-73), 3) := dk_167 255 183 (dk_at dksX2_weighs_3 10 rfl rfl)
theorem dX2_weighs_81 : decode cX2_weighs 81 = .ok (.iload_n 3, 1) := dk_29 (dk_at dksX2_weighs_3 13 rfl rfl)
theorem dX2_weighs_82 : decode cX2_weighs 82 = .ok (.ifCond .ge 7, 3) := dk_156 0 7 (dk_at dksX2_weighs_3 14 rfl rfl)
theorem dX2_weighs_85 : decode cX2_weighs 85 = .ok (.iconst 1, 1) := dk_4 (dk_at dksX2_weighs_3 17 rfl rfl)
theorem dX2_weighs_86 : decode cX2_weighs 86 = .ok (.goto 9, 3) := dk_167 0 9 (dk_at dksX2_weighs_3 18 rfl rfl)
theorem dX2_weighs_89 : decode cX2_weighs 89 = .ok (.aload_n 0, 1) := dk_42 (dk_at dksX2_weighs_3 21 rfl rfl)
theorem dX2_weighs_90 : decode cX2_weighs 90 = .ok (.getfield 19, 3) := dk_180 0 19 (dk_at dksX2_weighs_4 0 rfl rfl)
theorem dX2_weighs_93 : decode cX2_weighs 93 = .ok (.iload_n 3, 1) := dk_29 (dk_at dksX2_weighs_4 3 rfl rfl)
theorem dX2_weighs_94 : decode cX2_weighs 94 = .ok (.iaload, 1) := dk_46 (dk_at dksX2_weighs_4 4 rfl rfl)
theorem dX2_weighs_95 : decode cX2_weighs 95 = .ok (.ireturn, 1) := dk_172 (dk_at dksX2_weighs_4 5 rfl rfl)
abbrev cX2_isCovered : ByteArray := prog_8_method_26_code
def yX2_isCovered : MethodName := ⟨RX2, "isCovered", "(III)Z"⟩
def dkwX2_isCovered_1 : List UInt8 := [3, 172]
abbrev dktX2_isCovered_1 : List UInt8 := dkwX2_isCovered_1 ++ []
def dkwX2_isCovered_0 : List UInt8 := [42, 27, 3, 28, 29, 182, 0, 112, 153, 0, 16, 42, 180, 0, 49, 28, 51, 153, 0, 7, 4, 167, 0, 4]
abbrev dktX2_isCovered_0 : List UInt8 := dkwX2_isCovered_0 ++ dktX2_isCovered_1
theorem dksX2_isCovered_0 : cX2_isCovered.data.toList.drop 0 = dktX2_isCovered_0 := by decide +kernel
theorem dksX2_isCovered_1 : cX2_isCovered.data.toList.drop 24 = dktX2_isCovered_1 := dk_seg dksX2_isCovered_0 24 rfl rfl
theorem dX2_isCovered_0 : decode cX2_isCovered 0 = .ok (.aload_n 0, 1) := dk_42 (dk_at dksX2_isCovered_0 0 rfl rfl)
theorem dX2_isCovered_1 : decode cX2_isCovered 1 = .ok (.iload_n 1, 1) := dk_27 (dk_at dksX2_isCovered_0 1 rfl rfl)
theorem dX2_isCovered_2 : decode cX2_isCovered 2 = .ok (.iconst 0, 1) := dk_3 (dk_at dksX2_isCovered_0 2 rfl rfl)
theorem dX2_isCovered_3 : decode cX2_isCovered 3 = .ok (.iload_n 2, 1) := dk_28 (dk_at dksX2_isCovered_0 3 rfl rfl)
theorem dX2_isCovered_4 : decode cX2_isCovered 4 = .ok (.iload_n 3, 1) := dk_29 (dk_at dksX2_isCovered_0 4 rfl rfl)
theorem dX2_isCovered_5 : decode cX2_isCovered 5 = .ok (.invokevirtual 112, 3) := dk_182 0 112 (dk_at dksX2_isCovered_0 5 rfl rfl)
theorem dX2_isCovered_8 : decode cX2_isCovered 8 = .ok (.ifCond .eq 16, 3) := dk_153 0 16 (dk_at dksX2_isCovered_0 8 rfl rfl)
theorem dX2_isCovered_11 : decode cX2_isCovered 11 = .ok (.aload_n 0, 1) := dk_42 (dk_at dksX2_isCovered_0 11 rfl rfl)
theorem dX2_isCovered_12 : decode cX2_isCovered 12 = .ok (.getfield 49, 3) := dk_180 0 49 (dk_at dksX2_isCovered_0 12 rfl rfl)
theorem dX2_isCovered_15 : decode cX2_isCovered 15 = .ok (.iload_n 2, 1) := dk_28 (dk_at dksX2_isCovered_0 15 rfl rfl)
theorem dX2_isCovered_16 : decode cX2_isCovered 16 = .ok (.baload, 1) := dk_51 (dk_at dksX2_isCovered_0 16 rfl rfl)
theorem dX2_isCovered_17 : decode cX2_isCovered 17 = .ok (.ifCond .eq 7, 3) := dk_153 0 7 (dk_at dksX2_isCovered_0 17 rfl rfl)
theorem dX2_isCovered_20 : decode cX2_isCovered 20 = .ok (.iconst 1, 1) := dk_4 (dk_at dksX2_isCovered_0 20 rfl rfl)
theorem dX2_isCovered_21 : decode cX2_isCovered 21 = .ok (.goto 4, 3) := dk_167 0 4 (dk_at dksX2_isCovered_0 21 rfl rfl)
theorem dX2_isCovered_24 : decode cX2_isCovered 24 = .ok (.iconst 0, 1) := dk_3 (dk_at dksX2_isCovered_1 0 rfl rfl)
theorem dX2_isCovered_25 : decode cX2_isCovered 25 = .ok (.ireturn, 1) := dk_172 (dk_at dksX2_isCovered_1 1 rfl rfl)
abbrev cX2_rate : ByteArray := prog_8_method_27_code
def yX2_rate : MethodName := ⟨RX2, "rate", "(III)I"⟩
def dkwX2_rate_0 : List UInt8 := [42, 27, 3, 28, 29, 182, 0, 112, 153, 0, 12, 42, 180, 0, 53, 28, 46, 167, 0, 4, 3, 172]
abbrev dktX2_rate_0 : List UInt8 := dkwX2_rate_0 ++ []
theorem dksX2_rate_0 : cX2_rate.data.toList.drop 0 = dktX2_rate_0 := by decide +kernel
theorem dX2_rate_0 : decode cX2_rate 0 = .ok (.aload_n 0, 1) := dk_42 (dk_at dksX2_rate_0 0 rfl rfl)
theorem dX2_rate_1 : decode cX2_rate 1 = .ok (.iload_n 1, 1) := dk_27 (dk_at dksX2_rate_0 1 rfl rfl)
theorem dX2_rate_2 : decode cX2_rate 2 = .ok (.iconst 0, 1) := dk_3 (dk_at dksX2_rate_0 2 rfl rfl)
theorem dX2_rate_3 : decode cX2_rate 3 = .ok (.iload_n 2, 1) := dk_28 (dk_at dksX2_rate_0 3 rfl rfl)
theorem dX2_rate_4 : decode cX2_rate 4 = .ok (.iload_n 3, 1) := dk_29 (dk_at dksX2_rate_0 4 rfl rfl)
theorem dX2_rate_5 : decode cX2_rate 5 = .ok (.invokevirtual 112, 3) := dk_182 0 112 (dk_at dksX2_rate_0 5 rfl rfl)
theorem dX2_rate_8 : decode cX2_rate 8 = .ok (.ifCond .eq 12, 3) := dk_153 0 12 (dk_at dksX2_rate_0 8 rfl rfl)
theorem dX2_rate_11 : decode cX2_rate 11 = .ok (.aload_n 0, 1) := dk_42 (dk_at dksX2_rate_0 11 rfl rfl)
theorem dX2_rate_12 : decode cX2_rate 12 = .ok (.getfield 53, 3) := dk_180 0 53 (dk_at dksX2_rate_0 12 rfl rfl)
theorem dX2_rate_15 : decode cX2_rate 15 = .ok (.iload_n 2, 1) := dk_28 (dk_at dksX2_rate_0 15 rfl rfl)
theorem dX2_rate_16 : decode cX2_rate 16 = .ok (.iaload, 1) := dk_46 (dk_at dksX2_rate_0 16 rfl rfl)
theorem dX2_rate_17 : decode cX2_rate 17 = .ok (.goto 4, 3) := dk_167 0 4 (dk_at dksX2_rate_0 17 rfl rfl)
theorem dX2_rate_20 : decode cX2_rate 20 = .ok (.iconst 0, 1) := dk_3 (dk_at dksX2_rate_0 20 rfl rfl)
theorem dX2_rate_21 : decode cX2_rate 21 = .ok (.ireturn, 1) := dk_172 (dk_at dksX2_rate_0 21 rfl rfl)
abbrev cX2_segments : ByteArray := prog_8_method_29_code
def yX2_segments : MethodName := ⟨RX2, "segments", "(II)I"⟩
def dkwX2_segments_2 : List UInt8 := [132, 5, 1, 167, 255, 223, 29, 172]
abbrev dktX2_segments_2 : List UInt8 := dkwX2_segments_2 ++ []
def dkwX2_segments_1 : List UInt8 := [17, 1, 109, 162, 0, 26, 29, 42, 21, 5, 182, 0, 116, 153, 0, 7, 4, 167, 0, 4, 3, 96, 62]
abbrev dktX2_segments_1 : List UInt8 := dkwX2_segments_1 ++ dktX2_segments_2
def dkwX2_segments_0 : List UInt8 := [3, 62, 42, 27, 3, 3, 28, 182, 0, 112, 54, 4, 3, 54, 5, 21, 4, 153, 0, 34, 21, 5]
abbrev dktX2_segments_0 : List UInt8 := dkwX2_segments_0 ++ dktX2_segments_1
theorem dksX2_segments_0 : cX2_segments.data.toList.drop 0 = dktX2_segments_0 := by decide +kernel
theorem dksX2_segments_1 : cX2_segments.data.toList.drop 22 = dktX2_segments_1 := dk_seg dksX2_segments_0 22 rfl rfl
theorem dksX2_segments_2 : cX2_segments.data.toList.drop 45 = dktX2_segments_2 := dk_seg dksX2_segments_1 23 rfl rfl
theorem dX2_segments_0 : decode cX2_segments 0 = .ok (.iconst 0, 1) := dk_3 (dk_at dksX2_segments_0 0 rfl rfl)
theorem dX2_segments_1 : decode cX2_segments 1 = .ok (.istore_n 3, 1) := dk_62 (dk_at dksX2_segments_0 1 rfl rfl)
theorem dX2_segments_2 : decode cX2_segments 2 = .ok (.aload_n 0, 1) := dk_42 (dk_at dksX2_segments_0 2 rfl rfl)
theorem dX2_segments_3 : decode cX2_segments 3 = .ok (.iload_n 1, 1) := dk_27 (dk_at dksX2_segments_0 3 rfl rfl)
theorem dX2_segments_4 : decode cX2_segments 4 = .ok (.iconst 0, 1) := dk_3 (dk_at dksX2_segments_0 4 rfl rfl)
theorem dX2_segments_5 : decode cX2_segments 5 = .ok (.iconst 0, 1) := dk_3 (dk_at dksX2_segments_0 5 rfl rfl)
theorem dX2_segments_6 : decode cX2_segments 6 = .ok (.iload_n 2, 1) := dk_28 (dk_at dksX2_segments_0 6 rfl rfl)
theorem dX2_segments_7 : decode cX2_segments 7 = .ok (.invokevirtual 112, 3) := dk_182 0 112 (dk_at dksX2_segments_0 7 rfl rfl)
theorem dX2_segments_10 : decode cX2_segments 10 = .ok (.istore 4, 2) := dk_54 4 (dk_at dksX2_segments_0 10 rfl rfl)
theorem dX2_segments_12 : decode cX2_segments 12 = .ok (.iconst 0, 1) := dk_3 (dk_at dksX2_segments_0 12 rfl rfl)
theorem dX2_segments_13 : decode cX2_segments 13 = .ok (.istore 5, 2) := dk_54 5 (dk_at dksX2_segments_0 13 rfl rfl)
theorem dX2_segments_15 : decode cX2_segments 15 = .ok (.iload 4, 2) := dk_21 4 (dk_at dksX2_segments_0 15 rfl rfl)
theorem dX2_segments_17 : decode cX2_segments 17 = .ok (.ifCond .eq 34, 3) := dk_153 0 34 (dk_at dksX2_segments_0 17 rfl rfl)
theorem dX2_segments_20 : decode cX2_segments 20 = .ok (.iload 5, 2) := dk_21 5 (dk_at dksX2_segments_0 20 rfl rfl)
theorem dX2_segments_22 : decode cX2_segments 22 = .ok (.sipush 365, 3) := dk_17 1 109 (dk_at dksX2_segments_1 0 rfl rfl)
theorem dX2_segments_25 : decode cX2_segments 25 = .ok (.if_icmp .ge 26, 3) := dk_162 0 26 (dk_at dksX2_segments_1 3 rfl rfl)
theorem dX2_segments_28 : decode cX2_segments 28 = .ok (.iload_n 3, 1) := dk_29 (dk_at dksX2_segments_1 6 rfl rfl)
theorem dX2_segments_29 : decode cX2_segments 29 = .ok (.aload_n 0, 1) := dk_42 (dk_at dksX2_segments_1 7 rfl rfl)
theorem dX2_segments_30 : decode cX2_segments 30 = .ok (.iload 5, 2) := dk_21 5 (dk_at dksX2_segments_1 8 rfl rfl)
theorem dX2_segments_32 : decode cX2_segments 32 = .ok (.invokevirtual 116, 3) := dk_182 0 116 (dk_at dksX2_segments_1 10 rfl rfl)
theorem dX2_segments_35 : decode cX2_segments 35 = .ok (.ifCond .eq 7, 3) := dk_153 0 7 (dk_at dksX2_segments_1 13 rfl rfl)
theorem dX2_segments_38 : decode cX2_segments 38 = .ok (.iconst 1, 1) := dk_4 (dk_at dksX2_segments_1 16 rfl rfl)
theorem dX2_segments_39 : decode cX2_segments 39 = .ok (.goto 4, 3) := dk_167 0 4 (dk_at dksX2_segments_1 17 rfl rfl)
theorem dX2_segments_42 : decode cX2_segments 42 = .ok (.iconst 0, 1) := dk_3 (dk_at dksX2_segments_1 20 rfl rfl)
theorem dX2_segments_43 : decode cX2_segments 43 = .ok (.iadd, 1) := dk_96 (dk_at dksX2_segments_1 21 rfl rfl)
theorem dX2_segments_44 : decode cX2_segments 44 = .ok (.istore_n 3, 1) := dk_62 (dk_at dksX2_segments_1 22 rfl rfl)
theorem dX2_segments_45 : decode cX2_segments 45 = .ok (.iinc 5 1, 3) := dk_132 5 1 (dk_at dksX2_segments_2 0 rfl rfl)
theorem dX2_segments_48 : decode cX2_segments 48 = .ok (.goto (-33), 3) := dk_167 255 223 (dk_at dksX2_segments_2 3 rfl rfl)
theorem dX2_segments_51 : decode cX2_segments 51 = .ok (.iload_n 3, 1) := dk_29 (dk_at dksX2_segments_2 6 rfl rfl)
theorem dX2_segments_52 : decode cX2_segments 52 = .ok (.ireturn, 1) := dk_172 (dk_at dksX2_segments_2 7 rfl rfl)
abbrev cX2_begins : ByteArray := prog_8_method_28_code
def yX2_begins : MethodName := ⟨RX2, "begins", "(I)Z"⟩
def dkwX2_begins_1 : List UInt8 := [180, 0, 53, 27, 46, 159, 0, 7, 4, 167, 0, 4, 3, 172]
abbrev dktX2_begins_1 : List UInt8 := dkwX2_begins_1 ++ []
def dkwX2_begins_0 : List UInt8 := [42, 180, 0, 53, 27, 46, 158, 0, 28, 27, 153, 0, 20, 42, 180, 0, 53, 27, 4, 100, 46, 42]
abbrev dktX2_begins_0 : List UInt8 := dkwX2_begins_0 ++ dktX2_begins_1
theorem dksX2_begins_0 : cX2_begins.data.toList.drop 0 = dktX2_begins_0 := by decide +kernel
theorem dksX2_begins_1 : cX2_begins.data.toList.drop 22 = dktX2_begins_1 := dk_seg dksX2_begins_0 22 rfl rfl
theorem dX2_begins_0 : decode cX2_begins 0 = .ok (.aload_n 0, 1) := dk_42 (dk_at dksX2_begins_0 0 rfl rfl)
theorem dX2_begins_1 : decode cX2_begins 1 = .ok (.getfield 53, 3) := dk_180 0 53 (dk_at dksX2_begins_0 1 rfl rfl)
theorem dX2_begins_4 : decode cX2_begins 4 = .ok (.iload_n 1, 1) := dk_27 (dk_at dksX2_begins_0 4 rfl rfl)
theorem dX2_begins_5 : decode cX2_begins 5 = .ok (.iaload, 1) := dk_46 (dk_at dksX2_begins_0 5 rfl rfl)
theorem dX2_begins_6 : decode cX2_begins 6 = .ok (.ifCond .le 28, 3) := dk_158 0 28 (dk_at dksX2_begins_0 6 rfl rfl)
theorem dX2_begins_9 : decode cX2_begins 9 = .ok (.iload_n 1, 1) := dk_27 (dk_at dksX2_begins_0 9 rfl rfl)
theorem dX2_begins_10 : decode cX2_begins 10 = .ok (.ifCond .eq 20, 3) := dk_153 0 20 (dk_at dksX2_begins_0 10 rfl rfl)
theorem dX2_begins_13 : decode cX2_begins 13 = .ok (.aload_n 0, 1) := dk_42 (dk_at dksX2_begins_0 13 rfl rfl)
theorem dX2_begins_14 : decode cX2_begins 14 = .ok (.getfield 53, 3) := dk_180 0 53 (dk_at dksX2_begins_0 14 rfl rfl)
theorem dX2_begins_17 : decode cX2_begins 17 = .ok (.iload_n 1, 1) := dk_27 (dk_at dksX2_begins_0 17 rfl rfl)
theorem dX2_begins_18 : decode cX2_begins 18 = .ok (.iconst 1, 1) := dk_4 (dk_at dksX2_begins_0 18 rfl rfl)
theorem dX2_begins_19 : decode cX2_begins 19 = .ok (.isub, 1) := dk_100 (dk_at dksX2_begins_0 19 rfl rfl)
theorem dX2_begins_20 : decode cX2_begins 20 = .ok (.iaload, 1) := dk_46 (dk_at dksX2_begins_0 20 rfl rfl)
theorem dX2_begins_21 : decode cX2_begins 21 = .ok (.aload_n 0, 1) := dk_42 (dk_at dksX2_begins_0 21 rfl rfl)
theorem dX2_begins_22 : decode cX2_begins 22 = .ok (.getfield 53, 3) := dk_180 0 53 (dk_at dksX2_begins_1 0 rfl rfl)
theorem dX2_begins_25 : decode cX2_begins 25 = .ok (.iload_n 1, 1) := dk_27 (dk_at dksX2_begins_1 3 rfl rfl)
theorem dX2_begins_26 : decode cX2_begins 26 = .ok (.iaload, 1) := dk_46 (dk_at dksX2_begins_1 4 rfl rfl)
theorem dX2_begins_27 : decode cX2_begins 27 = .ok (.if_icmp .eq 7, 3) := dk_159 0 7 (dk_at dksX2_begins_1 5 rfl rfl)
theorem dX2_begins_30 : decode cX2_begins 30 = .ok (.iconst 1, 1) := dk_4 (dk_at dksX2_begins_1 8 rfl rfl)
theorem dX2_begins_31 : decode cX2_begins 31 = .ok (.goto 4, 3) := dk_167 0 4 (dk_at dksX2_begins_1 9 rfl rfl)
theorem dX2_begins_34 : decode cX2_begins 34 = .ok (.iconst 0, 1) := dk_3 (dk_at dksX2_begins_1 12 rfl rfl)
theorem dX2_begins_35 : decode cX2_begins 35 = .ok (.ireturn, 1) := dk_172 (dk_at dksX2_begins_1 13 rfl rfl)
abbrev cX2_segmentStart : ByteArray := prog_8_method_31_code
def yX2_segmentStart : MethodName := ⟨RX2, "segmentStart", "(III)I"⟩
def dkwX2_segmentStart_0 : List UInt8 := [42, 27, 28, 29, 182, 0, 119, 54, 4, 21, 4, 156, 0, 7, 3, 167, 0, 5, 21, 4, 172]
abbrev dktX2_segmentStart_0 : List UInt8 := dkwX2_segmentStart_0 ++ []
theorem dksX2_segmentStart_0 : cX2_segmentStart.data.toList.drop 0 = dktX2_segmentStart_0 := by decide +kernel
theorem dX2_segmentStart_0 : decode cX2_segmentStart 0 = .ok (.aload_n 0, 1) := dk_42 (dk_at dksX2_segmentStart_0 0 rfl rfl)
theorem dX2_segmentStart_1 : decode cX2_segmentStart 1 = .ok (.iload_n 1, 1) := dk_27 (dk_at dksX2_segmentStart_0 1 rfl rfl)
theorem dX2_segmentStart_2 : decode cX2_segmentStart 2 = .ok (.iload_n 2, 1) := dk_28 (dk_at dksX2_segmentStart_0 2 rfl rfl)
theorem dX2_segmentStart_3 : decode cX2_segmentStart 3 = .ok (.iload_n 3, 1) := dk_29 (dk_at dksX2_segmentStart_0 3 rfl rfl)
theorem dX2_segmentStart_4 : decode cX2_segmentStart 4 = .ok (.invokevirtual 119, 3) := dk_182 0 119 (dk_at dksX2_segmentStart_0 4 rfl rfl)
theorem dX2_segmentStart_7 : decode cX2_segmentStart 7 = .ok (.istore 4, 2) := dk_54 4 (dk_at dksX2_segmentStart_0 7 rfl rfl)
theorem dX2_segmentStart_9 : decode cX2_segmentStart 9 = .ok (.iload 4, 2) := dk_21 4 (dk_at dksX2_segmentStart_0 9 rfl rfl)
theorem dX2_segmentStart_11 : decode cX2_segmentStart 11 = .ok (.ifCond .ge 7, 3) := dk_156 0 7 (dk_at dksX2_segmentStart_0 11 rfl rfl)
theorem dX2_segmentStart_14 : decode cX2_segmentStart 14 = .ok (.iconst 0, 1) := dk_3 (dk_at dksX2_segmentStart_0 14 rfl rfl)
theorem dX2_segmentStart_15 : decode cX2_segmentStart 15 = .ok (.goto 5, 3) := dk_167 0 5 (dk_at dksX2_segmentStart_0 15 rfl rfl)
theorem dX2_segmentStart_18 : decode cX2_segmentStart 18 = .ok (.iload 4, 2) := dk_21 4 (dk_at dksX2_segmentStart_0 18 rfl rfl)
theorem dX2_segmentStart_20 : decode cX2_segmentStart 20 = .ok (.ireturn, 1) := dk_172 (dk_at dksX2_segmentStart_0 20 rfl rfl)
abbrev cX2_found : ByteArray := prog_8_method_30_code
def yX2_found : MethodName := ⟨RX2, "found", "(III)I"⟩
def dkwX2_found_5 : List UInt8 := [156, 0, 7, 5, 167, 0, 4, 3, 181, 0, 59, 21, 4, 172]
abbrev dktX2_found_5 : List UInt8 := dkwX2_found_5 ++ []
def dkwX2_found_4 : List UInt8 := [3, 96, 54, 7, 132, 8, 1, 167, 255, 197, 42, 21, 5, 154, 0, 7, 4, 167, 0, 13, 21, 4]
abbrev dktX2_found_4 : List UInt8 := dkwX2_found_4 ++ dktX2_found_5
def dkwX2_found_3 : List UInt8 := [21, 8, 167, 0, 5, 21, 4, 54, 4, 21, 7, 42, 21, 8, 182, 0, 116, 153, 0, 7, 4, 167, 0, 4]
abbrev dktX2_found_3 : List UInt8 := dkwX2_found_3 ++ dktX2_found_4
def dkwX2_found_2 : List UInt8 := [21, 8, 17, 1, 109, 162, 0, 52, 42, 21, 8, 182, 0, 116, 153, 0, 14, 21, 7, 28, 160, 0, 8]
abbrev dktX2_found_2 : List UInt8 := dkwX2_found_2 ++ dktX2_found_3
def dkwX2_found_1 : List UInt8 := [182, 0, 112, 153, 0, 7, 4, 167, 0, 4, 3, 54, 6, 3, 54, 7, 3, 54, 8, 21, 6, 153, 0, 60]
abbrev dktX2_found_1 : List UInt8 := dkwX2_found_1 ++ dktX2_found_2
def dkwX2_found_0 : List UInt8 := [2, 54, 4, 29, 3, 42, 180, 0, 80, 184, 0, 63, 54, 5, 21, 5, 153, 0, 18, 42, 27, 3, 3, 29]
abbrev dktX2_found_0 : List UInt8 := dkwX2_found_0 ++ dktX2_found_1
theorem dksX2_found_0 : cX2_found.data.toList.drop 0 = dktX2_found_0 := by decide +kernel
theorem dksX2_found_1 : cX2_found.data.toList.drop 24 = dktX2_found_1 := dk_seg dksX2_found_0 24 rfl rfl
theorem dksX2_found_2 : cX2_found.data.toList.drop 48 = dktX2_found_2 := dk_seg dksX2_found_1 24 rfl rfl
theorem dksX2_found_3 : cX2_found.data.toList.drop 71 = dktX2_found_3 := dk_seg dksX2_found_2 23 rfl rfl
theorem dksX2_found_4 : cX2_found.data.toList.drop 95 = dktX2_found_4 := dk_seg dksX2_found_3 24 rfl rfl
theorem dksX2_found_5 : cX2_found.data.toList.drop 117 = dktX2_found_5 := dk_seg dksX2_found_4 22 rfl rfl
theorem dX2_found_0 : decode cX2_found 0 = .ok (.iconst (-1), 1) := dk_2 (dk_at dksX2_found_0 0 rfl rfl)
theorem dX2_found_1 : decode cX2_found 1 = .ok (.istore 4, 2) := dk_54 4 (dk_at dksX2_found_0 1 rfl rfl)
theorem dX2_found_3 : decode cX2_found 3 = .ok (.iload_n 3, 1) := dk_29 (dk_at dksX2_found_0 3 rfl rfl)
theorem dX2_found_4 : decode cX2_found 4 = .ok (.iconst 0, 1) := dk_3 (dk_at dksX2_found_0 4 rfl rfl)
theorem dX2_found_5 : decode cX2_found 5 = .ok (.aload_n 0, 1) := dk_42 (dk_at dksX2_found_0 5 rfl rfl)
theorem dX2_found_6 : decode cX2_found 6 = .ok (.getfield 80, 3) := dk_180 0 80 (dk_at dksX2_found_0 6 rfl rfl)
theorem dX2_found_9 : decode cX2_found 9 = .ok (.invokestatic 63, 3) := dk_184 0 63 (dk_at dksX2_found_0 9 rfl rfl)
theorem dX2_found_12 : decode cX2_found 12 = .ok (.istore 5, 2) := dk_54 5 (dk_at dksX2_found_0 12 rfl rfl)
theorem dX2_found_14 : decode cX2_found 14 = .ok (.iload 5, 2) := dk_21 5 (dk_at dksX2_found_0 14 rfl rfl)
theorem dX2_found_16 : decode cX2_found 16 = .ok (.ifCond .eq 18, 3) := dk_153 0 18 (dk_at dksX2_found_0 16 rfl rfl)
theorem dX2_found_19 : decode cX2_found 19 = .ok (.aload_n 0, 1) := dk_42 (dk_at dksX2_found_0 19 rfl rfl)
theorem dX2_found_20 : decode cX2_found 20 = .ok (.iload_n 1, 1) := dk_27 (dk_at dksX2_found_0 20 rfl rfl)
theorem dX2_found_21 : decode cX2_found 21 = .ok (.iconst 0, 1) := dk_3 (dk_at dksX2_found_0 21 rfl rfl)
theorem dX2_found_22 : decode cX2_found 22 = .ok (.iconst 0, 1) := dk_3 (dk_at dksX2_found_0 22 rfl rfl)
theorem dX2_found_23 : decode cX2_found 23 = .ok (.iload_n 3, 1) := dk_29 (dk_at dksX2_found_0 23 rfl rfl)
theorem dX2_found_24 : decode cX2_found 24 = .ok (.invokevirtual 112, 3) := dk_182 0 112 (dk_at dksX2_found_1 0 rfl rfl)
theorem dX2_found_27 : decode cX2_found 27 = .ok (.ifCond .eq 7, 3) := dk_153 0 7 (dk_at dksX2_found_1 3 rfl rfl)
theorem dX2_found_30 : decode cX2_found 30 = .ok (.iconst 1, 1) := dk_4 (dk_at dksX2_found_1 6 rfl rfl)
theorem dX2_found_31 : decode cX2_found 31 = .ok (.goto 4, 3) := dk_167 0 4 (dk_at dksX2_found_1 7 rfl rfl)
theorem dX2_found_34 : decode cX2_found 34 = .ok (.iconst 0, 1) := dk_3 (dk_at dksX2_found_1 10 rfl rfl)
theorem dX2_found_35 : decode cX2_found 35 = .ok (.istore 6, 2) := dk_54 6 (dk_at dksX2_found_1 11 rfl rfl)
theorem dX2_found_37 : decode cX2_found 37 = .ok (.iconst 0, 1) := dk_3 (dk_at dksX2_found_1 13 rfl rfl)
theorem dX2_found_38 : decode cX2_found 38 = .ok (.istore 7, 2) := dk_54 7 (dk_at dksX2_found_1 14 rfl rfl)
theorem dX2_found_40 : decode cX2_found 40 = .ok (.iconst 0, 1) := dk_3 (dk_at dksX2_found_1 16 rfl rfl)
theorem dX2_found_41 : decode cX2_found 41 = .ok (.istore 8, 2) := dk_54 8 (dk_at dksX2_found_1 17 rfl rfl)
theorem dX2_found_43 : decode cX2_found 43 = .ok (.iload 6, 2) := dk_21 6 (dk_at dksX2_found_1 19 rfl rfl)
theorem dX2_found_45 : decode cX2_found 45 = .ok (.ifCond .eq 60, 3) := dk_153 0 60 (dk_at dksX2_found_1 21 rfl rfl)
theorem dX2_found_48 : decode cX2_found 48 = .ok (.iload 8, 2) := dk_21 8 (dk_at dksX2_found_2 0 rfl rfl)
theorem dX2_found_50 : decode cX2_found 50 = .ok (.sipush 365, 3) := dk_17 1 109 (dk_at dksX2_found_2 2 rfl rfl)
theorem dX2_found_53 : decode cX2_found 53 = .ok (.if_icmp .ge 52, 3) := dk_162 0 52 (dk_at dksX2_found_2 5 rfl rfl)
theorem dX2_found_56 : decode cX2_found 56 = .ok (.aload_n 0, 1) := dk_42 (dk_at dksX2_found_2 8 rfl rfl)
theorem dX2_found_57 : decode cX2_found 57 = .ok (.iload 8, 2) := dk_21 8 (dk_at dksX2_found_2 9 rfl rfl)
theorem dX2_found_59 : decode cX2_found 59 = .ok (.invokevirtual 116, 3) := dk_182 0 116 (dk_at dksX2_found_2 11 rfl rfl)
theorem dX2_found_62 : decode cX2_found 62 = .ok (.ifCond .eq 14, 3) := dk_153 0 14 (dk_at dksX2_found_2 14 rfl rfl)
theorem dX2_found_65 : decode cX2_found 65 = .ok (.iload 7, 2) := dk_21 7 (dk_at dksX2_found_2 17 rfl rfl)
theorem dX2_found_67 : decode cX2_found 67 = .ok (.iload_n 2, 1) := dk_28 (dk_at dksX2_found_2 19 rfl rfl)
theorem dX2_found_68 : decode cX2_found 68 = .ok (.if_icmp .ne 8, 3) := dk_160 0 8 (dk_at dksX2_found_2 20 rfl rfl)
theorem dX2_found_71 : decode cX2_found 71 = .ok (.iload 8, 2) := dk_21 8 (dk_at dksX2_found_3 0 rfl rfl)
theorem dX2_found_73 : decode cX2_found 73 = .ok (.goto 5, 3) := dk_167 0 5 (dk_at dksX2_found_3 2 rfl rfl)
theorem dX2_found_76 : decode cX2_found 76 = .ok (.iload 4, 2) := dk_21 4 (dk_at dksX2_found_3 5 rfl rfl)
theorem dX2_found_78 : decode cX2_found 78 = .ok (.istore 4, 2) := dk_54 4 (dk_at dksX2_found_3 7 rfl rfl)
theorem dX2_found_80 : decode cX2_found 80 = .ok (.iload 7, 2) := dk_21 7 (dk_at dksX2_found_3 9 rfl rfl)
theorem dX2_found_82 : decode cX2_found 82 = .ok (.aload_n 0, 1) := dk_42 (dk_at dksX2_found_3 11 rfl rfl)
theorem dX2_found_83 : decode cX2_found 83 = .ok (.iload 8, 2) := dk_21 8 (dk_at dksX2_found_3 12 rfl rfl)
theorem dX2_found_85 : decode cX2_found 85 = .ok (.invokevirtual 116, 3) := dk_182 0 116 (dk_at dksX2_found_3 14 rfl rfl)
theorem dX2_found_88 : decode cX2_found 88 = .ok (.ifCond .eq 7, 3) := dk_153 0 7 (dk_at dksX2_found_3 17 rfl rfl)
theorem dX2_found_91 : decode cX2_found 91 = .ok (.iconst 1, 1) := dk_4 (dk_at dksX2_found_3 20 rfl rfl)
theorem dX2_found_92 : decode cX2_found 92 = .ok (.goto 4, 3) := dk_167 0 4 (dk_at dksX2_found_3 21 rfl rfl)
theorem dX2_found_95 : decode cX2_found 95 = .ok (.iconst 0, 1) := dk_3 (dk_at dksX2_found_4 0 rfl rfl)
theorem dX2_found_96 : decode cX2_found 96 = .ok (.iadd, 1) := dk_96 (dk_at dksX2_found_4 1 rfl rfl)
theorem dX2_found_97 : decode cX2_found 97 = .ok (.istore 7, 2) := dk_54 7 (dk_at dksX2_found_4 2 rfl rfl)
theorem dX2_found_99 : decode cX2_found 99 = .ok (.iinc 8 1, 3) := dk_132 8 1 (dk_at dksX2_found_4 4 rfl rfl)
theorem dX2_found_102 : decode cX2_found 102 = .ok (.goto (-59), 3) := dk_167 255 197 (dk_at dksX2_found_4 7 rfl rfl)
theorem dX2_found_105 : decode cX2_found 105 = .ok (.aload_n 0, 1) := dk_42 (dk_at dksX2_found_4 10 rfl rfl)
theorem dX2_found_106 : decode cX2_found 106 = .ok (.iload 5, 2) := dk_21 5 (dk_at dksX2_found_4 11 rfl rfl)
theorem dX2_found_108 : decode cX2_found 108 = .ok (.ifCond .ne 7, 3) := dk_154 0 7 (dk_at dksX2_found_4 13 rfl rfl)
theorem dX2_found_111 : decode cX2_found 111 = .ok (.iconst 1, 1) := dk_4 (dk_at dksX2_found_4 16 rfl rfl)
theorem dX2_found_112 : decode cX2_found 112 = .ok (.goto 13, 3) := dk_167 0 13 (dk_at dksX2_found_4 17 rfl rfl)
theorem dX2_found_115 : decode cX2_found 115 = .ok (.iload 4, 2) := dk_21 4 (dk_at dksX2_found_4 20 rfl rfl)
theorem dX2_found_117 : decode cX2_found 117 = .ok (.ifCond .ge 7, 3) := dk_156 0 7 (dk_at dksX2_found_5 0 rfl rfl)
theorem dX2_found_120 : decode cX2_found 120 = .ok (.iconst 2, 1) := dk_5 (dk_at dksX2_found_5 3 rfl rfl)
theorem dX2_found_121 : decode cX2_found 121 = .ok (.goto 4, 3) := dk_167 0 4 (dk_at dksX2_found_5 4 rfl rfl)
theorem dX2_found_124 : decode cX2_found 124 = .ok (.iconst 0, 1) := dk_3 (dk_at dksX2_found_5 7 rfl rfl)
theorem dX2_found_125 : decode cX2_found 125 = .ok (.putfield 59, 3) := dk_181 0 59 (dk_at dksX2_found_5 8 rfl rfl)
theorem dX2_found_128 : decode cX2_found 128 = .ok (.iload 4, 2) := dk_21 4 (dk_at dksX2_found_5 11 rfl rfl)
theorem dX2_found_130 : decode cX2_found 130 = .ok (.ireturn, 1) := dk_172 (dk_at dksX2_found_5 13 rfl rfl)
abbrev cX2_segmentPremium : ByteArray := prog_8_method_33_code
def yX2_segmentPremium : MethodName := ⟨RX2, "segmentPremium", "(III)I"⟩
def dkwX2_segmentPremium_2 : List UInt8 := [132, 5, 1, 167, 255, 228, 42, 21, 5, 182, 0, 123, 42, 21, 4, 182, 0, 123, 100, 172]
abbrev dktX2_segmentPremium_2 : List UInt8 := dkwX2_segmentPremium_2 ++ []
def dkwX2_segmentPremium_1 : List UInt8 := [17, 1, 109, 162, 0, 26, 42, 180, 0, 53, 21, 5, 46, 42, 180, 0, 53, 21, 4, 46, 160, 0, 9]
abbrev dktX2_segmentPremium_1 : List UInt8 := dkwX2_segmentPremium_1 ++ dktX2_segmentPremium_2
def dkwX2_segmentPremium_0 : List UInt8 := [42, 27, 28, 29, 182, 0, 119, 54, 4, 21, 4, 156, 0, 5, 3, 172, 21, 4, 54, 5, 21, 5]
abbrev dktX2_segmentPremium_0 : List UInt8 := dkwX2_segmentPremium_0 ++ dktX2_segmentPremium_1
theorem dksX2_segmentPremium_0 : cX2_segmentPremium.data.toList.drop 0 = dktX2_segmentPremium_0 := by decide +kernel
theorem dksX2_segmentPremium_1 : cX2_segmentPremium.data.toList.drop 22 = dktX2_segmentPremium_1 := dk_seg dksX2_segmentPremium_0 22 rfl rfl
theorem dksX2_segmentPremium_2 : cX2_segmentPremium.data.toList.drop 45 = dktX2_segmentPremium_2 := dk_seg dksX2_segmentPremium_1 23 rfl rfl
theorem dX2_segmentPremium_0 : decode cX2_segmentPremium 0 = .ok (.aload_n 0, 1) := dk_42 (dk_at dksX2_segmentPremium_0 0 rfl rfl)
theorem dX2_segmentPremium_1 : decode cX2_segmentPremium 1 = .ok (.iload_n 1, 1) := dk_27 (dk_at dksX2_segmentPremium_0 1 rfl rfl)
theorem dX2_segmentPremium_2 : decode cX2_segmentPremium 2 = .ok (.iload_n 2, 1) := dk_28 (dk_at dksX2_segmentPremium_0 2 rfl rfl)
theorem dX2_segmentPremium_3 : decode cX2_segmentPremium 3 = .ok (.iload_n 3, 1) := dk_29 (dk_at dksX2_segmentPremium_0 3 rfl rfl)
theorem dX2_segmentPremium_4 : decode cX2_segmentPremium 4 = .ok (.invokevirtual 119, 3) := dk_182 0 119 (dk_at dksX2_segmentPremium_0 4 rfl rfl)
theorem dX2_segmentPremium_7 : decode cX2_segmentPremium 7 = .ok (.istore 4, 2) := dk_54 4 (dk_at dksX2_segmentPremium_0 7 rfl rfl)
theorem dX2_segmentPremium_9 : decode cX2_segmentPremium 9 = .ok (.iload 4, 2) := dk_21 4 (dk_at dksX2_segmentPremium_0 9 rfl rfl)
theorem dX2_segmentPremium_11 : decode cX2_segmentPremium 11 = .ok (.ifCond .ge 5, 3) := dk_156 0 5 (dk_at dksX2_segmentPremium_0 11 rfl rfl)
theorem dX2_segmentPremium_14 : decode cX2_segmentPremium 14 = .ok (.iconst 0, 1) := dk_3 (dk_at dksX2_segmentPremium_0 14 rfl rfl)
theorem dX2_segmentPremium_15 : decode cX2_segmentPremium 15 = .ok (.ireturn, 1) := dk_172 (dk_at dksX2_segmentPremium_0 15 rfl rfl)
theorem dX2_segmentPremium_16 : decode cX2_segmentPremium 16 = .ok (.iload 4, 2) := dk_21 4 (dk_at dksX2_segmentPremium_0 16 rfl rfl)
theorem dX2_segmentPremium_18 : decode cX2_segmentPremium 18 = .ok (.istore 5, 2) := dk_54 5 (dk_at dksX2_segmentPremium_0 18 rfl rfl)
theorem dX2_segmentPremium_20 : decode cX2_segmentPremium 20 = .ok (.iload 5, 2) := dk_21 5 (dk_at dksX2_segmentPremium_0 20 rfl rfl)
theorem dX2_segmentPremium_22 : decode cX2_segmentPremium 22 = .ok (.sipush 365, 3) := dk_17 1 109 (dk_at dksX2_segmentPremium_1 0 rfl rfl)
theorem dX2_segmentPremium_25 : decode cX2_segmentPremium 25 = .ok (.if_icmp .ge 26, 3) := dk_162 0 26 (dk_at dksX2_segmentPremium_1 3 rfl rfl)
theorem dX2_segmentPremium_28 : decode cX2_segmentPremium 28 = .ok (.aload_n 0, 1) := dk_42 (dk_at dksX2_segmentPremium_1 6 rfl rfl)
theorem dX2_segmentPremium_29 : decode cX2_segmentPremium 29 = .ok (.getfield 53, 3) := dk_180 0 53 (dk_at dksX2_segmentPremium_1 7 rfl rfl)
theorem dX2_segmentPremium_32 : decode cX2_segmentPremium 32 = .ok (.iload 5, 2) := dk_21 5 (dk_at dksX2_segmentPremium_1 10 rfl rfl)
theorem dX2_segmentPremium_34 : decode cX2_segmentPremium 34 = .ok (.iaload, 1) := dk_46 (dk_at dksX2_segmentPremium_1 12 rfl rfl)
theorem dX2_segmentPremium_35 : decode cX2_segmentPremium 35 = .ok (.aload_n 0, 1) := dk_42 (dk_at dksX2_segmentPremium_1 13 rfl rfl)
theorem dX2_segmentPremium_36 : decode cX2_segmentPremium 36 = .ok (.getfield 53, 3) := dk_180 0 53 (dk_at dksX2_segmentPremium_1 14 rfl rfl)
theorem dX2_segmentPremium_39 : decode cX2_segmentPremium 39 = .ok (.iload 4, 2) := dk_21 4 (dk_at dksX2_segmentPremium_1 17 rfl rfl)
theorem dX2_segmentPremium_41 : decode cX2_segmentPremium 41 = .ok (.iaload, 1) := dk_46 (dk_at dksX2_segmentPremium_1 19 rfl rfl)
theorem dX2_segmentPremium_42 : decode cX2_segmentPremium 42 = .ok (.if_icmp .ne 9, 3) := dk_160 0 9 (dk_at dksX2_segmentPremium_1 20 rfl rfl)
theorem dX2_segmentPremium_45 : decode cX2_segmentPremium 45 = .ok (.iinc 5 1, 3) := dk_132 5 1 (dk_at dksX2_segmentPremium_2 0 rfl rfl)
theorem dX2_segmentPremium_48 : decode cX2_segmentPremium 48 = .ok (.goto (-28), 3) := dk_167 255 228 (dk_at dksX2_segmentPremium_2 3 rfl rfl)
theorem dX2_segmentPremium_51 : decode cX2_segmentPremium 51 = .ok (.aload_n 0, 1) := dk_42 (dk_at dksX2_segmentPremium_2 6 rfl rfl)
theorem dX2_segmentPremium_52 : decode cX2_segmentPremium 52 = .ok (.iload 5, 2) := dk_21 5 (dk_at dksX2_segmentPremium_2 7 rfl rfl)
theorem dX2_segmentPremium_54 : decode cX2_segmentPremium 54 = .ok (.invokevirtual 123, 3) := dk_182 0 123 (dk_at dksX2_segmentPremium_2 9 rfl rfl)
theorem dX2_segmentPremium_57 : decode cX2_segmentPremium 57 = .ok (.aload_n 0, 1) := dk_42 (dk_at dksX2_segmentPremium_2 12 rfl rfl)
theorem dX2_segmentPremium_58 : decode cX2_segmentPremium 58 = .ok (.iload 4, 2) := dk_21 4 (dk_at dksX2_segmentPremium_2 13 rfl rfl)
theorem dX2_segmentPremium_60 : decode cX2_segmentPremium 60 = .ok (.invokevirtual 123, 3) := dk_182 0 123 (dk_at dksX2_segmentPremium_2 15 rfl rfl)
theorem dX2_segmentPremium_63 : decode cX2_segmentPremium 63 = .ok (.isub, 1) := dk_100 (dk_at dksX2_segmentPremium_2 18 rfl rfl)
theorem dX2_segmentPremium_64 : decode cX2_segmentPremium 64 = .ok (.ireturn, 1) := dk_172 (dk_at dksX2_segmentPremium_2 19 rfl rfl)
abbrev cX2_charge : ByteArray := prog_8_method_32_code
def yX2_charge : MethodName := ⟨RX2, "charge", "(I)I"⟩
def dkwX2_charge_0 : List UInt8 := [42, 180, 0, 56, 27, 46, 17, 1, 109, 108, 172]
abbrev dktX2_charge_0 : List UInt8 := dkwX2_charge_0 ++ []
theorem dksX2_charge_0 : cX2_charge.data.toList.drop 0 = dktX2_charge_0 := by decide +kernel
theorem dX2_charge_0 : decode cX2_charge 0 = .ok (.aload_n 0, 1) := dk_42 (dk_at dksX2_charge_0 0 rfl rfl)
theorem dX2_charge_1 : decode cX2_charge 1 = .ok (.getfield 56, 3) := dk_180 0 56 (dk_at dksX2_charge_0 1 rfl rfl)
theorem dX2_charge_4 : decode cX2_charge 4 = .ok (.iload_n 1, 1) := dk_27 (dk_at dksX2_charge_0 4 rfl rfl)
theorem dX2_charge_5 : decode cX2_charge 5 = .ok (.iaload, 1) := dk_46 (dk_at dksX2_charge_0 5 rfl rfl)
theorem dX2_charge_6 : decode cX2_charge 6 = .ok (.sipush 365, 3) := dk_17 1 109 (dk_at dksX2_charge_0 6 rfl rfl)
theorem dX2_charge_9 : decode cX2_charge 9 = .ok (.idiv, 1) := dk_108 (dk_at dksX2_charge_0 9 rfl rfl)
theorem dX2_charge_10 : decode cX2_charge 10 = .ok (.ireturn, 1) := dk_172 (dk_at dksX2_charge_0 10 rfl rfl)
abbrev cX2_premium : ByteArray := prog_8_method_35_code
def yX2_premium : MethodName := ⟨RX2, "premium", "(II)I"⟩
def dkwX2_premium_0 : List UInt8 := [42, 27, 28, 182, 0, 126, 172]
abbrev dktX2_premium_0 : List UInt8 := dkwX2_premium_0 ++ []
theorem dksX2_premium_0 : cX2_premium.data.toList.drop 0 = dktX2_premium_0 := by decide +kernel
theorem dX2_premium_0 : decode cX2_premium 0 = .ok (.aload_n 0, 1) := dk_42 (dk_at dksX2_premium_0 0 rfl rfl)
theorem dX2_premium_1 : decode cX2_premium 1 = .ok (.iload_n 1, 1) := dk_27 (dk_at dksX2_premium_0 1 rfl rfl)
theorem dX2_premium_2 : decode cX2_premium 2 = .ok (.iload_n 2, 1) := dk_28 (dk_at dksX2_premium_0 2 rfl rfl)
theorem dX2_premium_3 : decode cX2_premium 3 = .ok (.invokevirtual 126, 3) := dk_182 0 126 (dk_at dksX2_premium_0 3 rfl rfl)
theorem dX2_premium_6 : decode cX2_premium 6 = .ok (.ireturn, 1) := dk_172 (dk_at dksX2_premium_0 6 rfl rfl)
abbrev cX2_all : ByteArray := prog_8_method_34_code
def yX2_all : MethodName := ⟨RX2, "all", "(II)I"⟩
def dkwX2_all_0 : List UInt8 := [42, 27, 3, 3, 28, 182, 0, 112, 153, 0, 13, 42, 17, 1, 109, 182, 0, 123, 167, 0, 4, 3, 172]
abbrev dktX2_all_0 : List UInt8 := dkwX2_all_0 ++ []
theorem dksX2_all_0 : cX2_all.data.toList.drop 0 = dktX2_all_0 := by decide +kernel
theorem dX2_all_0 : decode cX2_all 0 = .ok (.aload_n 0, 1) := dk_42 (dk_at dksX2_all_0 0 rfl rfl)
theorem dX2_all_1 : decode cX2_all 1 = .ok (.iload_n 1, 1) := dk_27 (dk_at dksX2_all_0 1 rfl rfl)
theorem dX2_all_2 : decode cX2_all 2 = .ok (.iconst 0, 1) := dk_3 (dk_at dksX2_all_0 2 rfl rfl)
theorem dX2_all_3 : decode cX2_all 3 = .ok (.iconst 0, 1) := dk_3 (dk_at dksX2_all_0 3 rfl rfl)
theorem dX2_all_4 : decode cX2_all 4 = .ok (.iload_n 2, 1) := dk_28 (dk_at dksX2_all_0 4 rfl rfl)
theorem dX2_all_5 : decode cX2_all 5 = .ok (.invokevirtual 112, 3) := dk_182 0 112 (dk_at dksX2_all_0 5 rfl rfl)
theorem dX2_all_8 : decode cX2_all 8 = .ok (.ifCond .eq 13, 3) := dk_153 0 13 (dk_at dksX2_all_0 8 rfl rfl)
theorem dX2_all_11 : decode cX2_all 11 = .ok (.aload_n 0, 1) := dk_42 (dk_at dksX2_all_0 11 rfl rfl)
theorem dX2_all_12 : decode cX2_all 12 = .ok (.sipush 365, 3) := dk_17 1 109 (dk_at dksX2_all_0 12 rfl rfl)
theorem dX2_all_15 : decode cX2_all 15 = .ok (.invokevirtual 123, 3) := dk_182 0 123 (dk_at dksX2_all_0 15 rfl rfl)
theorem dX2_all_18 : decode cX2_all 18 = .ok (.goto 4, 3) := dk_167 0 4 (dk_at dksX2_all_0 18 rfl rfl)
theorem dX2_all_21 : decode cX2_all 21 = .ok (.iconst 0, 1) := dk_3 (dk_at dksX2_all_0 21 rfl rfl)
theorem dX2_all_22 : decode cX2_all 22 = .ok (.ireturn, 1) := dk_172 (dk_at dksX2_all_0 22 rfl rfl)
abbrev cX2_premiumByDays : ByteArray := prog_8_method_36_code
def yX2_premiumByDays : MethodName := ⟨RX2, "premiumByDays", "(II)I"⟩
def dkwX2_premiumByDays_0 : List UInt8 := [42, 27, 28, 182, 0, 126, 172]
abbrev dktX2_premiumByDays_0 : List UInt8 := dkwX2_premiumByDays_0 ++ []
theorem dksX2_premiumByDays_0 : cX2_premiumByDays.data.toList.drop 0 = dktX2_premiumByDays_0 := by decide +kernel
theorem dX2_premiumByDays_0 : decode cX2_premiumByDays 0 = .ok (.aload_n 0, 1) := dk_42 (dk_at dksX2_premiumByDays_0 0 rfl rfl)
theorem dX2_premiumByDays_1 : decode cX2_premiumByDays 1 = .ok (.iload_n 1, 1) := dk_27 (dk_at dksX2_premiumByDays_0 1 rfl rfl)
theorem dX2_premiumByDays_2 : decode cX2_premiumByDays 2 = .ok (.iload_n 2, 1) := dk_28 (dk_at dksX2_premiumByDays_0 2 rfl rfl)
theorem dX2_premiumByDays_3 : decode cX2_premiumByDays 3 = .ok (.invokevirtual 126, 3) := dk_182 0 126 (dk_at dksX2_premiumByDays_0 3 rfl rfl)
theorem dX2_premiumByDays_6 : decode cX2_premiumByDays 6 = .ok (.ireturn, 1) := dk_172 (dk_at dksX2_premiumByDays_0 6 rfl rfl)
abbrev cX2_bill : ByteArray := prog_8_method_37_code
def yX2_bill : MethodName := ⟨RX2, "bill", "(I)I"⟩
def dkwX2_bill_1 : List UInt8 := [27, 46, 100, 62, 42, 180, 0, 13, 27, 28, 79, 29, 172]
abbrev dktX2_bill_1 : List UInt8 := dkwX2_bill_1 ++ []
def dkwX2_bill_0 : List UInt8 := [42, 27, 42, 180, 0, 80, 182, 0, 126, 61, 42, 180, 0, 59, 158, 0, 5, 3, 172, 28, 42, 180, 0, 13]
abbrev dktX2_bill_0 : List UInt8 := dkwX2_bill_0 ++ dktX2_bill_1
theorem dksX2_bill_0 : cX2_bill.data.toList.drop 0 = dktX2_bill_0 := by decide +kernel
theorem dksX2_bill_1 : cX2_bill.data.toList.drop 24 = dktX2_bill_1 := dk_seg dksX2_bill_0 24 rfl rfl
theorem dX2_bill_0 : decode cX2_bill 0 = .ok (.aload_n 0, 1) := dk_42 (dk_at dksX2_bill_0 0 rfl rfl)
theorem dX2_bill_1 : decode cX2_bill 1 = .ok (.iload_n 1, 1) := dk_27 (dk_at dksX2_bill_0 1 rfl rfl)
theorem dX2_bill_2 : decode cX2_bill 2 = .ok (.aload_n 0, 1) := dk_42 (dk_at dksX2_bill_0 2 rfl rfl)
theorem dX2_bill_3 : decode cX2_bill 3 = .ok (.getfield 80, 3) := dk_180 0 80 (dk_at dksX2_bill_0 3 rfl rfl)
theorem dX2_bill_6 : decode cX2_bill 6 = .ok (.invokevirtual 126, 3) := dk_182 0 126 (dk_at dksX2_bill_0 6 rfl rfl)
theorem dX2_bill_9 : decode cX2_bill 9 = .ok (.istore_n 2, 1) := dk_61 (dk_at dksX2_bill_0 9 rfl rfl)
theorem dX2_bill_10 : decode cX2_bill 10 = .ok (.aload_n 0, 1) := dk_42 (dk_at dksX2_bill_0 10 rfl rfl)
theorem dX2_bill_11 : decode cX2_bill 11 = .ok (.getfield 59, 3) := dk_180 0 59 (dk_at dksX2_bill_0 11 rfl rfl)
theorem dX2_bill_14 : decode cX2_bill 14 = .ok (.ifCond .le 5, 3) := dk_158 0 5 (dk_at dksX2_bill_0 14 rfl rfl)
theorem dX2_bill_17 : decode cX2_bill 17 = .ok (.iconst 0, 1) := dk_3 (dk_at dksX2_bill_0 17 rfl rfl)
theorem dX2_bill_18 : decode cX2_bill 18 = .ok (.ireturn, 1) := dk_172 (dk_at dksX2_bill_0 18 rfl rfl)
theorem dX2_bill_19 : decode cX2_bill 19 = .ok (.iload_n 2, 1) := dk_28 (dk_at dksX2_bill_0 19 rfl rfl)
theorem dX2_bill_20 : decode cX2_bill 20 = .ok (.aload_n 0, 1) := dk_42 (dk_at dksX2_bill_0 20 rfl rfl)
theorem dX2_bill_21 : decode cX2_bill 21 = .ok (.getfield 13, 3) := dk_180 0 13 (dk_at dksX2_bill_0 21 rfl rfl)
theorem dX2_bill_24 : decode cX2_bill 24 = .ok (.iload_n 1, 1) := dk_27 (dk_at dksX2_bill_1 0 rfl rfl)
theorem dX2_bill_25 : decode cX2_bill 25 = .ok (.iaload, 1) := dk_46 (dk_at dksX2_bill_1 1 rfl rfl)
theorem dX2_bill_26 : decode cX2_bill 26 = .ok (.isub, 1) := dk_100 (dk_at dksX2_bill_1 2 rfl rfl)
theorem dX2_bill_27 : decode cX2_bill 27 = .ok (.istore_n 3, 1) := dk_62 (dk_at dksX2_bill_1 3 rfl rfl)
theorem dX2_bill_28 : decode cX2_bill 28 = .ok (.aload_n 0, 1) := dk_42 (dk_at dksX2_bill_1 4 rfl rfl)
theorem dX2_bill_29 : decode cX2_bill 29 = .ok (.getfield 13, 3) := dk_180 0 13 (dk_at dksX2_bill_1 5 rfl rfl)
theorem dX2_bill_32 : decode cX2_bill 32 = .ok (.iload_n 1, 1) := dk_27 (dk_at dksX2_bill_1 8 rfl rfl)
theorem dX2_bill_33 : decode cX2_bill 33 = .ok (.iload_n 2, 1) := dk_28 (dk_at dksX2_bill_1 9 rfl rfl)
theorem dX2_bill_34 : decode cX2_bill 34 = .ok (.iastore, 1) := dk_79 (dk_at dksX2_bill_1 10 rfl rfl)
theorem dX2_bill_35 : decode cX2_bill 35 = .ok (.iload_n 3, 1) := dk_29 (dk_at dksX2_bill_1 11 rfl rfl)
theorem dX2_bill_36 : decode cX2_bill 36 = .ok (.ireturn, 1) := dk_172 (dk_at dksX2_bill_1 12 rfl rfl)
abbrev cX2_billed : ByteArray := prog_8_method_38_code
def yX2_billed : MethodName := ⟨RX2, "billed", "(I)I"⟩
def dkwX2_billed_1 : List UInt8 := [3, 167, 0, 9, 42, 180, 0, 13, 27, 46, 172]
abbrev dktX2_billed_1 : List UInt8 := dkwX2_billed_1 ++ []
def dkwX2_billed_0 : List UInt8 := [42, 42, 27, 182, 0, 83, 153, 0, 7, 3, 167, 0, 4, 4, 181, 0, 59, 42, 180, 0, 59, 158, 0, 7]
abbrev dktX2_billed_0 : List UInt8 := dkwX2_billed_0 ++ dktX2_billed_1
theorem dksX2_billed_0 : cX2_billed.data.toList.drop 0 = dktX2_billed_0 := by decide +kernel
theorem dksX2_billed_1 : cX2_billed.data.toList.drop 24 = dktX2_billed_1 := dk_seg dksX2_billed_0 24 rfl rfl
theorem dX2_billed_0 : decode cX2_billed 0 = .ok (.aload_n 0, 1) := dk_42 (dk_at dksX2_billed_0 0 rfl rfl)
theorem dX2_billed_1 : decode cX2_billed 1 = .ok (.aload_n 0, 1) := dk_42 (dk_at dksX2_billed_0 1 rfl rfl)
theorem dX2_billed_2 : decode cX2_billed 2 = .ok (.iload_n 1, 1) := dk_27 (dk_at dksX2_billed_0 2 rfl rfl)
theorem dX2_billed_3 : decode cX2_billed 3 = .ok (.invokevirtual 83, 3) := dk_182 0 83 (dk_at dksX2_billed_0 3 rfl rfl)
theorem dX2_billed_6 : decode cX2_billed 6 = .ok (.ifCond .eq 7, 3) := dk_153 0 7 (dk_at dksX2_billed_0 6 rfl rfl)
theorem dX2_billed_9 : decode cX2_billed 9 = .ok (.iconst 0, 1) := dk_3 (dk_at dksX2_billed_0 9 rfl rfl)
theorem dX2_billed_10 : decode cX2_billed 10 = .ok (.goto 4, 3) := dk_167 0 4 (dk_at dksX2_billed_0 10 rfl rfl)
theorem dX2_billed_13 : decode cX2_billed 13 = .ok (.iconst 1, 1) := dk_4 (dk_at dksX2_billed_0 13 rfl rfl)
theorem dX2_billed_14 : decode cX2_billed 14 = .ok (.putfield 59, 3) := dk_181 0 59 (dk_at dksX2_billed_0 14 rfl rfl)
theorem dX2_billed_17 : decode cX2_billed 17 = .ok (.aload_n 0, 1) := dk_42 (dk_at dksX2_billed_0 17 rfl rfl)
theorem dX2_billed_18 : decode cX2_billed 18 = .ok (.getfield 59, 3) := dk_180 0 59 (dk_at dksX2_billed_0 18 rfl rfl)
theorem dX2_billed_21 : decode cX2_billed 21 = .ok (.ifCond .le 7, 3) := dk_158 0 7 (dk_at dksX2_billed_0 21 rfl rfl)
theorem dX2_billed_24 : decode cX2_billed 24 = .ok (.iconst 0, 1) := dk_3 (dk_at dksX2_billed_1 0 rfl rfl)
theorem dX2_billed_25 : decode cX2_billed 25 = .ok (.goto 9, 3) := dk_167 0 9 (dk_at dksX2_billed_1 1 rfl rfl)
theorem dX2_billed_28 : decode cX2_billed 28 = .ok (.aload_n 0, 1) := dk_42 (dk_at dksX2_billed_1 4 rfl rfl)
theorem dX2_billed_29 : decode cX2_billed 29 = .ok (.getfield 13, 3) := dk_180 0 13 (dk_at dksX2_billed_1 5 rfl rfl)
theorem dX2_billed_32 : decode cX2_billed 32 = .ok (.iload_n 1, 1) := dk_27 (dk_at dksX2_billed_1 8 rfl rfl)
theorem dX2_billed_33 : decode cX2_billed 33 = .ok (.iaload, 1) := dk_46 (dk_at dksX2_billed_1 9 rfl rfl)
theorem dX2_billed_34 : decode cX2_billed 34 = .ok (.ireturn, 1) := dk_172 (dk_at dksX2_billed_1 10 rfl rfl)
theorem q40 : (Jvm.Cond.initialized "BackdaterModel") ∈ lw_all := lw_g (lw_at lw_m1 5 rfl) rfl
theorem q346 : (Jvm.Cond.selects "BackdaterModel" ({ cls := "java/lang/Object", name := "getClass", desc := "()Ljava/lang/Class;" } : Jvm.MethodName) ({ cls := "java/lang/Object", name := "getClass", desc := "()Ljava/lang/Class;" } : Jvm.MethodName)) ∈ lw_all := lw_g (lw_at lw_m2 71 rfl) rfl
theorem q1290 : (Jvm.Cond.instantiable "BackdaterModel" (21 : Nat)) ∈ lw_all := lw_g (lw_at lw_m6 55 rfl) rfl
theorem q1292 : (Jvm.Cond.instanceMethod ({ cls := "BackdaterModel", name := "<init>", desc := "()V" } : Jvm.MethodName)) ∈ lw_all := lw_g (lw_at lw_m6 57 rfl) rfl
theorem q1293 : (Jvm.Cond.code ({ cls := "BackdaterModel", name := "<init>", desc := "()V" } : Jvm.MethodName) prog_8_method_1_code (1 : Nat) (Option.none : Option Jvm.ClassFile.FieldType)) ∈ lw_all := lw_g (lw_at lw_m6 58 rfl) rfl
theorem q1294 : (Jvm.Cond.methodLink "BackdaterModel" (1 : Nat) ({ cls := "java/lang/Object", name := "<init>", desc := "()V" } : Jvm.MethodName)) ∈ lw_all := lw_g (lw_at lw_m6 59 rfl) rfl
theorem q1295 : (Jvm.Cond.fieldLink "BackdaterModel" (67 : Nat) "BackdaterModel" "policies" "I") ∈ lw_all := lw_g (lw_at lw_m6 60 rfl) rfl
theorem q1296 : (Jvm.Cond.fieldLink "BackdaterModel" (7 : Nat) "BackdaterModel" "base" "[I") ∈ lw_all := lw_g (lw_at lw_m6 61 rfl) rfl
theorem q1297 : (Jvm.Cond.fieldLink "BackdaterModel" (13 : Nat) "BackdaterModel" "paid" "[I") ∈ lw_all := lw_g (lw_at lw_m6 62 rfl) rfl
theorem q1298 : (Jvm.Cond.fieldLink "BackdaterModel" (80 : Nat) "BackdaterModel" "today" "I") ∈ lw_all := lw_g (lw_at lw_m6 63 rfl) rfl
theorem q1299 : (Jvm.Cond.fieldLink "BackdaterModel" (77 : Nat) "BackdaterModel" "tariffs" "I") ∈ lw_all := lw_g (lw_at lw_m6 64 rfl) rfl
theorem q1300 : (Jvm.Cond.fieldLink "BackdaterModel" (16 : Nat) "BackdaterModel" "field" "[I") ∈ lw_all := lw_g (lw_at lw_m6 65 rfl) rfl
theorem q1301 : (Jvm.Cond.fieldLink "BackdaterModel" (19 : Nat) "BackdaterModel" "weight" "[I") ∈ lw_all := lw_g (lw_at lw_m6 66 rfl) rfl
theorem q1302 : (Jvm.Cond.fieldLink "BackdaterModel" (22 : Nat) "BackdaterModel" "since" "[I") ∈ lw_all := lw_g (lw_at lw_m6 67 rfl) rfl
theorem q1303 : (Jvm.Cond.fieldLink "BackdaterModel" (86 : Nat) "BackdaterModel" "changes" "I") ∈ lw_all := lw_g (lw_at lw_m6 68 rfl) rfl
theorem q1304 : (Jvm.Cond.fieldLink "BackdaterModel" (25 : Nat) "BackdaterModel" "of" "[I") ∈ lw_all := lw_g (lw_at lw_m6 69 rfl) rfl
theorem q1305 : (Jvm.Cond.fieldLink "BackdaterModel" (28 : Nat) "BackdaterModel" "kind" "[I") ∈ lw_all := lw_g (lw_at lw_m6 70 rfl) rfl
theorem q1306 : (Jvm.Cond.fieldLink "BackdaterModel" (31 : Nat) "BackdaterModel" "which" "[I") ∈ lw_all := lw_g (lw_at lw_m6 71 rfl) rfl
theorem q1307 : (Jvm.Cond.fieldLink "BackdaterModel" (34 : Nat) "BackdaterModel" "from" "[I") ∈ lw_all := lw_g (lw_at lw_m6 72 rfl) rfl
theorem q1308 : (Jvm.Cond.fieldLink "BackdaterModel" (37 : Nat) "BackdaterModel" "number" "[I") ∈ lw_all := lw_g (lw_at lw_m6 73 rfl) rfl
theorem q1309 : (Jvm.Cond.fieldLink "BackdaterModel" (40 : Nat) "BackdaterModel" "told" "[I") ∈ lw_all := lw_g (lw_at lw_m6 74 rfl) rfl
theorem q1310 : (Jvm.Cond.fieldLink "BackdaterModel" (43 : Nat) "BackdaterModel" "taken" "[I") ∈ lw_all := lw_g (lw_at lw_m6 75 rfl) rfl
theorem q1311 : (Jvm.Cond.fieldLink "BackdaterModel" (46 : Nat) "BackdaterModel" "value" "[I") ∈ lw_all := lw_g (lw_at lw_m6 76 rfl) rfl
theorem q1312 : (Jvm.Cond.fieldLink "BackdaterModel" (49 : Nat) "BackdaterModel" "covered" "[Z") ∈ lw_all := lw_g (lw_at lw_m6 77 rfl) rfl
theorem q1313 : (Jvm.Cond.fieldLink "BackdaterModel" (53 : Nat) "BackdaterModel" "rate" "[I") ∈ lw_all := lw_g (lw_at lw_m6 78 rfl) rfl
theorem q1314 : (Jvm.Cond.fieldLink "BackdaterModel" (56 : Nat) "BackdaterModel" "sum" "[I") ∈ lw_all := lw_g (lw_at lw_m6 79 rfl) rfl
theorem q1315 : (Jvm.Cond.fieldLink "BackdaterModel" (59 : Nat) "BackdaterModel" "thrown" "I") ∈ lw_all := lw_g (lw_at lw_m6 80 rfl) rfl
theorem q1316 : (Jvm.Cond.lays "BackdaterModel" "BackdaterModel" "policies" "I") ∈ lw_all := lw_g (lw_at lw_m6 81 rfl) rfl
theorem q1317 : (Jvm.Cond.soleField "BackdaterModel" "policies") ∈ lw_all := lw_g (lw_at lw_m6 82 rfl) rfl
theorem q1318 : (Jvm.Cond.laysFinal "BackdaterModel" "BackdaterModel" "base" "[I") ∈ lw_all := lw_g (lw_at lw_m6 83 rfl) rfl
theorem q1319 : (Jvm.Cond.soleField "BackdaterModel" "base") ∈ lw_all := lw_g (lw_at lw_m6 84 rfl) rfl
theorem q1320 : (Jvm.Cond.laysFinal "BackdaterModel" "BackdaterModel" "paid" "[I") ∈ lw_all := lw_g (lw_at lw_m6 85 rfl) rfl
theorem q1321 : (Jvm.Cond.soleField "BackdaterModel" "paid") ∈ lw_all := lw_g (lw_at lw_m6 86 rfl) rfl
theorem q1322 : (Jvm.Cond.lays "BackdaterModel" "BackdaterModel" "today" "I") ∈ lw_all := lw_g (lw_at lw_m6 87 rfl) rfl
theorem q1323 : (Jvm.Cond.soleField "BackdaterModel" "today") ∈ lw_all := lw_g (lw_at lw_m6 88 rfl) rfl
theorem q1324 : (Jvm.Cond.lays "BackdaterModel" "BackdaterModel" "tariffs" "I") ∈ lw_all := lw_g (lw_at lw_m6 89 rfl) rfl
theorem q1325 : (Jvm.Cond.soleField "BackdaterModel" "tariffs") ∈ lw_all := lw_g (lw_at lw_m6 90 rfl) rfl
theorem q1326 : (Jvm.Cond.laysFinal "BackdaterModel" "BackdaterModel" "field" "[I") ∈ lw_all := lw_g (lw_at lw_m6 91 rfl) rfl
theorem q1327 : (Jvm.Cond.soleField "BackdaterModel" "field") ∈ lw_all := lw_g (lw_at lw_m6 92 rfl) rfl
theorem q1328 : (Jvm.Cond.laysFinal "BackdaterModel" "BackdaterModel" "weight" "[I") ∈ lw_all := lw_g (lw_at lw_m6 93 rfl) rfl
theorem q1329 : (Jvm.Cond.soleField "BackdaterModel" "weight") ∈ lw_all := lw_g (lw_at lw_m6 94 rfl) rfl
theorem q1330 : (Jvm.Cond.laysFinal "BackdaterModel" "BackdaterModel" "since" "[I") ∈ lw_all := lw_g (lw_at lw_m6 95 rfl) rfl
theorem q1331 : (Jvm.Cond.soleField "BackdaterModel" "since") ∈ lw_all := lw_g (lw_at lw_m6 96 rfl) rfl
theorem q1332 : (Jvm.Cond.lays "BackdaterModel" "BackdaterModel" "changes" "I") ∈ lw_all := lw_g (lw_at lw_m6 97 rfl) rfl
theorem q1333 : (Jvm.Cond.soleField "BackdaterModel" "changes") ∈ lw_all := lw_g (lw_at lw_m6 98 rfl) rfl
theorem q1334 : (Jvm.Cond.laysFinal "BackdaterModel" "BackdaterModel" "of" "[I") ∈ lw_all := lw_g (lw_at lw_m6 99 rfl) rfl
theorem q1335 : (Jvm.Cond.soleField "BackdaterModel" "of") ∈ lw_all := lw_g (lw_at lw_m6 100 rfl) rfl
theorem q1336 : (Jvm.Cond.laysFinal "BackdaterModel" "BackdaterModel" "kind" "[I") ∈ lw_all := lw_g (lw_at lw_m6 101 rfl) rfl
theorem q1337 : (Jvm.Cond.soleField "BackdaterModel" "kind") ∈ lw_all := lw_g (lw_at lw_m6 102 rfl) rfl
theorem q1338 : (Jvm.Cond.laysFinal "BackdaterModel" "BackdaterModel" "which" "[I") ∈ lw_all := lw_g (lw_at lw_m6 103 rfl) rfl
theorem q1339 : (Jvm.Cond.soleField "BackdaterModel" "which") ∈ lw_all := lw_g (lw_at lw_m6 104 rfl) rfl
theorem q1340 : (Jvm.Cond.laysFinal "BackdaterModel" "BackdaterModel" "from" "[I") ∈ lw_all := lw_g (lw_at lw_m6 105 rfl) rfl
theorem q1341 : (Jvm.Cond.soleField "BackdaterModel" "from") ∈ lw_all := lw_g (lw_at lw_m6 106 rfl) rfl
theorem q1342 : (Jvm.Cond.laysFinal "BackdaterModel" "BackdaterModel" "number" "[I") ∈ lw_all := lw_g (lw_at lw_m6 107 rfl) rfl
theorem q1343 : (Jvm.Cond.soleField "BackdaterModel" "number") ∈ lw_all := lw_g (lw_at lw_m6 108 rfl) rfl
theorem q1344 : (Jvm.Cond.laysFinal "BackdaterModel" "BackdaterModel" "told" "[I") ∈ lw_all := lw_g (lw_at lw_m6 109 rfl) rfl
theorem q1345 : (Jvm.Cond.soleField "BackdaterModel" "told") ∈ lw_all := lw_g (lw_at lw_m6 110 rfl) rfl
theorem q1346 : (Jvm.Cond.laysFinal "BackdaterModel" "BackdaterModel" "taken" "[I") ∈ lw_all := lw_g (lw_at lw_m6 111 rfl) rfl
theorem q1347 : (Jvm.Cond.soleField "BackdaterModel" "taken") ∈ lw_all := lw_g (lw_at lw_m6 112 rfl) rfl
theorem q1348 : (Jvm.Cond.laysFinal "BackdaterModel" "BackdaterModel" "value" "[I") ∈ lw_all := lw_g (lw_at lw_m6 113 rfl) rfl
theorem q1349 : (Jvm.Cond.soleField "BackdaterModel" "value") ∈ lw_all := lw_g (lw_at lw_m6 114 rfl) rfl
theorem q1350 : (Jvm.Cond.laysFinal "BackdaterModel" "BackdaterModel" "covered" "[Z") ∈ lw_all := lw_g (lw_at lw_m6 115 rfl) rfl
theorem q1351 : (Jvm.Cond.soleField "BackdaterModel" "covered") ∈ lw_all := lw_g (lw_at lw_m6 116 rfl) rfl
theorem q1352 : (Jvm.Cond.laysFinal "BackdaterModel" "BackdaterModel" "rate" "[I") ∈ lw_all := lw_g (lw_at lw_m6 117 rfl) rfl
theorem q1353 : (Jvm.Cond.soleField "BackdaterModel" "rate") ∈ lw_all := lw_g (lw_at lw_m6 118 rfl) rfl
theorem q1354 : (Jvm.Cond.laysFinal "BackdaterModel" "BackdaterModel" "sum" "[I") ∈ lw_all := lw_g (lw_at lw_m6 119 rfl) rfl
theorem q1355 : (Jvm.Cond.soleField "BackdaterModel" "sum") ∈ lw_all := lw_g (lw_at lw_m6 120 rfl) rfl
theorem q1356 : (Jvm.Cond.lays "BackdaterModel" "BackdaterModel" "thrown" "I") ∈ lw_all := lw_g (lw_at lw_m6 121 rfl) rfl
theorem q1357 : (Jvm.Cond.soleField "BackdaterModel" "thrown") ∈ lw_all := lw_g (lw_at lw_m6 122 rfl) rfl
theorem q1358 : (Jvm.Cond.superclass "BackdaterModel" "java/lang/Object") ∈ lw_all := lw_g (lw_at lw_m6 123 rfl) rfl
theorem q1361 : (Jvm.Cond.instanceMethod ({ cls := "BackdaterModel", name := "thrown", desc := "()I" } : Jvm.MethodName)) ∈ lw_all := lw_g (lw_at lw_m6 126 rfl) rfl
theorem q1362 : (Jvm.Cond.selects "BackdaterModel" ({ cls := "BackdaterModel", name := "thrown", desc := "()I" } : Jvm.MethodName) ({ cls := "BackdaterModel", name := "thrown", desc := "()I" } : Jvm.MethodName)) ∈ lw_all := lw_g (lw_at lw_m6 127 rfl) rfl
theorem q1363 : (Jvm.Cond.code ({ cls := "BackdaterModel", name := "thrown", desc := "()I" } : Jvm.MethodName) prog_8_method_2_code (1 : Nat) (Option.some Jvm.ClassFile.FieldType.int)) ∈ lw_all := lw_g (lw_at lw_m6 128 rfl) rfl
theorem q1365 : (Jvm.Cond.instanceMethod ({ cls := "BackdaterModel", name := "open", desc := "(I)I" } : Jvm.MethodName)) ∈ lw_all := lw_g (lw_at lw_m6 130 rfl) rfl
theorem q1366 : (Jvm.Cond.selects "BackdaterModel" ({ cls := "BackdaterModel", name := "open", desc := "(I)I" } : Jvm.MethodName) ({ cls := "BackdaterModel", name := "open", desc := "(I)I" } : Jvm.MethodName)) ∈ lw_all := lw_g (lw_at lw_m6 131 rfl) rfl
theorem q1367 : (Jvm.Cond.code ({ cls := "BackdaterModel", name := "open", desc := "(I)I" } : Jvm.MethodName) prog_8_method_7_code (2 : Nat) (Option.some Jvm.ClassFile.FieldType.int)) ∈ lw_all := lw_g (lw_at lw_m6 132 rfl) rfl
theorem q1368 : (Jvm.Cond.methodLink "BackdaterModel" (63 : Nat) ({ cls := "BackdaterModel", name := "isIn", desc := "(III)Z" } : Jvm.MethodName)) ∈ lw_all := lw_g (lw_at lw_m6 133 rfl) rfl
theorem q1369 : (Jvm.Cond.static ({ cls := "BackdaterModel", name := "isIn", desc := "(III)Z" } : Jvm.MethodName)) ∈ lw_all := lw_g (lw_at lw_m6 134 rfl) rfl
theorem q1370 : (Jvm.Cond.code ({ cls := "BackdaterModel", name := "isIn", desc := "(III)Z" } : Jvm.MethodName) prog_8_method_3_code (3 : Nat) (Option.some Jvm.ClassFile.FieldType.boolean)) ∈ lw_all := lw_g (lw_at lw_m6 135 rfl) rfl
theorem q1372 : (Jvm.Cond.instanceMethod ({ cls := "BackdaterModel", name := "setWeight", desc := "(III)I" } : Jvm.MethodName)) ∈ lw_all := lw_g (lw_at lw_m6 137 rfl) rfl
theorem q1373 : (Jvm.Cond.selects "BackdaterModel" ({ cls := "BackdaterModel", name := "setWeight", desc := "(III)I" } : Jvm.MethodName) ({ cls := "BackdaterModel", name := "setWeight", desc := "(III)I" } : Jvm.MethodName)) ∈ lw_all := lw_g (lw_at lw_m6 138 rfl) rfl
theorem q1374 : (Jvm.Cond.code ({ cls := "BackdaterModel", name := "setWeight", desc := "(III)I" } : Jvm.MethodName) prog_8_method_8_code (4 : Nat) (Option.some Jvm.ClassFile.FieldType.int)) ∈ lw_all := lw_g (lw_at lw_m6 139 rfl) rfl
theorem q1375 : (Jvm.Cond.methodLink "BackdaterModel" (70 : Nat) ({ cls := "BackdaterModel", name := "isField", desc := "(I)Z" } : Jvm.MethodName)) ∈ lw_all := lw_g (lw_at lw_m6 140 rfl) rfl
theorem q1376 : (Jvm.Cond.static ({ cls := "BackdaterModel", name := "isField", desc := "(I)Z" } : Jvm.MethodName)) ∈ lw_all := lw_g (lw_at lw_m6 141 rfl) rfl
theorem q1377 : (Jvm.Cond.code ({ cls := "BackdaterModel", name := "isField", desc := "(I)Z" } : Jvm.MethodName) prog_8_method_6_code (1 : Nat) (Option.some Jvm.ClassFile.FieldType.boolean)) ∈ lw_all := lw_g (lw_at lw_m6 142 rfl) rfl
theorem q1378 : (Jvm.Cond.methodLink "BackdaterModel" (74 : Nat) ({ cls := "BackdaterModel", name := "isDay", desc := "(I)Z" } : Jvm.MethodName)) ∈ lw_all := lw_g (lw_at lw_m6 143 rfl) rfl
theorem q1379 : (Jvm.Cond.static ({ cls := "BackdaterModel", name := "isDay", desc := "(I)Z" } : Jvm.MethodName)) ∈ lw_all := lw_g (lw_at lw_m6 144 rfl) rfl
theorem q1380 : (Jvm.Cond.code ({ cls := "BackdaterModel", name := "isDay", desc := "(I)Z" } : Jvm.MethodName) prog_8_method_4_code (1 : Nat) (Option.some Jvm.ClassFile.FieldType.boolean)) ∈ lw_all := lw_g (lw_at lw_m6 145 rfl) rfl
theorem q1382 : (Jvm.Cond.instanceMethod ({ cls := "BackdaterModel", name := "pass", desc := "(I)I" } : Jvm.MethodName)) ∈ lw_all := lw_g (lw_at lw_m6 147 rfl) rfl
theorem q1383 : (Jvm.Cond.selects "BackdaterModel" ({ cls := "BackdaterModel", name := "pass", desc := "(I)I" } : Jvm.MethodName) ({ cls := "BackdaterModel", name := "pass", desc := "(I)I" } : Jvm.MethodName)) ∈ lw_all := lw_g (lw_at lw_m6 148 rfl) rfl
theorem q1384 : (Jvm.Cond.code ({ cls := "BackdaterModel", name := "pass", desc := "(I)I" } : Jvm.MethodName) prog_8_method_9_code (2 : Nat) (Option.some Jvm.ClassFile.FieldType.int)) ∈ lw_all := lw_g (lw_at lw_m6 149 rfl) rfl
theorem q1386 : (Jvm.Cond.instanceMethod ({ cls := "BackdaterModel", name := "today", desc := "()I" } : Jvm.MethodName)) ∈ lw_all := lw_g (lw_at lw_m6 151 rfl) rfl
theorem q1387 : (Jvm.Cond.selects "BackdaterModel" ({ cls := "BackdaterModel", name := "today", desc := "()I" } : Jvm.MethodName) ({ cls := "BackdaterModel", name := "today", desc := "()I" } : Jvm.MethodName)) ∈ lw_all := lw_g (lw_at lw_m6 152 rfl) rfl
theorem q1388 : (Jvm.Cond.code ({ cls := "BackdaterModel", name := "today", desc := "()I" } : Jvm.MethodName) prog_8_method_10_code (1 : Nat) (Option.some Jvm.ClassFile.FieldType.int)) ∈ lw_all := lw_g (lw_at lw_m6 153 rfl) rfl
theorem q1390 : (Jvm.Cond.instanceMethod ({ cls := "BackdaterModel", name := "change", desc := "(IIII)I" } : Jvm.MethodName)) ∈ lw_all := lw_g (lw_at lw_m6 155 rfl) rfl
theorem q1391 : (Jvm.Cond.selects "BackdaterModel" ({ cls := "BackdaterModel", name := "change", desc := "(IIII)I" } : Jvm.MethodName) ({ cls := "BackdaterModel", name := "change", desc := "(IIII)I" } : Jvm.MethodName)) ∈ lw_all := lw_g (lw_at lw_m6 156 rfl) rfl
theorem q1392 : (Jvm.Cond.code ({ cls := "BackdaterModel", name := "change", desc := "(IIII)I" } : Jvm.MethodName) prog_8_method_12_code (5 : Nat) (Option.some Jvm.ClassFile.FieldType.int)) ∈ lw_all := lw_g (lw_at lw_m6 157 rfl) rfl
theorem q1393 : (Jvm.Cond.methodLink "BackdaterModel" (89 : Nat) ({ cls := "BackdaterModel", name := "tells", desc := "(IIIIIZ)I" } : Jvm.MethodName)) ∈ lw_all := lw_g (lw_at lw_m6 158 rfl) rfl
theorem q1394 : (Jvm.Cond.privateMethod ({ cls := "BackdaterModel", name := "tells", desc := "(IIIIIZ)I" } : Jvm.MethodName)) ∈ lw_tbl := lw_at lw_m6 159 rfl
theorem q1395 : (Jvm.Cond.instanceMethod ({ cls := "BackdaterModel", name := "tells", desc := "(IIIIIZ)I" } : Jvm.MethodName)) ∈ lw_all := lw_g (lw_at lw_m6 160 rfl) rfl
theorem q1396 : (Jvm.Cond.code ({ cls := "BackdaterModel", name := "tells", desc := "(IIIIIZ)I" } : Jvm.MethodName) prog_8_method_11_code (7 : Nat) (Option.some Jvm.ClassFile.FieldType.int)) ∈ lw_all := lw_g (lw_at lw_m6 161 rfl) rfl
theorem q1397 : (Jvm.Cond.methodLink "BackdaterModel" (83 : Nat) ({ cls := "BackdaterModel", name := "isPolicy", desc := "(I)Z" } : Jvm.MethodName)) ∈ lw_all := lw_g (lw_at lw_m6 162 rfl) rfl
theorem q1398 : (Jvm.Cond.privateMethod ({ cls := "BackdaterModel", name := "isPolicy", desc := "(I)Z" } : Jvm.MethodName)) ∈ lw_tbl := lw_at lw_m6 163 rfl
theorem q1399 : (Jvm.Cond.instanceMethod ({ cls := "BackdaterModel", name := "isPolicy", desc := "(I)Z" } : Jvm.MethodName)) ∈ lw_all := lw_g (lw_at lw_m6 164 rfl) rfl
theorem q1400 : (Jvm.Cond.code ({ cls := "BackdaterModel", name := "isPolicy", desc := "(I)Z" } : Jvm.MethodName) prog_8_method_5_code (2 : Nat) (Option.some Jvm.ClassFile.FieldType.boolean)) ∈ lw_all := lw_g (lw_at lw_m6 165 rfl) rfl
theorem q1402 : (Jvm.Cond.instanceMethod ({ cls := "BackdaterModel", name := "add", desc := "(IIII)I" } : Jvm.MethodName)) ∈ lw_all := lw_g (lw_at lw_m6 167 rfl) rfl
theorem q1403 : (Jvm.Cond.selects "BackdaterModel" ({ cls := "BackdaterModel", name := "add", desc := "(IIII)I" } : Jvm.MethodName) ({ cls := "BackdaterModel", name := "add", desc := "(IIII)I" } : Jvm.MethodName)) ∈ lw_all := lw_g (lw_at lw_m6 168 rfl) rfl
theorem q1404 : (Jvm.Cond.code ({ cls := "BackdaterModel", name := "add", desc := "(IIII)I" } : Jvm.MethodName) prog_8_method_13_code (5 : Nat) (Option.some Jvm.ClassFile.FieldType.int)) ∈ lw_all := lw_g (lw_at lw_m6 169 rfl) rfl
theorem q1406 : (Jvm.Cond.instanceMethod ({ cls := "BackdaterModel", name := "cancel", desc := "(II)I" } : Jvm.MethodName)) ∈ lw_all := lw_g (lw_at lw_m6 171 rfl) rfl
theorem q1407 : (Jvm.Cond.selects "BackdaterModel" ({ cls := "BackdaterModel", name := "cancel", desc := "(II)I" } : Jvm.MethodName) ({ cls := "BackdaterModel", name := "cancel", desc := "(II)I" } : Jvm.MethodName)) ∈ lw_all := lw_g (lw_at lw_m6 172 rfl) rfl
theorem q1408 : (Jvm.Cond.code ({ cls := "BackdaterModel", name := "cancel", desc := "(II)I" } : Jvm.MethodName) prog_8_method_14_code (3 : Nat) (Option.some Jvm.ClassFile.FieldType.int)) ∈ lw_all := lw_g (lw_at lw_m6 173 rfl) rfl
theorem q1410 : (Jvm.Cond.instanceMethod ({ cls := "BackdaterModel", name := "reinstate", desc := "(II)I" } : Jvm.MethodName)) ∈ lw_all := lw_g (lw_at lw_m6 175 rfl) rfl
theorem q1411 : (Jvm.Cond.selects "BackdaterModel" ({ cls := "BackdaterModel", name := "reinstate", desc := "(II)I" } : Jvm.MethodName) ({ cls := "BackdaterModel", name := "reinstate", desc := "(II)I" } : Jvm.MethodName)) ∈ lw_all := lw_g (lw_at lw_m6 176 rfl) rfl
theorem q1412 : (Jvm.Cond.code ({ cls := "BackdaterModel", name := "reinstate", desc := "(II)I" } : Jvm.MethodName) prog_8_method_15_code (3 : Nat) (Option.some Jvm.ClassFile.FieldType.int)) ∈ lw_all := lw_g (lw_at lw_m6 177 rfl) rfl
theorem q1414 : (Jvm.Cond.instanceMethod ({ cls := "BackdaterModel", name := "takeBack", desc := "(I)I" } : Jvm.MethodName)) ∈ lw_all := lw_g (lw_at lw_m6 179 rfl) rfl
theorem q1415 : (Jvm.Cond.selects "BackdaterModel" ({ cls := "BackdaterModel", name := "takeBack", desc := "(I)I" } : Jvm.MethodName) ({ cls := "BackdaterModel", name := "takeBack", desc := "(I)I" } : Jvm.MethodName)) ∈ lw_all := lw_g (lw_at lw_m6 180 rfl) rfl
theorem q1416 : (Jvm.Cond.code ({ cls := "BackdaterModel", name := "takeBack", desc := "(I)I" } : Jvm.MethodName) prog_8_method_17_code (2 : Nat) (Option.some Jvm.ClassFile.FieldType.int)) ∈ lw_all := lw_g (lw_at lw_m6 181 rfl) rfl
theorem q1417 : (Jvm.Cond.methodLink "BackdaterModel" (93 : Nat) ({ cls := "BackdaterModel", name := "isChange", desc := "(I)Z" } : Jvm.MethodName)) ∈ lw_all := lw_g (lw_at lw_m6 182 rfl) rfl
theorem q1418 : (Jvm.Cond.privateMethod ({ cls := "BackdaterModel", name := "isChange", desc := "(I)Z" } : Jvm.MethodName)) ∈ lw_tbl := lw_at lw_m6 183 rfl
theorem q1419 : (Jvm.Cond.instanceMethod ({ cls := "BackdaterModel", name := "isChange", desc := "(I)Z" } : Jvm.MethodName)) ∈ lw_all := lw_g (lw_at lw_m6 184 rfl) rfl
theorem q1420 : (Jvm.Cond.code ({ cls := "BackdaterModel", name := "isChange", desc := "(I)Z" } : Jvm.MethodName) prog_8_method_16_code (2 : Nat) (Option.some Jvm.ClassFile.FieldType.boolean)) ∈ lw_all := lw_g (lw_at lw_m6 185 rfl) rfl
theorem q1422 : (Jvm.Cond.instanceMethod ({ cls := "BackdaterModel", name := "changes", desc := "()I" } : Jvm.MethodName)) ∈ lw_all := lw_g (lw_at lw_m6 187 rfl) rfl
theorem q1423 : (Jvm.Cond.selects "BackdaterModel" ({ cls := "BackdaterModel", name := "changes", desc := "()I" } : Jvm.MethodName) ({ cls := "BackdaterModel", name := "changes", desc := "()I" } : Jvm.MethodName)) ∈ lw_all := lw_g (lw_at lw_m6 188 rfl) rfl
theorem q1424 : (Jvm.Cond.code ({ cls := "BackdaterModel", name := "changes", desc := "()I" } : Jvm.MethodName) prog_8_method_18_code (1 : Nat) (Option.some Jvm.ClassFile.FieldType.int)) ∈ lw_all := lw_g (lw_at lw_m6 189 rfl) rfl
theorem q1426 : (Jvm.Cond.instanceMethod ({ cls := "BackdaterModel", name := "laidAnew", desc := "(I)I" } : Jvm.MethodName)) ∈ lw_all := lw_g (lw_at lw_m6 191 rfl) rfl
theorem q1427 : (Jvm.Cond.selects "BackdaterModel" ({ cls := "BackdaterModel", name := "laidAnew", desc := "(I)I" } : Jvm.MethodName) ({ cls := "BackdaterModel", name := "laidAnew", desc := "(I)I" } : Jvm.MethodName)) ∈ lw_all := lw_g (lw_at lw_m6 192 rfl) rfl
theorem q1428 : (Jvm.Cond.code ({ cls := "BackdaterModel", name := "laidAnew", desc := "(I)I" } : Jvm.MethodName) prog_8_method_20_code (5 : Nat) (Option.some Jvm.ClassFile.FieldType.int)) ∈ lw_all := lw_g (lw_at lw_m6 193 rfl) rfl
theorem q1429 : (Jvm.Cond.methodLink "BackdaterModel" (96 : Nat) ({ cls := "BackdaterModel", name := "isKnown", desc := "(II)Z" } : Jvm.MethodName)) ∈ lw_all := lw_g (lw_at lw_m6 194 rfl) rfl
theorem q1430 : (Jvm.Cond.privateMethod ({ cls := "BackdaterModel", name := "isKnown", desc := "(II)Z" } : Jvm.MethodName)) ∈ lw_tbl := lw_at lw_m6 195 rfl
theorem q1431 : (Jvm.Cond.instanceMethod ({ cls := "BackdaterModel", name := "isKnown", desc := "(II)Z" } : Jvm.MethodName)) ∈ lw_all := lw_g (lw_at lw_m6 196 rfl) rfl
theorem q1432 : (Jvm.Cond.code ({ cls := "BackdaterModel", name := "isKnown", desc := "(II)Z" } : Jvm.MethodName) prog_8_method_19_code (3 : Nat) (Option.some Jvm.ClassFile.FieldType.boolean)) ∈ lw_all := lw_g (lw_at lw_m6 197 rfl) rfl
theorem q1434 : (Jvm.Cond.instanceMethod ({ cls := "BackdaterModel", name := "value", desc := "(IIII)I" } : Jvm.MethodName)) ∈ lw_all := lw_g (lw_at lw_m6 199 rfl) rfl
theorem q1435 : (Jvm.Cond.selects "BackdaterModel" ({ cls := "BackdaterModel", name := "value", desc := "(IIII)I" } : Jvm.MethodName) ({ cls := "BackdaterModel", name := "value", desc := "(IIII)I" } : Jvm.MethodName)) ∈ lw_all := lw_g (lw_at lw_m6 200 rfl) rfl
theorem q1436 : (Jvm.Cond.code ({ cls := "BackdaterModel", name := "value", desc := "(IIII)I" } : Jvm.MethodName) prog_8_method_25_code (5 : Nat) (Option.some Jvm.ClassFile.FieldType.int)) ∈ lw_all := lw_g (lw_at lw_m6 201 rfl) rfl
theorem q1437 : (Jvm.Cond.methodLink "BackdaterModel" (112 : Nat) ({ cls := "BackdaterModel", name := "looks", desc := "(IIII)Z" } : Jvm.MethodName)) ∈ lw_all := lw_g (lw_at lw_m6 202 rfl) rfl
theorem q1438 : (Jvm.Cond.privateMethod ({ cls := "BackdaterModel", name := "looks", desc := "(IIII)Z" } : Jvm.MethodName)) ∈ lw_tbl := lw_at lw_m6 203 rfl
theorem q1439 : (Jvm.Cond.instanceMethod ({ cls := "BackdaterModel", name := "looks", desc := "(IIII)Z" } : Jvm.MethodName)) ∈ lw_all := lw_g (lw_at lw_m6 204 rfl) rfl
theorem q1440 : (Jvm.Cond.code ({ cls := "BackdaterModel", name := "looks", desc := "(IIII)Z" } : Jvm.MethodName) prog_8_method_24_code (5 : Nat) (Option.some Jvm.ClassFile.FieldType.boolean)) ∈ lw_all := lw_g (lw_at lw_m6 205 rfl) rfl
theorem q1441 : (Jvm.Cond.methodLink "BackdaterModel" (108 : Nat) ({ cls := "BackdaterModel", name := "goes", desc := "(II)V" } : Jvm.MethodName)) ∈ lw_all := lw_g (lw_at lw_m6 206 rfl) rfl
theorem q1442 : (Jvm.Cond.privateMethod ({ cls := "BackdaterModel", name := "goes", desc := "(II)V" } : Jvm.MethodName)) ∈ lw_tbl := lw_at lw_m6 207 rfl
theorem q1443 : (Jvm.Cond.instanceMethod ({ cls := "BackdaterModel", name := "goes", desc := "(II)V" } : Jvm.MethodName)) ∈ lw_all := lw_g (lw_at lw_m6 208 rfl) rfl
theorem q1444 : (Jvm.Cond.code ({ cls := "BackdaterModel", name := "goes", desc := "(II)V" } : Jvm.MethodName) prog_8_method_23_code (7 : Nat) (Option.none : Option Jvm.ClassFile.FieldType)) ∈ lw_all := lw_g (lw_at lw_m6 209 rfl) rfl
theorem q1445 : (Jvm.Cond.methodLink "BackdaterModel" (100 : Nat) ({ cls := "BackdaterModel", name := "bounded", desc := "(I)I" } : Jvm.MethodName)) ∈ lw_all := lw_g (lw_at lw_m6 210 rfl) rfl
theorem q1446 : (Jvm.Cond.static ({ cls := "BackdaterModel", name := "bounded", desc := "(I)I" } : Jvm.MethodName)) ∈ lw_all := lw_g (lw_at lw_m6 211 rfl) rfl
theorem q1447 : (Jvm.Cond.code ({ cls := "BackdaterModel", name := "bounded", desc := "(I)I" } : Jvm.MethodName) prog_8_method_22_code (1 : Nat) (Option.some Jvm.ClassFile.FieldType.int)) ∈ lw_all := lw_g (lw_at lw_m6 212 rfl) rfl
theorem q1448 : (Jvm.Cond.methodLink "BackdaterModel" (104 : Nat) ({ cls := "BackdaterModel", name := "weighs", desc := "(II)I" } : Jvm.MethodName)) ∈ lw_all := lw_g (lw_at lw_m6 213 rfl) rfl
theorem q1449 : (Jvm.Cond.privateMethod ({ cls := "BackdaterModel", name := "weighs", desc := "(II)I" } : Jvm.MethodName)) ∈ lw_tbl := lw_at lw_m6 214 rfl
theorem q1450 : (Jvm.Cond.instanceMethod ({ cls := "BackdaterModel", name := "weighs", desc := "(II)I" } : Jvm.MethodName)) ∈ lw_all := lw_g (lw_at lw_m6 215 rfl) rfl
theorem q1451 : (Jvm.Cond.code ({ cls := "BackdaterModel", name := "weighs", desc := "(II)I" } : Jvm.MethodName) prog_8_method_21_code (6 : Nat) (Option.some Jvm.ClassFile.FieldType.int)) ∈ lw_all := lw_g (lw_at lw_m6 216 rfl) rfl
theorem q1453 : (Jvm.Cond.instanceMethod ({ cls := "BackdaterModel", name := "isCovered", desc := "(III)Z" } : Jvm.MethodName)) ∈ lw_all := lw_g (lw_at lw_m6 218 rfl) rfl
theorem q1454 : (Jvm.Cond.selects "BackdaterModel" ({ cls := "BackdaterModel", name := "isCovered", desc := "(III)Z" } : Jvm.MethodName) ({ cls := "BackdaterModel", name := "isCovered", desc := "(III)Z" } : Jvm.MethodName)) ∈ lw_all := lw_g (lw_at lw_m6 219 rfl) rfl
theorem q1455 : (Jvm.Cond.code ({ cls := "BackdaterModel", name := "isCovered", desc := "(III)Z" } : Jvm.MethodName) prog_8_method_26_code (4 : Nat) (Option.some Jvm.ClassFile.FieldType.boolean)) ∈ lw_all := lw_g (lw_at lw_m6 220 rfl) rfl
theorem q1457 : (Jvm.Cond.instanceMethod ({ cls := "BackdaterModel", name := "rate", desc := "(III)I" } : Jvm.MethodName)) ∈ lw_all := lw_g (lw_at lw_m6 222 rfl) rfl
theorem q1458 : (Jvm.Cond.selects "BackdaterModel" ({ cls := "BackdaterModel", name := "rate", desc := "(III)I" } : Jvm.MethodName) ({ cls := "BackdaterModel", name := "rate", desc := "(III)I" } : Jvm.MethodName)) ∈ lw_all := lw_g (lw_at lw_m6 223 rfl) rfl
theorem q1459 : (Jvm.Cond.code ({ cls := "BackdaterModel", name := "rate", desc := "(III)I" } : Jvm.MethodName) prog_8_method_27_code (4 : Nat) (Option.some Jvm.ClassFile.FieldType.int)) ∈ lw_all := lw_g (lw_at lw_m6 224 rfl) rfl
theorem q1461 : (Jvm.Cond.instanceMethod ({ cls := "BackdaterModel", name := "segments", desc := "(II)I" } : Jvm.MethodName)) ∈ lw_all := lw_g (lw_at lw_m6 226 rfl) rfl
theorem q1462 : (Jvm.Cond.selects "BackdaterModel" ({ cls := "BackdaterModel", name := "segments", desc := "(II)I" } : Jvm.MethodName) ({ cls := "BackdaterModel", name := "segments", desc := "(II)I" } : Jvm.MethodName)) ∈ lw_all := lw_g (lw_at lw_m6 227 rfl) rfl
theorem q1463 : (Jvm.Cond.code ({ cls := "BackdaterModel", name := "segments", desc := "(II)I" } : Jvm.MethodName) prog_8_method_29_code (6 : Nat) (Option.some Jvm.ClassFile.FieldType.int)) ∈ lw_all := lw_g (lw_at lw_m6 228 rfl) rfl
theorem q1464 : (Jvm.Cond.methodLink "BackdaterModel" (116 : Nat) ({ cls := "BackdaterModel", name := "begins", desc := "(I)Z" } : Jvm.MethodName)) ∈ lw_all := lw_g (lw_at lw_m6 229 rfl) rfl
theorem q1465 : (Jvm.Cond.privateMethod ({ cls := "BackdaterModel", name := "begins", desc := "(I)Z" } : Jvm.MethodName)) ∈ lw_tbl := lw_at lw_m6 230 rfl
theorem q1466 : (Jvm.Cond.instanceMethod ({ cls := "BackdaterModel", name := "begins", desc := "(I)Z" } : Jvm.MethodName)) ∈ lw_all := lw_g (lw_at lw_m6 231 rfl) rfl
theorem q1467 : (Jvm.Cond.code ({ cls := "BackdaterModel", name := "begins", desc := "(I)Z" } : Jvm.MethodName) prog_8_method_28_code (2 : Nat) (Option.some Jvm.ClassFile.FieldType.boolean)) ∈ lw_all := lw_g (lw_at lw_m6 232 rfl) rfl
theorem q1469 : (Jvm.Cond.instanceMethod ({ cls := "BackdaterModel", name := "segmentStart", desc := "(III)I" } : Jvm.MethodName)) ∈ lw_all := lw_g (lw_at lw_m6 234 rfl) rfl
theorem q1470 : (Jvm.Cond.selects "BackdaterModel" ({ cls := "BackdaterModel", name := "segmentStart", desc := "(III)I" } : Jvm.MethodName) ({ cls := "BackdaterModel", name := "segmentStart", desc := "(III)I" } : Jvm.MethodName)) ∈ lw_all := lw_g (lw_at lw_m6 235 rfl) rfl
theorem q1471 : (Jvm.Cond.code ({ cls := "BackdaterModel", name := "segmentStart", desc := "(III)I" } : Jvm.MethodName) prog_8_method_31_code (5 : Nat) (Option.some Jvm.ClassFile.FieldType.int)) ∈ lw_all := lw_g (lw_at lw_m6 236 rfl) rfl
theorem q1472 : (Jvm.Cond.methodLink "BackdaterModel" (119 : Nat) ({ cls := "BackdaterModel", name := "found", desc := "(III)I" } : Jvm.MethodName)) ∈ lw_all := lw_g (lw_at lw_m6 237 rfl) rfl
theorem q1473 : (Jvm.Cond.privateMethod ({ cls := "BackdaterModel", name := "found", desc := "(III)I" } : Jvm.MethodName)) ∈ lw_tbl := lw_at lw_m6 238 rfl
theorem q1474 : (Jvm.Cond.instanceMethod ({ cls := "BackdaterModel", name := "found", desc := "(III)I" } : Jvm.MethodName)) ∈ lw_all := lw_g (lw_at lw_m6 239 rfl) rfl
theorem q1475 : (Jvm.Cond.code ({ cls := "BackdaterModel", name := "found", desc := "(III)I" } : Jvm.MethodName) prog_8_method_30_code (9 : Nat) (Option.some Jvm.ClassFile.FieldType.int)) ∈ lw_all := lw_g (lw_at lw_m7 0 rfl) rfl
theorem q1477 : (Jvm.Cond.instanceMethod ({ cls := "BackdaterModel", name := "segmentPremium", desc := "(III)I" } : Jvm.MethodName)) ∈ lw_all := lw_g (lw_at lw_m7 2 rfl) rfl
theorem q1478 : (Jvm.Cond.selects "BackdaterModel" ({ cls := "BackdaterModel", name := "segmentPremium", desc := "(III)I" } : Jvm.MethodName) ({ cls := "BackdaterModel", name := "segmentPremium", desc := "(III)I" } : Jvm.MethodName)) ∈ lw_all := lw_g (lw_at lw_m7 3 rfl) rfl
theorem q1479 : (Jvm.Cond.code ({ cls := "BackdaterModel", name := "segmentPremium", desc := "(III)I" } : Jvm.MethodName) prog_8_method_33_code (6 : Nat) (Option.some Jvm.ClassFile.FieldType.int)) ∈ lw_all := lw_g (lw_at lw_m7 4 rfl) rfl
theorem q1480 : (Jvm.Cond.methodLink "BackdaterModel" (123 : Nat) ({ cls := "BackdaterModel", name := "charge", desc := "(I)I" } : Jvm.MethodName)) ∈ lw_all := lw_g (lw_at lw_m7 5 rfl) rfl
theorem q1481 : (Jvm.Cond.privateMethod ({ cls := "BackdaterModel", name := "charge", desc := "(I)I" } : Jvm.MethodName)) ∈ lw_tbl := lw_at lw_m7 6 rfl
theorem q1482 : (Jvm.Cond.instanceMethod ({ cls := "BackdaterModel", name := "charge", desc := "(I)I" } : Jvm.MethodName)) ∈ lw_all := lw_g (lw_at lw_m7 7 rfl) rfl
theorem q1483 : (Jvm.Cond.code ({ cls := "BackdaterModel", name := "charge", desc := "(I)I" } : Jvm.MethodName) prog_8_method_32_code (2 : Nat) (Option.some Jvm.ClassFile.FieldType.int)) ∈ lw_all := lw_g (lw_at lw_m7 8 rfl) rfl
theorem q1485 : (Jvm.Cond.instanceMethod ({ cls := "BackdaterModel", name := "premium", desc := "(II)I" } : Jvm.MethodName)) ∈ lw_all := lw_g (lw_at lw_m7 10 rfl) rfl
theorem q1486 : (Jvm.Cond.selects "BackdaterModel" ({ cls := "BackdaterModel", name := "premium", desc := "(II)I" } : Jvm.MethodName) ({ cls := "BackdaterModel", name := "premium", desc := "(II)I" } : Jvm.MethodName)) ∈ lw_all := lw_g (lw_at lw_m7 11 rfl) rfl
theorem q1487 : (Jvm.Cond.code ({ cls := "BackdaterModel", name := "premium", desc := "(II)I" } : Jvm.MethodName) prog_8_method_35_code (3 : Nat) (Option.some Jvm.ClassFile.FieldType.int)) ∈ lw_all := lw_g (lw_at lw_m7 12 rfl) rfl
theorem q1488 : (Jvm.Cond.methodLink "BackdaterModel" (126 : Nat) ({ cls := "BackdaterModel", name := "all", desc := "(II)I" } : Jvm.MethodName)) ∈ lw_all := lw_g (lw_at lw_m7 13 rfl) rfl
theorem q1489 : (Jvm.Cond.privateMethod ({ cls := "BackdaterModel", name := "all", desc := "(II)I" } : Jvm.MethodName)) ∈ lw_tbl := lw_at lw_m7 14 rfl
theorem q1490 : (Jvm.Cond.instanceMethod ({ cls := "BackdaterModel", name := "all", desc := "(II)I" } : Jvm.MethodName)) ∈ lw_all := lw_g (lw_at lw_m7 15 rfl) rfl
theorem q1491 : (Jvm.Cond.code ({ cls := "BackdaterModel", name := "all", desc := "(II)I" } : Jvm.MethodName) prog_8_method_34_code (3 : Nat) (Option.some Jvm.ClassFile.FieldType.int)) ∈ lw_all := lw_g (lw_at lw_m7 16 rfl) rfl
theorem q1493 : (Jvm.Cond.instanceMethod ({ cls := "BackdaterModel", name := "premiumByDays", desc := "(II)I" } : Jvm.MethodName)) ∈ lw_all := lw_g (lw_at lw_m7 18 rfl) rfl
theorem q1494 : (Jvm.Cond.selects "BackdaterModel" ({ cls := "BackdaterModel", name := "premiumByDays", desc := "(II)I" } : Jvm.MethodName) ({ cls := "BackdaterModel", name := "premiumByDays", desc := "(II)I" } : Jvm.MethodName)) ∈ lw_all := lw_g (lw_at lw_m7 19 rfl) rfl
theorem q1495 : (Jvm.Cond.code ({ cls := "BackdaterModel", name := "premiumByDays", desc := "(II)I" } : Jvm.MethodName) prog_8_method_36_code (3 : Nat) (Option.some Jvm.ClassFile.FieldType.int)) ∈ lw_all := lw_g (lw_at lw_m7 20 rfl) rfl
theorem q1497 : (Jvm.Cond.instanceMethod ({ cls := "BackdaterModel", name := "bill", desc := "(I)I" } : Jvm.MethodName)) ∈ lw_all := lw_g (lw_at lw_m7 22 rfl) rfl
theorem q1498 : (Jvm.Cond.selects "BackdaterModel" ({ cls := "BackdaterModel", name := "bill", desc := "(I)I" } : Jvm.MethodName) ({ cls := "BackdaterModel", name := "bill", desc := "(I)I" } : Jvm.MethodName)) ∈ lw_all := lw_g (lw_at lw_m7 23 rfl) rfl
theorem q1499 : (Jvm.Cond.code ({ cls := "BackdaterModel", name := "bill", desc := "(I)I" } : Jvm.MethodName) prog_8_method_37_code (4 : Nat) (Option.some Jvm.ClassFile.FieldType.int)) ∈ lw_all := lw_g (lw_at lw_m7 24 rfl) rfl
theorem q1501 : (Jvm.Cond.instanceMethod ({ cls := "BackdaterModel", name := "billed", desc := "(I)I" } : Jvm.MethodName)) ∈ lw_all := lw_g (lw_at lw_m7 26 rfl) rfl
theorem q1502 : (Jvm.Cond.selects "BackdaterModel" ({ cls := "BackdaterModel", name := "billed", desc := "(I)I" } : Jvm.MethodName) ({ cls := "BackdaterModel", name := "billed", desc := "(I)I" } : Jvm.MethodName)) ∈ lw_all := lw_g (lw_at lw_m7 27 rfl) rfl
theorem q1503 : (Jvm.Cond.code ({ cls := "BackdaterModel", name := "billed", desc := "(I)I" } : Jvm.MethodName) prog_8_method_38_code (2 : Nat) (Option.some Jvm.ClassFile.FieldType.int)) ∈ lw_all := lw_g (lw_at lw_m7 28 rfl) rfl
theorem q1511 : (Jvm.Cond.castable "BackdaterModel" "java/lang/Object") ∈ lw_tbl := lw_at lw_m7 36 rfl
theorem in_X2 : ∀ w ∈ wsX20, w ∈ lw_all := lw_in wsX20 [1316, 1318, 1320, 1322, 1324, 1326, 1328, 1330, 1332, 1334, 1336, 1338, 1340, 1342, 1344, 1346, 1348, 1350, 1352, 1354, 1356] (by decide +kernel) (by decide +kernel)

/-! java/util/TreeMap -/
set_option maxRecDepth 100000
def RJ9 : String := "java/util/TreeMap"
def TJ9 : u_T := fun k => match k with
  | 0 => ("java/util/AbstractMap", "keySet", "Ljava/util/Set;", false)
  | 1 => ("java/util/AbstractMap", "values", "Ljava/util/Collection;", false)
  | 2 => ("java/util/TreeMap", "comparator", "Ljava/util/Comparator;", true)
  | 3 => ("java/util/TreeMap", "root", "Ljava/util/TreeMap$Entry;", false)
  | 4 => ("java/util/TreeMap", "size", "I", false)
  | 5 => ("java/util/TreeMap", "modCount", "I", false)
  | 6 => ("java/util/TreeMap", "entrySet", "Ljava/util/TreeMap$EntrySet;", false)
  | 7 => ("java/util/TreeMap", "navigableKeySet", "Ljava/util/TreeMap$KeySet;", false)
  | _ => ("java/util/TreeMap", "descendingMap", "Ljava/util/NavigableMap;", false)
def tyJ9 : Nat → FieldType := fun k => match k with
  | 0 => .object "java/util/Set"
  | 1 => .object "java/util/Collection"
  | 2 => .object "java/util/Comparator"
  | 3 => .object "java/util/TreeMap$Entry"
  | 4 => .int
  | 5 => .int
  | 6 => .object "java/util/TreeMap$EntrySet"
  | 7 => .object "java/util/TreeMap$KeySet"
  | _ => .object "java/util/NavigableMap"
abbrev wsJ90 : List Cond := u_ws RJ9 TJ9 9
theorem nmJ9 : ∀ a, a < 9 → ∀ b, b < 9 → a ≠ b → (TJ9 a).2.1 ≠ (TJ9 b).2.1 := by decide +kernel
theorem tyJ9_ok : ∀ k, k < 9 → parseFieldDescriptor (TJ9 k).2.2.1 = some (tyJ9 k) := by decide +kernel
abbrev cJ9_init : ByteArray := prog_51_method_1_code
def yJ9_init : MethodName := ⟨RJ9, "<init>", "()V"⟩
def dkwJ9_init_0 : List UInt8 := [42, 183, 0, 1, 42, 3, 181, 0, 7, 42, 3, 181, 0, 13, 42, 1, 181, 0, 16, 177]
abbrev dktJ9_init_0 : List UInt8 := dkwJ9_init_0 ++ []
theorem dksJ9_init_0 : cJ9_init.data.toList.drop 0 = dktJ9_init_0 := by decide +kernel
theorem dJ9_init_0 : decode cJ9_init 0 = .ok (.aload_n 0, 1) := dk_42 (dk_at dksJ9_init_0 0 rfl rfl)
theorem dJ9_init_1 : decode cJ9_init 1 = .ok (.invokespecial 1, 3) := dk_183 0 1 (dk_at dksJ9_init_0 1 rfl rfl)
theorem dJ9_init_4 : decode cJ9_init 4 = .ok (.aload_n 0, 1) := dk_42 (dk_at dksJ9_init_0 4 rfl rfl)
theorem dJ9_init_5 : decode cJ9_init 5 = .ok (.iconst 0, 1) := dk_3 (dk_at dksJ9_init_0 5 rfl rfl)
theorem dJ9_init_6 : decode cJ9_init 6 = .ok (.putfield 7, 3) := dk_181 0 7 (dk_at dksJ9_init_0 6 rfl rfl)
theorem dJ9_init_9 : decode cJ9_init 9 = .ok (.aload_n 0, 1) := dk_42 (dk_at dksJ9_init_0 9 rfl rfl)
theorem dJ9_init_10 : decode cJ9_init 10 = .ok (.iconst 0, 1) := dk_3 (dk_at dksJ9_init_0 10 rfl rfl)
theorem dJ9_init_11 : decode cJ9_init 11 = .ok (.putfield 13, 3) := dk_181 0 13 (dk_at dksJ9_init_0 11 rfl rfl)
theorem dJ9_init_14 : decode cJ9_init 14 = .ok (.aload_n 0, 1) := dk_42 (dk_at dksJ9_init_0 14 rfl rfl)
theorem dJ9_init_15 : decode cJ9_init 15 = .ok (.aconst_null, 1) := dk_1 (dk_at dksJ9_init_0 15 rfl rfl)
theorem dJ9_init_16 : decode cJ9_init 16 = .ok (.putfield 16, 3) := dk_181 0 16 (dk_at dksJ9_init_0 16 rfl rfl)
theorem dJ9_init_19 : decode cJ9_init 19 = .ok (.return_, 1) := dk_177 (dk_at dksJ9_init_0 19 rfl rfl)
abbrev cJ9_put : ByteArray := prog_51_method_21_code
def yJ9_put : MethodName := ⟨RJ9, "put", "(Ljava/lang/Object;Ljava/lang/Object;)Ljava/lang/Object;"⟩
def dkwJ9_put_0 : List UInt8 := [42, 43, 44, 4, 182, 0, 127, 176]
abbrev dktJ9_put_0 : List UInt8 := dkwJ9_put_0 ++ []
theorem dksJ9_put_0 : cJ9_put.data.toList.drop 0 = dktJ9_put_0 := by decide +kernel
theorem dJ9_put_0 : decode cJ9_put 0 = .ok (.aload_n 0, 1) := dk_42 (dk_at dksJ9_put_0 0 rfl rfl)
theorem dJ9_put_1 : decode cJ9_put 1 = .ok (.aload_n 1, 1) := dk_43 (dk_at dksJ9_put_0 1 rfl rfl)
theorem dJ9_put_2 : decode cJ9_put 2 = .ok (.aload_n 2, 1) := dk_44 (dk_at dksJ9_put_0 2 rfl rfl)
theorem dJ9_put_3 : decode cJ9_put 3 = .ok (.iconst 1, 1) := dk_4 (dk_at dksJ9_put_0 3 rfl rfl)
theorem dJ9_put_4 : decode cJ9_put 4 = .ok (.invokevirtual 127, 3) := dk_182 0 127 (dk_at dksJ9_put_0 4 rfl rfl)
theorem dJ9_put_7 : decode cJ9_put 7 = .ok (.areturn, 1) := dk_176 (dk_at dksJ9_put_0 7 rfl rfl)
abbrev cJ9_put_2 : ByteArray := prog_51_method_31_code
def yJ9_put_2 : MethodName := ⟨RJ9, "put", "(Ljava/lang/Object;Ljava/lang/Object;Z)Ljava/lang/Object;"⟩
def dkwJ9_put_2_9 : List UInt8 := [4, 167, 0, 4, 3, 182, 0, 139, 1, 176]
abbrev dktJ9_put_2_9 : List UInt8 := dkwJ9_put_2_9 ++ []
def dkwJ9_put_2_8 : List UInt8 := [25, 4, 44, 181, 0, 58, 25, 9, 176, 25, 4, 199, 255, 181, 42, 43, 44, 25, 6, 21, 5, 156, 0, 7]
abbrev dktJ9_put_2_8 : List UInt8 := dkwJ9_put_2_8 ++ dktJ9_put_2_9
def dkwJ9_put_2_7 : List UInt8 := [180, 0, 114, 58, 4, 167, 0, 28, 25, 4, 180, 0, 58, 58, 9, 29, 154, 0, 8, 25, 9, 199, 0, 9]
abbrev dktJ9_put_2_7 : List UInt8 := dkwJ9_put_2_7 ++ dktJ9_put_2_8
def dkwJ9_put_2_6 : List UInt8 := [21, 5, 156, 0, 13, 25, 4, 180, 0, 111, 58, 4, 167, 0, 43, 21, 5, 158, 0, 13, 25, 4]
abbrev dktJ9_put_2_6 : List UInt8 := dkwJ9_put_2_6 ++ dktJ9_put_2_7
def dkwJ9_put_2_5 : List UInt8 := [192, 0, 99, 58, 8, 25, 4, 58, 6, 25, 8, 25, 4, 180, 0, 105, 185, 0, 107, 2, 0, 54, 5]
abbrev dktJ9_put_2_5 : List UInt8 := dkwJ9_put_2_5 ++ dktJ9_put_2_6
def dkwJ9_put_2_4 : List UInt8 := [25, 4, 44, 181, 0, 58, 25, 8, 176, 25, 4, 199, 255, 180, 167, 0, 92, 43, 184, 0, 95, 87, 43]
abbrev dktJ9_put_2_4 : List UInt8 := dkwJ9_put_2_4 ++ dktJ9_put_2_5
def dkwJ9_put_2_3 : List UInt8 := [180, 0, 114, 58, 4, 167, 0, 28, 25, 4, 180, 0, 58, 58, 8, 29, 154, 0, 8, 25, 8, 199, 0, 9]
abbrev dktJ9_put_2_3 : List UInt8 := dkwJ9_put_2_3 ++ dktJ9_put_2_4
def dkwJ9_put_2_2 : List UInt8 := [54, 5, 21, 5, 156, 0, 13, 25, 4, 180, 0, 111, 58, 4, 167, 0, 43, 21, 5, 158, 0, 13, 25, 4]
abbrev dktJ9_put_2_2 : List UInt8 := dkwJ9_put_2_2 ++ dktJ9_put_2_3
def dkwJ9_put_2_1 : List UInt8 := [58, 7, 25, 7, 198, 0, 85, 25, 4, 58, 6, 25, 7, 43, 25, 4, 180, 0, 105, 185, 0, 117, 3, 0]
abbrev dktJ9_put_2_1 : List UInt8 := dkwJ9_put_2_1 ++ dktJ9_put_2_2
def dkwJ9_put_2_0 : List UInt8 := [42, 180, 0, 101, 58, 4, 25, 4, 199, 0, 11, 42, 43, 44, 182, 0, 135, 1, 176, 42, 180, 0, 16]
abbrev dktJ9_put_2_0 : List UInt8 := dkwJ9_put_2_0 ++ dktJ9_put_2_1
theorem dksJ9_put_2_0 : cJ9_put_2.data.toList.drop 0 = dktJ9_put_2_0 := by decide +kernel
theorem dksJ9_put_2_1 : cJ9_put_2.data.toList.drop 23 = dktJ9_put_2_1 := dk_seg dksJ9_put_2_0 23 rfl rfl
theorem dksJ9_put_2_2 : cJ9_put_2.data.toList.drop 47 = dktJ9_put_2_2 := dk_seg dksJ9_put_2_1 24 rfl rfl
theorem dksJ9_put_2_3 : cJ9_put_2.data.toList.drop 71 = dktJ9_put_2_3 := dk_seg dksJ9_put_2_2 24 rfl rfl
theorem dksJ9_put_2_4 : cJ9_put_2.data.toList.drop 95 = dktJ9_put_2_4 := dk_seg dksJ9_put_2_3 24 rfl rfl
theorem dksJ9_put_2_5 : cJ9_put_2.data.toList.drop 118 = dktJ9_put_2_5 := dk_seg dksJ9_put_2_4 23 rfl rfl
theorem dksJ9_put_2_6 : cJ9_put_2.data.toList.drop 141 = dktJ9_put_2_6 := dk_seg dksJ9_put_2_5 23 rfl rfl
theorem dksJ9_put_2_7 : cJ9_put_2.data.toList.drop 163 = dktJ9_put_2_7 := dk_seg dksJ9_put_2_6 22 rfl rfl
theorem dksJ9_put_2_8 : cJ9_put_2.data.toList.drop 187 = dktJ9_put_2_8 := dk_seg dksJ9_put_2_7 24 rfl rfl
theorem dksJ9_put_2_9 : cJ9_put_2.data.toList.drop 211 = dktJ9_put_2_9 := dk_seg dksJ9_put_2_8 24 rfl rfl
theorem dJ9_put_2_0 : decode cJ9_put_2 0 = .ok (.aload_n 0, 1) := dk_42 (dk_at dksJ9_put_2_0 0 rfl rfl)
theorem dJ9_put_2_1 : decode cJ9_put_2 1 = .ok (.getfield 101, 3) := dk_180 0 101 (dk_at dksJ9_put_2_0 1 rfl rfl)
theorem dJ9_put_2_4 : decode cJ9_put_2 4 = .ok (.astore 4, 2) := dk_58 4 (dk_at dksJ9_put_2_0 4 rfl rfl)
theorem dJ9_put_2_6 : decode cJ9_put_2 6 = .ok (.aload 4, 2) := dk_25 4 (dk_at dksJ9_put_2_0 6 rfl rfl)
theorem dJ9_put_2_8 : decode cJ9_put_2 8 = .ok (.ifnonnull 11, 3) := dk_199 0 11 (dk_at dksJ9_put_2_0 8 rfl rfl)
theorem dJ9_put_2_11 : decode cJ9_put_2 11 = .ok (.aload_n 0, 1) := dk_42 (dk_at dksJ9_put_2_0 11 rfl rfl)
theorem dJ9_put_2_12 : decode cJ9_put_2 12 = .ok (.aload_n 1, 1) := dk_43 (dk_at dksJ9_put_2_0 12 rfl rfl)
theorem dJ9_put_2_13 : decode cJ9_put_2 13 = .ok (.aload_n 2, 1) := dk_44 (dk_at dksJ9_put_2_0 13 rfl rfl)
theorem dJ9_put_2_14 : decode cJ9_put_2 14 = .ok (.invokevirtual 135, 3) := dk_182 0 135 (dk_at dksJ9_put_2_0 14 rfl rfl)
theorem dJ9_put_2_17 : decode cJ9_put_2 17 = .ok (.aconst_null, 1) := dk_1 (dk_at dksJ9_put_2_0 17 rfl rfl)
theorem dJ9_put_2_18 : decode cJ9_put_2 18 = .ok (.areturn, 1) := dk_176 (dk_at dksJ9_put_2_0 18 rfl rfl)
theorem dJ9_put_2_19 : decode cJ9_put_2 19 = .ok (.aload_n 0, 1) := dk_42 (dk_at dksJ9_put_2_0 19 rfl rfl)
theorem dJ9_put_2_20 : decode cJ9_put_2 20 = .ok (.getfield 16, 3) := dk_180 0 16 (dk_at dksJ9_put_2_0 20 rfl rfl)
theorem dJ9_put_2_23 : decode cJ9_put_2 23 = .ok (.astore 7, 2) := dk_58 7 (dk_at dksJ9_put_2_1 0 rfl rfl)
theorem dJ9_put_2_25 : decode cJ9_put_2 25 = .ok (.aload 7, 2) := dk_25 7 (dk_at dksJ9_put_2_1 2 rfl rfl)
theorem dJ9_put_2_27 : decode cJ9_put_2 27 = .ok (.ifnull 85, 3) := dk_198 0 85 (dk_at dksJ9_put_2_1 4 rfl rfl)
theorem dJ9_put_2_30 : decode cJ9_put_2 30 = .ok (.aload 4, 2) := dk_25 4 (dk_at dksJ9_put_2_1 7 rfl rfl)
theorem dJ9_put_2_32 : decode cJ9_put_2 32 = .ok (.astore 6, 2) := dk_58 6 (dk_at dksJ9_put_2_1 9 rfl rfl)
theorem dJ9_put_2_34 : decode cJ9_put_2 34 = .ok (.aload 7, 2) := dk_25 7 (dk_at dksJ9_put_2_1 11 rfl rfl)
theorem dJ9_put_2_36 : decode cJ9_put_2 36 = .ok (.aload_n 1, 1) := dk_43 (dk_at dksJ9_put_2_1 13 rfl rfl)
theorem dJ9_put_2_37 : decode cJ9_put_2 37 = .ok (.aload 4, 2) := dk_25 4 (dk_at dksJ9_put_2_1 14 rfl rfl)
theorem dJ9_put_2_39 : decode cJ9_put_2 39 = .ok (.getfield 105, 3) := dk_180 0 105 (dk_at dksJ9_put_2_1 16 rfl rfl)
theorem dJ9_put_2_42 : decode cJ9_put_2 42 = .ok (.invokeinterface 117 3, 5) := by decide +kernel
theorem dJ9_put_2_47 : decode cJ9_put_2 47 = .ok (.istore 5, 2) := dk_54 5 (dk_at dksJ9_put_2_2 0 rfl rfl)
theorem dJ9_put_2_49 : decode cJ9_put_2 49 = .ok (.iload 5, 2) := dk_21 5 (dk_at dksJ9_put_2_2 2 rfl rfl)
theorem dJ9_put_2_51 : decode cJ9_put_2 51 = .ok (.ifCond .ge 13, 3) := dk_156 0 13 (dk_at dksJ9_put_2_2 4 rfl rfl)
theorem dJ9_put_2_54 : decode cJ9_put_2 54 = .ok (.aload 4, 2) := dk_25 4 (dk_at dksJ9_put_2_2 7 rfl rfl)
theorem dJ9_put_2_56 : decode cJ9_put_2 56 = .ok (.getfield 111, 3) := dk_180 0 111 (dk_at dksJ9_put_2_2 9 rfl rfl)
theorem dJ9_put_2_59 : decode cJ9_put_2 59 = .ok (.astore 4, 2) := dk_58 4 (dk_at dksJ9_put_2_2 12 rfl rfl)
theorem dJ9_put_2_61 : decode cJ9_put_2 61 = .ok (.goto 43, 3) := dk_167 0 43 (dk_at dksJ9_put_2_2 14 rfl rfl)
theorem dJ9_put_2_64 : decode cJ9_put_2 64 = .ok (.iload 5, 2) := dk_21 5 (dk_at dksJ9_put_2_2 17 rfl rfl)
theorem dJ9_put_2_66 : decode cJ9_put_2 66 = .ok (.ifCond .le 13, 3) := dk_158 0 13 (dk_at dksJ9_put_2_2 19 rfl rfl)
theorem dJ9_put_2_69 : decode cJ9_put_2 69 = .ok (.aload 4, 2) := dk_25 4 (dk_at dksJ9_put_2_2 22 rfl rfl)
theorem dJ9_put_2_71 : decode cJ9_put_2 71 = .ok (.getfield 114, 3) := dk_180 0 114 (dk_at dksJ9_put_2_3 0 rfl rfl)
theorem dJ9_put_2_74 : decode cJ9_put_2 74 = .ok (.astore 4, 2) := dk_58 4 (dk_at dksJ9_put_2_3 3 rfl rfl)
theorem dJ9_put_2_76 : decode cJ9_put_2 76 = .ok (.goto 28, 3) := dk_167 0 28 (dk_at dksJ9_put_2_3 5 rfl rfl)
theorem dJ9_put_2_79 : decode cJ9_put_2 79 = .ok (.aload 4, 2) := dk_25 4 (dk_at dksJ9_put_2_3 8 rfl rfl)
theorem dJ9_put_2_81 : decode cJ9_put_2 81 = .ok (.getfield 58, 3) := dk_180 0 58 (dk_at dksJ9_put_2_3 10 rfl rfl)
theorem dJ9_put_2_84 : decode cJ9_put_2 84 = .ok (.astore 8, 2) := dk_58 8 (dk_at dksJ9_put_2_3 13 rfl rfl)
theorem dJ9_put_2_86 : decode cJ9_put_2 86 = .ok (.iload_n 3, 1) := dk_29 (dk_at dksJ9_put_2_3 15 rfl rfl)
theorem dJ9_put_2_87 : decode cJ9_put_2 87 = .ok (.ifCond .ne 8, 3) := dk_154 0 8 (dk_at dksJ9_put_2_3 16 rfl rfl)
theorem dJ9_put_2_90 : decode cJ9_put_2 90 = .ok (.aload 8, 2) := dk_25 8 (dk_at dksJ9_put_2_3 19 rfl rfl)
theorem dJ9_put_2_92 : decode cJ9_put_2 92 = .ok (.ifnonnull 9, 3) := dk_199 0 9 (dk_at dksJ9_put_2_3 21 rfl rfl)
theorem dJ9_put_2_95 : decode cJ9_put_2 95 = .ok (.aload 4, 2) := dk_25 4 (dk_at dksJ9_put_2_4 0 rfl rfl)
theorem dJ9_put_2_97 : decode cJ9_put_2 97 = .ok (.aload_n 2, 1) := dk_44 (dk_at dksJ9_put_2_4 2 rfl rfl)
theorem dJ9_put_2_98 : decode cJ9_put_2 98 = .ok (.putfield 58, 3) := dk_181 0 58 (dk_at dksJ9_put_2_4 3 rfl rfl)
theorem dJ9_put_2_101 : decode cJ9_put_2 101 = .ok (.aload 8, 2) := dk_25 8 (dk_at dksJ9_put_2_4 6 rfl rfl)
theorem dJ9_put_2_103 : decode cJ9_put_2 103 = .ok (.areturn, 1) := dk_176 (dk_at dksJ9_put_2_4 8 rfl rfl)
theorem dJ9_put_2_104 : decode cJ9_put_2 104 = .ok (.aload 4, 2) := dk_25 4 (dk_at dksJ9_put_2_4 9 rfl rfl)
theorem dJ9_put_2_106 : decode cJ9_put_2 106 = .ok (.ifnonnull (-76), 3) := dk_199 255 180 (dk_at dksJ9_put_2_4 11 rfl rfl)
theorem dJ9_put_2_109 : decode cJ9_put_2 109 = .ok (.goto 92, 3) := dk_167 0 92 (dk_at dksJ9_put_2_4 14 rfl rfl)
theorem dJ9_put_2_112 : decode cJ9_put_2 112 = .ok (.aload_n 1, 1) := dk_43 (dk_at dksJ9_put_2_4 17 rfl rfl)
theorem dJ9_put_2_113 : decode cJ9_put_2 113 = .ok (.invokestatic 95, 3) := dk_184 0 95 (dk_at dksJ9_put_2_4 18 rfl rfl)
theorem dJ9_put_2_116 : decode cJ9_put_2 116 = .ok (.pop, 1) := dk_87 (dk_at dksJ9_put_2_4 21 rfl rfl)
theorem dJ9_put_2_117 : decode cJ9_put_2 117 = .ok (.aload_n 1, 1) := dk_43 (dk_at dksJ9_put_2_4 22 rfl rfl)
theorem dJ9_put_2_118 : decode cJ9_put_2 118 = .ok (.checkcast 99, 3) := dk_192 0 99 (dk_at dksJ9_put_2_5 0 rfl rfl)
theorem dJ9_put_2_121 : decode cJ9_put_2 121 = .ok (.astore 8, 2) := dk_58 8 (dk_at dksJ9_put_2_5 3 rfl rfl)
theorem dJ9_put_2_123 : decode cJ9_put_2 123 = .ok (.aload 4, 2) := dk_25 4 (dk_at dksJ9_put_2_5 5 rfl rfl)
theorem dJ9_put_2_125 : decode cJ9_put_2 125 = .ok (.astore 6, 2) := dk_58 6 (dk_at dksJ9_put_2_5 7 rfl rfl)
theorem dJ9_put_2_127 : decode cJ9_put_2 127 = .ok (.aload 8, 2) := dk_25 8 (dk_at dksJ9_put_2_5 9 rfl rfl)
theorem dJ9_put_2_129 : decode cJ9_put_2 129 = .ok (.aload 4, 2) := dk_25 4 (dk_at dksJ9_put_2_5 11 rfl rfl)
theorem dJ9_put_2_131 : decode cJ9_put_2 131 = .ok (.getfield 105, 3) := dk_180 0 105 (dk_at dksJ9_put_2_5 13 rfl rfl)
theorem dJ9_put_2_134 : decode cJ9_put_2 134 = .ok (.invokeinterface 107 2, 5) := by decide +kernel
theorem dJ9_put_2_139 : decode cJ9_put_2 139 = .ok (.istore 5, 2) := dk_54 5 (dk_at dksJ9_put_2_5 21 rfl rfl)
theorem dJ9_put_2_141 : decode cJ9_put_2 141 = .ok (.iload 5, 2) := dk_21 5 (dk_at dksJ9_put_2_6 0 rfl rfl)
theorem dJ9_put_2_143 : decode cJ9_put_2 143 = .ok (.ifCond .ge 13, 3) := dk_156 0 13 (dk_at dksJ9_put_2_6 2 rfl rfl)
theorem dJ9_put_2_146 : decode cJ9_put_2 146 = .ok (.aload 4, 2) := dk_25 4 (dk_at dksJ9_put_2_6 5 rfl rfl)
theorem dJ9_put_2_148 : decode cJ9_put_2 148 = .ok (.getfield 111, 3) := dk_180 0 111 (dk_at dksJ9_put_2_6 7 rfl rfl)
theorem dJ9_put_2_151 : decode cJ9_put_2 151 = .ok (.astore 4, 2) := dk_58 4 (dk_at dksJ9_put_2_6 10 rfl rfl)
theorem dJ9_put_2_153 : decode cJ9_put_2 153 = .ok (.goto 43, 3) := dk_167 0 43 (dk_at dksJ9_put_2_6 12 rfl rfl)
theorem dJ9_put_2_156 : decode cJ9_put_2 156 = .ok (.iload 5, 2) := dk_21 5 (dk_at dksJ9_put_2_6 15 rfl rfl)
theorem dJ9_put_2_158 : decode cJ9_put_2 158 = .ok (.ifCond .le 13, 3) := dk_158 0 13 (dk_at dksJ9_put_2_6 17 rfl rfl)
theorem dJ9_put_2_161 : decode cJ9_put_2 161 = .ok (.aload 4, 2) := dk_25 4 (dk_at dksJ9_put_2_6 20 rfl rfl)
theorem dJ9_put_2_163 : decode cJ9_put_2 163 = .ok (.getfield 114, 3) := dk_180 0 114 (dk_at dksJ9_put_2_7 0 rfl rfl)
theorem dJ9_put_2_166 : decode cJ9_put_2 166 = .ok (.astore 4, 2) := dk_58 4 (dk_at dksJ9_put_2_7 3 rfl rfl)
theorem dJ9_put_2_168 : decode cJ9_put_2 168 = .ok (.goto 28, 3) := dk_167 0 28 (dk_at dksJ9_put_2_7 5 rfl rfl)
theorem dJ9_put_2_171 : decode cJ9_put_2 171 = .ok (.aload 4, 2) := dk_25 4 (dk_at dksJ9_put_2_7 8 rfl rfl)
theorem dJ9_put_2_173 : decode cJ9_put_2 173 = .ok (.getfield 58, 3) := dk_180 0 58 (dk_at dksJ9_put_2_7 10 rfl rfl)
theorem dJ9_put_2_176 : decode cJ9_put_2 176 = .ok (.astore 9, 2) := dk_58 9 (dk_at dksJ9_put_2_7 13 rfl rfl)
theorem dJ9_put_2_178 : decode cJ9_put_2 178 = .ok (.iload_n 3, 1) := dk_29 (dk_at dksJ9_put_2_7 15 rfl rfl)
theorem dJ9_put_2_179 : decode cJ9_put_2 179 = .ok (.ifCond .ne 8, 3) := dk_154 0 8 (dk_at dksJ9_put_2_7 16 rfl rfl)
theorem dJ9_put_2_182 : decode cJ9_put_2 182 = .ok (.aload 9, 2) := dk_25 9 (dk_at dksJ9_put_2_7 19 rfl rfl)
theorem dJ9_put_2_184 : decode cJ9_put_2 184 = .ok (.ifnonnull 9, 3) := dk_199 0 9 (dk_at dksJ9_put_2_7 21 rfl rfl)
theorem dJ9_put_2_187 : decode cJ9_put_2 187 = .ok (.aload 4, 2) := dk_25 4 (dk_at dksJ9_put_2_8 0 rfl rfl)
theorem dJ9_put_2_189 : decode cJ9_put_2 189 = .ok (.aload_n 2, 1) := dk_44 (dk_at dksJ9_put_2_8 2 rfl rfl)
theorem dJ9_put_2_190 : decode cJ9_put_2 190 = .ok (.putfield 58, 3) := dk_181 0 58 (dk_at dksJ9_put_2_8 3 rfl rfl)
theorem dJ9_put_2_193 : decode cJ9_put_2 193 = .ok (.aload 9, 2) := dk_25 9 (dk_at dksJ9_put_2_8 6 rfl rfl)
theorem dJ9_put_2_195 : decode cJ9_put_2 195 = .ok (.areturn, 1) := dk_176 (dk_at dksJ9_put_2_8 8 rfl rfl)
theorem dJ9_put_2_196 : decode cJ9_put_2 196 = .ok (.aload 4, 2) := dk_25 4 (dk_at dksJ9_put_2_8 9 rfl rfl)
theorem dJ9_put_2_198 : decode cJ9_put_2 198 = .ok (.ifnonnull (-75), 3) := dk_199 255 181 (dk_at dksJ9_put_2_8 11 rfl rfl)
theorem dJ9_put_2_201 : decode cJ9_put_2 201 = .ok (.aload_n 0, 1) := dk_42 (dk_at dksJ9_put_2_8 14 rfl rfl)
theorem dJ9_put_2_202 : decode cJ9_put_2 202 = .ok (.aload_n 1, 1) := dk_43 (dk_at dksJ9_put_2_8 15 rfl rfl)
theorem dJ9_put_2_203 : decode cJ9_put_2 203 = .ok (.aload_n 2, 1) := dk_44 (dk_at dksJ9_put_2_8 16 rfl rfl)
theorem dJ9_put_2_204 : decode cJ9_put_2 204 = .ok (.aload 6, 2) := dk_25 6 (dk_at dksJ9_put_2_8 17 rfl rfl)
theorem dJ9_put_2_206 : decode cJ9_put_2 206 = .ok (.iload 5, 2) := dk_21 5 (dk_at dksJ9_put_2_8 19 rfl rfl)
theorem dJ9_put_2_208 : decode cJ9_put_2 208 = .ok (.ifCond .ge 7, 3) := dk_156 0 7 (dk_at dksJ9_put_2_8 21 rfl rfl)
theorem dJ9_put_2_211 : decode cJ9_put_2 211 = .ok (.iconst 1, 1) := dk_4 (dk_at dksJ9_put_2_9 0 rfl rfl)
theorem dJ9_put_2_212 : decode cJ9_put_2 212 = .ok (.goto 4, 3) := dk_167 0 4 (dk_at dksJ9_put_2_9 1 rfl rfl)
theorem dJ9_put_2_215 : decode cJ9_put_2 215 = .ok (.iconst 0, 1) := dk_3 (dk_at dksJ9_put_2_9 4 rfl rfl)
theorem dJ9_put_2_216 : decode cJ9_put_2 216 = .ok (.invokevirtual 139, 3) := dk_182 0 139 (dk_at dksJ9_put_2_9 5 rfl rfl)
theorem dJ9_put_2_219 : decode cJ9_put_2 219 = .ok (.aconst_null, 1) := dk_1 (dk_at dksJ9_put_2_9 8 rfl rfl)
theorem dJ9_put_2_220 : decode cJ9_put_2 220 = .ok (.areturn, 1) := dk_176 (dk_at dksJ9_put_2_9 9 rfl rfl)
abbrev cJ9_addEntryToEmptyMap : ByteArray := prog_51_method_30_code
def yJ9_addEntryToEmptyMap : MethodName := ⟨RJ9, "addEntryToEmptyMap", "(Ljava/lang/Object;Ljava/lang/Object;)V"⟩
def dkwJ9_addEntryToEmptyMap_1 : List UInt8 := [181, 0, 7, 42, 89, 180, 0, 13, 4, 96, 181, 0, 13, 177]
abbrev dktJ9_addEntryToEmptyMap_1 : List UInt8 := dkwJ9_addEntryToEmptyMap_1 ++ []
def dkwJ9_addEntryToEmptyMap_0 : List UInt8 := [42, 43, 43, 182, 0, 123, 87, 42, 187, 0, 59, 89, 43, 44, 1, 183, 0, 167, 181, 0, 101, 42, 4]
abbrev dktJ9_addEntryToEmptyMap_0 : List UInt8 := dkwJ9_addEntryToEmptyMap_0 ++ dktJ9_addEntryToEmptyMap_1
theorem dksJ9_addEntryToEmptyMap_0 : cJ9_addEntryToEmptyMap.data.toList.drop 0 = dktJ9_addEntryToEmptyMap_0 := by decide +kernel
theorem dksJ9_addEntryToEmptyMap_1 : cJ9_addEntryToEmptyMap.data.toList.drop 23 = dktJ9_addEntryToEmptyMap_1 := dk_seg dksJ9_addEntryToEmptyMap_0 23 rfl rfl
theorem dJ9_addEntryToEmptyMap_0 : decode cJ9_addEntryToEmptyMap 0 = .ok (.aload_n 0, 1) := dk_42 (dk_at dksJ9_addEntryToEmptyMap_0 0 rfl rfl)
theorem dJ9_addEntryToEmptyMap_1 : decode cJ9_addEntryToEmptyMap 1 = .ok (.aload_n 1, 1) := dk_43 (dk_at dksJ9_addEntryToEmptyMap_0 1 rfl rfl)
theorem dJ9_addEntryToEmptyMap_2 : decode cJ9_addEntryToEmptyMap 2 = .ok (.aload_n 1, 1) := dk_43 (dk_at dksJ9_addEntryToEmptyMap_0 2 rfl rfl)
theorem dJ9_addEntryToEmptyMap_3 : decode cJ9_addEntryToEmptyMap 3 = .ok (.invokevirtual 123, 3) := dk_182 0 123 (dk_at dksJ9_addEntryToEmptyMap_0 3 rfl rfl)
theorem dJ9_addEntryToEmptyMap_6 : decode cJ9_addEntryToEmptyMap 6 = .ok (.pop, 1) := dk_87 (dk_at dksJ9_addEntryToEmptyMap_0 6 rfl rfl)
theorem dJ9_addEntryToEmptyMap_7 : decode cJ9_addEntryToEmptyMap 7 = .ok (.aload_n 0, 1) := dk_42 (dk_at dksJ9_addEntryToEmptyMap_0 7 rfl rfl)
theorem dJ9_addEntryToEmptyMap_8 : decode cJ9_addEntryToEmptyMap 8 = .ok (.new 59, 3) := dk_187 0 59 (dk_at dksJ9_addEntryToEmptyMap_0 8 rfl rfl)
theorem dJ9_addEntryToEmptyMap_11 : decode cJ9_addEntryToEmptyMap 11 = .ok (.dup, 1) := dk_89 (dk_at dksJ9_addEntryToEmptyMap_0 11 rfl rfl)
theorem dJ9_addEntryToEmptyMap_12 : decode cJ9_addEntryToEmptyMap 12 = .ok (.aload_n 1, 1) := dk_43 (dk_at dksJ9_addEntryToEmptyMap_0 12 rfl rfl)
theorem dJ9_addEntryToEmptyMap_13 : decode cJ9_addEntryToEmptyMap 13 = .ok (.aload_n 2, 1) := dk_44 (dk_at dksJ9_addEntryToEmptyMap_0 13 rfl rfl)
theorem dJ9_addEntryToEmptyMap_14 : decode cJ9_addEntryToEmptyMap 14 = .ok (.aconst_null, 1) := dk_1 (dk_at dksJ9_addEntryToEmptyMap_0 14 rfl rfl)
theorem dJ9_addEntryToEmptyMap_15 : decode cJ9_addEntryToEmptyMap 15 = .ok (.invokespecial 167, 3) := dk_183 0 167 (dk_at dksJ9_addEntryToEmptyMap_0 15 rfl rfl)
theorem dJ9_addEntryToEmptyMap_18 : decode cJ9_addEntryToEmptyMap 18 = .ok (.putfield 101, 3) := dk_181 0 101 (dk_at dksJ9_addEntryToEmptyMap_0 18 rfl rfl)
theorem dJ9_addEntryToEmptyMap_21 : decode cJ9_addEntryToEmptyMap 21 = .ok (.aload_n 0, 1) := dk_42 (dk_at dksJ9_addEntryToEmptyMap_0 21 rfl rfl)
theorem dJ9_addEntryToEmptyMap_22 : decode cJ9_addEntryToEmptyMap 22 = .ok (.iconst 1, 1) := dk_4 (dk_at dksJ9_addEntryToEmptyMap_0 22 rfl rfl)
theorem dJ9_addEntryToEmptyMap_23 : decode cJ9_addEntryToEmptyMap 23 = .ok (.putfield 7, 3) := dk_181 0 7 (dk_at dksJ9_addEntryToEmptyMap_1 0 rfl rfl)
theorem dJ9_addEntryToEmptyMap_26 : decode cJ9_addEntryToEmptyMap 26 = .ok (.aload_n 0, 1) := dk_42 (dk_at dksJ9_addEntryToEmptyMap_1 3 rfl rfl)
theorem dJ9_addEntryToEmptyMap_27 : decode cJ9_addEntryToEmptyMap 27 = .ok (.dup, 1) := dk_89 (dk_at dksJ9_addEntryToEmptyMap_1 4 rfl rfl)
theorem dJ9_addEntryToEmptyMap_28 : decode cJ9_addEntryToEmptyMap 28 = .ok (.getfield 13, 3) := dk_180 0 13 (dk_at dksJ9_addEntryToEmptyMap_1 5 rfl rfl)
theorem dJ9_addEntryToEmptyMap_31 : decode cJ9_addEntryToEmptyMap 31 = .ok (.iconst 1, 1) := dk_4 (dk_at dksJ9_addEntryToEmptyMap_1 8 rfl rfl)
theorem dJ9_addEntryToEmptyMap_32 : decode cJ9_addEntryToEmptyMap 32 = .ok (.iadd, 1) := dk_96 (dk_at dksJ9_addEntryToEmptyMap_1 9 rfl rfl)
theorem dJ9_addEntryToEmptyMap_33 : decode cJ9_addEntryToEmptyMap 33 = .ok (.putfield 13, 3) := dk_181 0 13 (dk_at dksJ9_addEntryToEmptyMap_1 10 rfl rfl)
theorem dJ9_addEntryToEmptyMap_36 : decode cJ9_addEntryToEmptyMap 36 = .ok (.return_, 1) := dk_177 (dk_at dksJ9_addEntryToEmptyMap_1 13 rfl rfl)
abbrev cJ9_compare : ByteArray := prog_51_method_67_code
def yJ9_compare : MethodName := ⟨RJ9, "compare", "(Ljava/lang/Object;Ljava/lang/Object;)I"⟩
def dkwJ9_compare_1 : List UInt8 := [43, 44, 185, 0, 117, 3, 0, 172]
abbrev dktJ9_compare_1 : List UInt8 := dkwJ9_compare_1 ++ []
def dkwJ9_compare_0 : List UInt8 := [42, 180, 0, 16, 199, 0, 16, 43, 192, 0, 99, 44, 185, 0, 107, 2, 0, 167, 0, 14, 42, 180, 0, 16]
abbrev dktJ9_compare_0 : List UInt8 := dkwJ9_compare_0 ++ dktJ9_compare_1
theorem dksJ9_compare_0 : cJ9_compare.data.toList.drop 0 = dktJ9_compare_0 := by decide +kernel
theorem dksJ9_compare_1 : cJ9_compare.data.toList.drop 24 = dktJ9_compare_1 := dk_seg dksJ9_compare_0 24 rfl rfl
theorem dJ9_compare_0 : decode cJ9_compare 0 = .ok (.aload_n 0, 1) := dk_42 (dk_at dksJ9_compare_0 0 rfl rfl)
theorem dJ9_compare_1 : decode cJ9_compare 1 = .ok (.getfield 16, 3) := dk_180 0 16 (dk_at dksJ9_compare_0 1 rfl rfl)
theorem dJ9_compare_4 : decode cJ9_compare 4 = .ok (.ifnonnull 16, 3) := dk_199 0 16 (dk_at dksJ9_compare_0 4 rfl rfl)
theorem dJ9_compare_7 : decode cJ9_compare 7 = .ok (.aload_n 1, 1) := dk_43 (dk_at dksJ9_compare_0 7 rfl rfl)
theorem dJ9_compare_8 : decode cJ9_compare 8 = .ok (.checkcast 99, 3) := dk_192 0 99 (dk_at dksJ9_compare_0 8 rfl rfl)
theorem dJ9_compare_11 : decode cJ9_compare 11 = .ok (.aload_n 2, 1) := dk_44 (dk_at dksJ9_compare_0 11 rfl rfl)
theorem dJ9_compare_12 : decode cJ9_compare 12 = .ok (.invokeinterface 107 2, 5) := by decide +kernel
theorem dJ9_compare_17 : decode cJ9_compare 17 = .ok (.goto 14, 3) := dk_167 0 14 (dk_at dksJ9_compare_0 17 rfl rfl)
theorem dJ9_compare_20 : decode cJ9_compare 20 = .ok (.aload_n 0, 1) := dk_42 (dk_at dksJ9_compare_0 20 rfl rfl)
theorem dJ9_compare_21 : decode cJ9_compare 21 = .ok (.getfield 16, 3) := dk_180 0 16 (dk_at dksJ9_compare_0 21 rfl rfl)
theorem dJ9_compare_24 : decode cJ9_compare 24 = .ok (.aload_n 1, 1) := dk_43 (dk_at dksJ9_compare_1 0 rfl rfl)
theorem dJ9_compare_25 : decode cJ9_compare 25 = .ok (.aload_n 2, 1) := dk_44 (dk_at dksJ9_compare_1 1 rfl rfl)
theorem dJ9_compare_26 : decode cJ9_compare 26 = .ok (.invokeinterface 117 3, 5) := by decide +kernel
theorem dJ9_compare_31 : decode cJ9_compare 31 = .ok (.ireturn, 1) := dk_172 (dk_at dksJ9_compare_1 7 rfl rfl)
abbrev cJ9_addEntry : ByteArray := prog_51_method_29_code
def yJ9_addEntry : MethodName := ⟨RJ9, "addEntry", "(Ljava/lang/Object;Ljava/lang/Object;Ljava/util/TreeMap$Entry;Z)V"⟩
def dkwJ9_addEntry_2 : List UInt8 := [181, 0, 7, 42, 89, 180, 0, 13, 4, 96, 181, 0, 13, 177]
abbrev dktJ9_addEntry_2 : List UInt8 := dkwJ9_addEntry_2 ++ []
def dkwJ9_addEntry_1 : List UInt8 := [167, 0, 9, 45, 25, 5, 181, 0, 114, 42, 25, 5, 182, 0, 170, 42, 89, 180, 0, 7, 4, 96]
abbrev dktJ9_addEntry_1 : List UInt8 := dkwJ9_addEntry_1 ++ dktJ9_addEntry_2
def dkwJ9_addEntry_0 : List UInt8 := [187, 0, 59, 89, 43, 44, 45, 183, 0, 167, 58, 5, 21, 4, 153, 0, 12, 45, 25, 5, 181, 0, 111]
abbrev dktJ9_addEntry_0 : List UInt8 := dkwJ9_addEntry_0 ++ dktJ9_addEntry_1
theorem dksJ9_addEntry_0 : cJ9_addEntry.data.toList.drop 0 = dktJ9_addEntry_0 := by decide +kernel
theorem dksJ9_addEntry_1 : cJ9_addEntry.data.toList.drop 23 = dktJ9_addEntry_1 := dk_seg dksJ9_addEntry_0 23 rfl rfl
theorem dksJ9_addEntry_2 : cJ9_addEntry.data.toList.drop 45 = dktJ9_addEntry_2 := dk_seg dksJ9_addEntry_1 22 rfl rfl
theorem dJ9_addEntry_0 : decode cJ9_addEntry 0 = .ok (.new 59, 3) := dk_187 0 59 (dk_at dksJ9_addEntry_0 0 rfl rfl)
theorem dJ9_addEntry_3 : decode cJ9_addEntry 3 = .ok (.dup, 1) := dk_89 (dk_at dksJ9_addEntry_0 3 rfl rfl)
theorem dJ9_addEntry_4 : decode cJ9_addEntry 4 = .ok (.aload_n 1, 1) := dk_43 (dk_at dksJ9_addEntry_0 4 rfl rfl)
theorem dJ9_addEntry_5 : decode cJ9_addEntry 5 = .ok (.aload_n 2, 1) := dk_44 (dk_at dksJ9_addEntry_0 5 rfl rfl)
theorem dJ9_addEntry_6 : decode cJ9_addEntry 6 = .ok (.aload_n 3, 1) := dk_45 (dk_at dksJ9_addEntry_0 6 rfl rfl)
theorem dJ9_addEntry_7 : decode cJ9_addEntry 7 = .ok (.invokespecial 167, 3) := dk_183 0 167 (dk_at dksJ9_addEntry_0 7 rfl rfl)
theorem dJ9_addEntry_10 : decode cJ9_addEntry 10 = .ok (.astore 5, 2) := dk_58 5 (dk_at dksJ9_addEntry_0 10 rfl rfl)
theorem dJ9_addEntry_12 : decode cJ9_addEntry 12 = .ok (.iload 4, 2) := dk_21 4 (dk_at dksJ9_addEntry_0 12 rfl rfl)
theorem dJ9_addEntry_14 : decode cJ9_addEntry 14 = .ok (.ifCond .eq 12, 3) := dk_153 0 12 (dk_at dksJ9_addEntry_0 14 rfl rfl)
theorem dJ9_addEntry_17 : decode cJ9_addEntry 17 = .ok (.aload_n 3, 1) := dk_45 (dk_at dksJ9_addEntry_0 17 rfl rfl)
theorem dJ9_addEntry_18 : decode cJ9_addEntry 18 = .ok (.aload 5, 2) := dk_25 5 (dk_at dksJ9_addEntry_0 18 rfl rfl)
theorem dJ9_addEntry_20 : decode cJ9_addEntry 20 = .ok (.putfield 111, 3) := dk_181 0 111 (dk_at dksJ9_addEntry_0 20 rfl rfl)
theorem dJ9_addEntry_23 : decode cJ9_addEntry 23 = .ok (.goto 9, 3) := dk_167 0 9 (dk_at dksJ9_addEntry_1 0 rfl rfl)
theorem dJ9_addEntry_26 : decode cJ9_addEntry 26 = .ok (.aload_n 3, 1) := dk_45 (dk_at dksJ9_addEntry_1 3 rfl rfl)
theorem dJ9_addEntry_27 : decode cJ9_addEntry 27 = .ok (.aload 5, 2) := dk_25 5 (dk_at dksJ9_addEntry_1 4 rfl rfl)
theorem dJ9_addEntry_29 : decode cJ9_addEntry 29 = .ok (.putfield 114, 3) := dk_181 0 114 (dk_at dksJ9_addEntry_1 6 rfl rfl)
theorem dJ9_addEntry_32 : decode cJ9_addEntry 32 = .ok (.aload_n 0, 1) := dk_42 (dk_at dksJ9_addEntry_1 9 rfl rfl)
theorem dJ9_addEntry_33 : decode cJ9_addEntry 33 = .ok (.aload 5, 2) := dk_25 5 (dk_at dksJ9_addEntry_1 10 rfl rfl)
theorem dJ9_addEntry_35 : decode cJ9_addEntry 35 = .ok (.invokevirtual 170, 3) := dk_182 0 170 (dk_at dksJ9_addEntry_1 12 rfl rfl)
theorem dJ9_addEntry_38 : decode cJ9_addEntry 38 = .ok (.aload_n 0, 1) := dk_42 (dk_at dksJ9_addEntry_1 15 rfl rfl)
theorem dJ9_addEntry_39 : decode cJ9_addEntry 39 = .ok (.dup, 1) := dk_89 (dk_at dksJ9_addEntry_1 16 rfl rfl)
theorem dJ9_addEntry_40 : decode cJ9_addEntry 40 = .ok (.getfield 7, 3) := dk_180 0 7 (dk_at dksJ9_addEntry_1 17 rfl rfl)
theorem dJ9_addEntry_43 : decode cJ9_addEntry 43 = .ok (.iconst 1, 1) := dk_4 (dk_at dksJ9_addEntry_1 20 rfl rfl)
theorem dJ9_addEntry_44 : decode cJ9_addEntry 44 = .ok (.iadd, 1) := dk_96 (dk_at dksJ9_addEntry_1 21 rfl rfl)
theorem dJ9_addEntry_45 : decode cJ9_addEntry 45 = .ok (.putfield 7, 3) := dk_181 0 7 (dk_at dksJ9_addEntry_2 0 rfl rfl)
theorem dJ9_addEntry_48 : decode cJ9_addEntry 48 = .ok (.aload_n 0, 1) := dk_42 (dk_at dksJ9_addEntry_2 3 rfl rfl)
theorem dJ9_addEntry_49 : decode cJ9_addEntry 49 = .ok (.dup, 1) := dk_89 (dk_at dksJ9_addEntry_2 4 rfl rfl)
theorem dJ9_addEntry_50 : decode cJ9_addEntry 50 = .ok (.getfield 13, 3) := dk_180 0 13 (dk_at dksJ9_addEntry_2 5 rfl rfl)
theorem dJ9_addEntry_53 : decode cJ9_addEntry 53 = .ok (.iconst 1, 1) := dk_4 (dk_at dksJ9_addEntry_2 8 rfl rfl)
theorem dJ9_addEntry_54 : decode cJ9_addEntry 54 = .ok (.iadd, 1) := dk_96 (dk_at dksJ9_addEntry_2 9 rfl rfl)
theorem dJ9_addEntry_55 : decode cJ9_addEntry 55 = .ok (.putfield 13, 3) := dk_181 0 13 (dk_at dksJ9_addEntry_2 10 rfl rfl)
theorem dJ9_addEntry_58 : decode cJ9_addEntry 58 = .ok (.return_, 1) := dk_177 (dk_at dksJ9_addEntry_2 13 rfl rfl)
abbrev cJ9_fixAfterInsertion : ByteArray := prog_51_method_83_code
def yJ9_fixAfterInsertion : MethodName := ⟨RJ9, "fixAfterInsertion", "(Ljava/util/TreeMap$Entry;)V"⟩
def dkwJ9_fixAfterInsertion_11 : List UInt8 := [42, 180, 0, 101, 4, 181, 1, 34, 177]
abbrev dktJ9_fixAfterInsertion_11 : List UInt8 := dkwJ9_fixAfterInsertion_11 ++ []
def dkwJ9_fixAfterInsertion_10 : List UInt8 := [184, 1, 38, 184, 1, 38, 3, 184, 1, 51, 42, 43, 184, 1, 38, 184, 1, 38, 182, 1, 55, 167, 255, 6]
abbrev dktJ9_fixAfterInsertion_10 : List UInt8 := dkwJ9_fixAfterInsertion_10 ++ dktJ9_fixAfterInsertion_11
def dkwJ9_fixAfterInsertion_9 : List UInt8 := [166, 0, 13, 43, 184, 1, 38, 76, 42, 43, 182, 1, 58, 43, 184, 1, 38, 4, 184, 1, 51, 43]
abbrev dktJ9_fixAfterInsertion_9 : List UInt8 := dkwJ9_fixAfterInsertion_9 ++ dktJ9_fixAfterInsertion_10
def dkwJ9_fixAfterInsertion_8 : List UInt8 := [184, 1, 51, 43, 184, 1, 38, 184, 1, 38, 76, 167, 0, 54, 43, 43, 184, 1, 38, 184, 1, 41]
abbrev dktJ9_fixAfterInsertion_8 : List UInt8 := dkwJ9_fixAfterInsertion_8 ++ dktJ9_fixAfterInsertion_9
def dkwJ9_fixAfterInsertion_7 : List UInt8 := [154, 0, 38, 43, 184, 1, 38, 4, 184, 1, 51, 44, 4, 184, 1, 51, 43, 184, 1, 38, 184, 1, 38, 3]
abbrev dktJ9_fixAfterInsertion_7 : List UInt8 := dkwJ9_fixAfterInsertion_7 ++ dktJ9_fixAfterInsertion_8
def dkwJ9_fixAfterInsertion_6 : List UInt8 := [184, 1, 38, 182, 1, 58, 167, 255, 113, 43, 184, 1, 38, 184, 1, 38, 184, 1, 41, 77, 44, 184, 1, 47]
abbrev dktJ9_fixAfterInsertion_6 : List UInt8 := dkwJ9_fixAfterInsertion_6 ++ dktJ9_fixAfterInsertion_7
def dkwJ9_fixAfterInsertion_5 : List UInt8 := [43, 184, 1, 38, 4, 184, 1, 51, 43, 184, 1, 38, 184, 1, 38, 3, 184, 1, 51, 42, 43, 184, 1, 38]
abbrev dktJ9_fixAfterInsertion_5 : List UInt8 := dkwJ9_fixAfterInsertion_5 ++ dktJ9_fixAfterInsertion_6
def dkwJ9_fixAfterInsertion_4 : List UInt8 := [167, 0, 54, 43, 43, 184, 1, 38, 184, 1, 44, 166, 0, 13, 43, 184, 1, 38, 76, 42, 43, 182, 1, 55]
abbrev dktJ9_fixAfterInsertion_4 : List UInt8 := dkwJ9_fixAfterInsertion_4 ++ dktJ9_fixAfterInsertion_5
def dkwJ9_fixAfterInsertion_3 : List UInt8 := [184, 1, 51, 43, 184, 1, 38, 184, 1, 38, 3, 184, 1, 51, 43, 184, 1, 38, 184, 1, 38, 76]
abbrev dktJ9_fixAfterInsertion_3 : List UInt8 := dkwJ9_fixAfterInsertion_3 ++ dktJ9_fixAfterInsertion_4
def dkwJ9_fixAfterInsertion_2 : List UInt8 := [184, 1, 38, 184, 1, 44, 77, 44, 184, 1, 47, 154, 0, 38, 43, 184, 1, 38, 4, 184, 1, 51, 44, 4]
abbrev dktJ9_fixAfterInsertion_2 : List UInt8 := dkwJ9_fixAfterInsertion_2 ++ dktJ9_fixAfterInsertion_3
def dkwJ9_fixAfterInsertion_1 : List UInt8 := [154, 0, 234, 43, 184, 1, 38, 43, 184, 1, 38, 184, 1, 38, 184, 1, 41, 166, 0, 110, 43, 184, 1, 38]
abbrev dktJ9_fixAfterInsertion_1 : List UInt8 := dkwJ9_fixAfterInsertion_1 ++ dktJ9_fixAfterInsertion_2
def dkwJ9_fixAfterInsertion_0 : List UInt8 := [43, 3, 181, 1, 34, 43, 198, 0, 252, 43, 42, 180, 0, 101, 165, 0, 244, 43, 180, 0, 124, 180, 1, 34]
abbrev dktJ9_fixAfterInsertion_0 : List UInt8 := dkwJ9_fixAfterInsertion_0 ++ dktJ9_fixAfterInsertion_1
theorem dksJ9_fixAfterInsertion_0 : cJ9_fixAfterInsertion.data.toList.drop 0 = dktJ9_fixAfterInsertion_0 := by decide +kernel
theorem dksJ9_fixAfterInsertion_1 : cJ9_fixAfterInsertion.data.toList.drop 24 = dktJ9_fixAfterInsertion_1 := dk_seg dksJ9_fixAfterInsertion_0 24 rfl rfl
theorem dksJ9_fixAfterInsertion_2 : cJ9_fixAfterInsertion.data.toList.drop 48 = dktJ9_fixAfterInsertion_2 := dk_seg dksJ9_fixAfterInsertion_1 24 rfl rfl
theorem dksJ9_fixAfterInsertion_3 : cJ9_fixAfterInsertion.data.toList.drop 72 = dktJ9_fixAfterInsertion_3 := dk_seg dksJ9_fixAfterInsertion_2 24 rfl rfl
theorem dksJ9_fixAfterInsertion_4 : cJ9_fixAfterInsertion.data.toList.drop 94 = dktJ9_fixAfterInsertion_4 := dk_seg dksJ9_fixAfterInsertion_3 22 rfl rfl
theorem dksJ9_fixAfterInsertion_5 : cJ9_fixAfterInsertion.data.toList.drop 118 = dktJ9_fixAfterInsertion_5 := dk_seg dksJ9_fixAfterInsertion_4 24 rfl rfl
theorem dksJ9_fixAfterInsertion_6 : cJ9_fixAfterInsertion.data.toList.drop 142 = dktJ9_fixAfterInsertion_6 := dk_seg dksJ9_fixAfterInsertion_5 24 rfl rfl
theorem dksJ9_fixAfterInsertion_7 : cJ9_fixAfterInsertion.data.toList.drop 166 = dktJ9_fixAfterInsertion_7 := dk_seg dksJ9_fixAfterInsertion_6 24 rfl rfl
theorem dksJ9_fixAfterInsertion_8 : cJ9_fixAfterInsertion.data.toList.drop 190 = dktJ9_fixAfterInsertion_8 := dk_seg dksJ9_fixAfterInsertion_7 24 rfl rfl
theorem dksJ9_fixAfterInsertion_9 : cJ9_fixAfterInsertion.data.toList.drop 212 = dktJ9_fixAfterInsertion_9 := dk_seg dksJ9_fixAfterInsertion_8 22 rfl rfl
theorem dksJ9_fixAfterInsertion_10 : cJ9_fixAfterInsertion.data.toList.drop 234 = dktJ9_fixAfterInsertion_10 := dk_seg dksJ9_fixAfterInsertion_9 22 rfl rfl
theorem dksJ9_fixAfterInsertion_11 : cJ9_fixAfterInsertion.data.toList.drop 258 = dktJ9_fixAfterInsertion_11 := dk_seg dksJ9_fixAfterInsertion_10 24 rfl rfl
theorem dJ9_fixAfterInsertion_0 : decode cJ9_fixAfterInsertion 0 = .ok (.aload_n 1, 1) := dk_43 (dk_at dksJ9_fixAfterInsertion_0 0 rfl rfl)
theorem dJ9_fixAfterInsertion_1 : decode cJ9_fixAfterInsertion 1 = .ok (.iconst 0, 1) := dk_3 (dk_at dksJ9_fixAfterInsertion_0 1 rfl rfl)
theorem dJ9_fixAfterInsertion_2 : decode cJ9_fixAfterInsertion 2 = .ok (.putfield 290, 3) := dk_181 1 34 (dk_at dksJ9_fixAfterInsertion_0 2 rfl rfl)
theorem dJ9_fixAfterInsertion_5 : decode cJ9_fixAfterInsertion 5 = .ok (.aload_n 1, 1) := dk_43 (dk_at dksJ9_fixAfterInsertion_0 5 rfl rfl)
theorem dJ9_fixAfterInsertion_6 : decode cJ9_fixAfterInsertion 6 = .ok (.ifnull 252, 3) := dk_198 0 252 (dk_at dksJ9_fixAfterInsertion_0 6 rfl rfl)
theorem dJ9_fixAfterInsertion_9 : decode cJ9_fixAfterInsertion 9 = .ok (.aload_n 1, 1) := dk_43 (dk_at dksJ9_fixAfterInsertion_0 9 rfl rfl)
theorem dJ9_fixAfterInsertion_10 : decode cJ9_fixAfterInsertion 10 = .ok (.aload_n 0, 1) := dk_42 (dk_at dksJ9_fixAfterInsertion_0 10 rfl rfl)
theorem dJ9_fixAfterInsertion_11 : decode cJ9_fixAfterInsertion 11 = .ok (.getfield 101, 3) := dk_180 0 101 (dk_at dksJ9_fixAfterInsertion_0 11 rfl rfl)
theorem dJ9_fixAfterInsertion_14 : decode cJ9_fixAfterInsertion 14 = .ok (.if_acmp .eq 244, 3) := dk_165 0 244 (dk_at dksJ9_fixAfterInsertion_0 14 rfl rfl)
theorem dJ9_fixAfterInsertion_17 : decode cJ9_fixAfterInsertion 17 = .ok (.aload_n 1, 1) := dk_43 (dk_at dksJ9_fixAfterInsertion_0 17 rfl rfl)
theorem dJ9_fixAfterInsertion_18 : decode cJ9_fixAfterInsertion 18 = .ok (.getfield 124, 3) := dk_180 0 124 (dk_at dksJ9_fixAfterInsertion_0 18 rfl rfl)
theorem dJ9_fixAfterInsertion_21 : decode cJ9_fixAfterInsertion 21 = .ok (.getfield 290, 3) := dk_180 1 34 (dk_at dksJ9_fixAfterInsertion_0 21 rfl rfl)
theorem dJ9_fixAfterInsertion_24 : decode cJ9_fixAfterInsertion 24 = .ok (.ifCond .ne 234, 3) := dk_154 0 234 (dk_at dksJ9_fixAfterInsertion_1 0 rfl rfl)
theorem dJ9_fixAfterInsertion_27 : decode cJ9_fixAfterInsertion 27 = .ok (.aload_n 1, 1) := dk_43 (dk_at dksJ9_fixAfterInsertion_1 3 rfl rfl)
theorem dJ9_fixAfterInsertion_28 : decode cJ9_fixAfterInsertion 28 = .ok (.invokestatic 294, 3) := dk_184 1 38 (dk_at dksJ9_fixAfterInsertion_1 4 rfl rfl)
theorem dJ9_fixAfterInsertion_31 : decode cJ9_fixAfterInsertion 31 = .ok (.aload_n 1, 1) := dk_43 (dk_at dksJ9_fixAfterInsertion_1 7 rfl rfl)
theorem dJ9_fixAfterInsertion_32 : decode cJ9_fixAfterInsertion 32 = .ok (.invokestatic 294, 3) := dk_184 1 38 (dk_at dksJ9_fixAfterInsertion_1 8 rfl rfl)
theorem dJ9_fixAfterInsertion_35 : decode cJ9_fixAfterInsertion 35 = .ok (.invokestatic 294, 3) := dk_184 1 38 (dk_at dksJ9_fixAfterInsertion_1 11 rfl rfl)
theorem dJ9_fixAfterInsertion_38 : decode cJ9_fixAfterInsertion 38 = .ok (.invokestatic 297, 3) := dk_184 1 41 (dk_at dksJ9_fixAfterInsertion_1 14 rfl rfl)
theorem dJ9_fixAfterInsertion_41 : decode cJ9_fixAfterInsertion 41 = .ok (.if_acmp .ne 110, 3) := dk_166 0 110 (dk_at dksJ9_fixAfterInsertion_1 17 rfl rfl)
theorem dJ9_fixAfterInsertion_44 : decode cJ9_fixAfterInsertion 44 = .ok (.aload_n 1, 1) := dk_43 (dk_at dksJ9_fixAfterInsertion_1 20 rfl rfl)
theorem dJ9_fixAfterInsertion_45 : decode cJ9_fixAfterInsertion 45 = .ok (.invokestatic 294, 3) := dk_184 1 38 (dk_at dksJ9_fixAfterInsertion_1 21 rfl rfl)
theorem dJ9_fixAfterInsertion_48 : decode cJ9_fixAfterInsertion 48 = .ok (.invokestatic 294, 3) := dk_184 1 38 (dk_at dksJ9_fixAfterInsertion_2 0 rfl rfl)
theorem dJ9_fixAfterInsertion_51 : decode cJ9_fixAfterInsertion 51 = .ok (.invokestatic 300, 3) := dk_184 1 44 (dk_at dksJ9_fixAfterInsertion_2 3 rfl rfl)
theorem dJ9_fixAfterInsertion_54 : decode cJ9_fixAfterInsertion 54 = .ok (.astore_n 2, 1) := dk_77 (dk_at dksJ9_fixAfterInsertion_2 6 rfl rfl)
theorem dJ9_fixAfterInsertion_55 : decode cJ9_fixAfterInsertion 55 = .ok (.aload_n 2, 1) := dk_44 (dk_at dksJ9_fixAfterInsertion_2 7 rfl rfl)
theorem dJ9_fixAfterInsertion_56 : decode cJ9_fixAfterInsertion 56 = .ok (.invokestatic 303, 3) := dk_184 1 47 (dk_at dksJ9_fixAfterInsertion_2 8 rfl rfl)
theorem dJ9_fixAfterInsertion_59 : decode cJ9_fixAfterInsertion 59 = .ok (.ifCond .ne 38, 3) := dk_154 0 38 (dk_at dksJ9_fixAfterInsertion_2 11 rfl rfl)
theorem dJ9_fixAfterInsertion_62 : decode cJ9_fixAfterInsertion 62 = .ok (.aload_n 1, 1) := dk_43 (dk_at dksJ9_fixAfterInsertion_2 14 rfl rfl)
theorem dJ9_fixAfterInsertion_63 : decode cJ9_fixAfterInsertion 63 = .ok (.invokestatic 294, 3) := dk_184 1 38 (dk_at dksJ9_fixAfterInsertion_2 15 rfl rfl)
theorem dJ9_fixAfterInsertion_66 : decode cJ9_fixAfterInsertion 66 = .ok (.iconst 1, 1) := dk_4 (dk_at dksJ9_fixAfterInsertion_2 18 rfl rfl)
theorem dJ9_fixAfterInsertion_67 : decode cJ9_fixAfterInsertion 67 = .ok (.invokestatic 307, 3) := dk_184 1 51 (dk_at dksJ9_fixAfterInsertion_2 19 rfl rfl)
theorem dJ9_fixAfterInsertion_70 : decode cJ9_fixAfterInsertion 70 = .ok (.aload_n 2, 1) := dk_44 (dk_at dksJ9_fixAfterInsertion_2 22 rfl rfl)
theorem dJ9_fixAfterInsertion_71 : decode cJ9_fixAfterInsertion 71 = .ok (.iconst 1, 1) := dk_4 (dk_at dksJ9_fixAfterInsertion_2 23 rfl rfl)
theorem dJ9_fixAfterInsertion_72 : decode cJ9_fixAfterInsertion 72 = .ok (.invokestatic 307, 3) := dk_184 1 51 (dk_at dksJ9_fixAfterInsertion_3 0 rfl rfl)
theorem dJ9_fixAfterInsertion_75 : decode cJ9_fixAfterInsertion 75 = .ok (.aload_n 1, 1) := dk_43 (dk_at dksJ9_fixAfterInsertion_3 3 rfl rfl)
theorem dJ9_fixAfterInsertion_76 : decode cJ9_fixAfterInsertion 76 = .ok (.invokestatic 294, 3) := dk_184 1 38 (dk_at dksJ9_fixAfterInsertion_3 4 rfl rfl)
theorem dJ9_fixAfterInsertion_79 : decode cJ9_fixAfterInsertion 79 = .ok (.invokestatic 294, 3) := dk_184 1 38 (dk_at dksJ9_fixAfterInsertion_3 7 rfl rfl)
theorem dJ9_fixAfterInsertion_82 : decode cJ9_fixAfterInsertion 82 = .ok (.iconst 0, 1) := dk_3 (dk_at dksJ9_fixAfterInsertion_3 10 rfl rfl)
theorem dJ9_fixAfterInsertion_83 : decode cJ9_fixAfterInsertion 83 = .ok (.invokestatic 307, 3) := dk_184 1 51 (dk_at dksJ9_fixAfterInsertion_3 11 rfl rfl)
theorem dJ9_fixAfterInsertion_86 : decode cJ9_fixAfterInsertion 86 = .ok (.aload_n 1, 1) := dk_43 (dk_at dksJ9_fixAfterInsertion_3 14 rfl rfl)
theorem dJ9_fixAfterInsertion_87 : decode cJ9_fixAfterInsertion 87 = .ok (.invokestatic 294, 3) := dk_184 1 38 (dk_at dksJ9_fixAfterInsertion_3 15 rfl rfl)
theorem dJ9_fixAfterInsertion_90 : decode cJ9_fixAfterInsertion 90 = .ok (.invokestatic 294, 3) := dk_184 1 38 (dk_at dksJ9_fixAfterInsertion_3 18 rfl rfl)
theorem dJ9_fixAfterInsertion_93 : decode cJ9_fixAfterInsertion 93 = .ok (.astore_n 1, 1) := dk_76 (dk_at dksJ9_fixAfterInsertion_3 21 rfl rfl)
theorem dJ9_fixAfterInsertion_94 : decode cJ9_fixAfterInsertion 94 = .ok (.goto 54, 3) := dk_167 0 54 (dk_at dksJ9_fixAfterInsertion_4 0 rfl rfl)
theorem dJ9_fixAfterInsertion_97 : decode cJ9_fixAfterInsertion 97 = .ok (.aload_n 1, 1) := dk_43 (dk_at dksJ9_fixAfterInsertion_4 3 rfl rfl)
theorem dJ9_fixAfterInsertion_98 : decode cJ9_fixAfterInsertion 98 = .ok (.aload_n 1, 1) := dk_43 (dk_at dksJ9_fixAfterInsertion_4 4 rfl rfl)
theorem dJ9_fixAfterInsertion_99 : decode cJ9_fixAfterInsertion 99 = .ok (.invokestatic 294, 3) := dk_184 1 38 (dk_at dksJ9_fixAfterInsertion_4 5 rfl rfl)
theorem dJ9_fixAfterInsertion_102 : decode cJ9_fixAfterInsertion 102 = .ok (.invokestatic 300, 3) := dk_184 1 44 (dk_at dksJ9_fixAfterInsertion_4 8 rfl rfl)
theorem dJ9_fixAfterInsertion_105 : decode cJ9_fixAfterInsertion 105 = .ok (.if_acmp .ne 13, 3) := dk_166 0 13 (dk_at dksJ9_fixAfterInsertion_4 11 rfl rfl)
theorem dJ9_fixAfterInsertion_108 : decode cJ9_fixAfterInsertion 108 = .ok (.aload_n 1, 1) := dk_43 (dk_at dksJ9_fixAfterInsertion_4 14 rfl rfl)
theorem dJ9_fixAfterInsertion_109 : decode cJ9_fixAfterInsertion 109 = .ok (.invokestatic 294, 3) := dk_184 1 38 (dk_at dksJ9_fixAfterInsertion_4 15 rfl rfl)
theorem dJ9_fixAfterInsertion_112 : decode cJ9_fixAfterInsertion 112 = .ok (.astore_n 1, 1) := dk_76 (dk_at dksJ9_fixAfterInsertion_4 18 rfl rfl)
theorem dJ9_fixAfterInsertion_113 : decode cJ9_fixAfterInsertion 113 = .ok (.aload_n 0, 1) := dk_42 (dk_at dksJ9_fixAfterInsertion_4 19 rfl rfl)
theorem dJ9_fixAfterInsertion_114 : decode cJ9_fixAfterInsertion 114 = .ok (.aload_n 1, 1) := dk_43 (dk_at dksJ9_fixAfterInsertion_4 20 rfl rfl)
theorem dJ9_fixAfterInsertion_115 : decode cJ9_fixAfterInsertion 115 = .ok (.invokevirtual 311, 3) := dk_182 1 55 (dk_at dksJ9_fixAfterInsertion_4 21 rfl rfl)
theorem dJ9_fixAfterInsertion_118 : decode cJ9_fixAfterInsertion 118 = .ok (.aload_n 1, 1) := dk_43 (dk_at dksJ9_fixAfterInsertion_5 0 rfl rfl)
theorem dJ9_fixAfterInsertion_119 : decode cJ9_fixAfterInsertion 119 = .ok (.invokestatic 294, 3) := dk_184 1 38 (dk_at dksJ9_fixAfterInsertion_5 1 rfl rfl)
theorem dJ9_fixAfterInsertion_122 : decode cJ9_fixAfterInsertion 122 = .ok (.iconst 1, 1) := dk_4 (dk_at dksJ9_fixAfterInsertion_5 4 rfl rfl)
theorem dJ9_fixAfterInsertion_123 : decode cJ9_fixAfterInsertion 123 = .ok (.invokestatic 307, 3) := dk_184 1 51 (dk_at dksJ9_fixAfterInsertion_5 5 rfl rfl)
theorem dJ9_fixAfterInsertion_126 : decode cJ9_fixAfterInsertion 126 = .ok (.aload_n 1, 1) := dk_43 (dk_at dksJ9_fixAfterInsertion_5 8 rfl rfl)
theorem dJ9_fixAfterInsertion_127 : decode cJ9_fixAfterInsertion 127 = .ok (.invokestatic 294, 3) := dk_184 1 38 (dk_at dksJ9_fixAfterInsertion_5 9 rfl rfl)
theorem dJ9_fixAfterInsertion_130 : decode cJ9_fixAfterInsertion 130 = .ok (.invokestatic 294, 3) := dk_184 1 38 (dk_at dksJ9_fixAfterInsertion_5 12 rfl rfl)
theorem dJ9_fixAfterInsertion_133 : decode cJ9_fixAfterInsertion 133 = .ok (.iconst 0, 1) := dk_3 (dk_at dksJ9_fixAfterInsertion_5 15 rfl rfl)
theorem dJ9_fixAfterInsertion_134 : decode cJ9_fixAfterInsertion 134 = .ok (.invokestatic 307, 3) := dk_184 1 51 (dk_at dksJ9_fixAfterInsertion_5 16 rfl rfl)
theorem dJ9_fixAfterInsertion_137 : decode cJ9_fixAfterInsertion 137 = .ok (.aload_n 0, 1) := dk_42 (dk_at dksJ9_fixAfterInsertion_5 19 rfl rfl)
theorem dJ9_fixAfterInsertion_138 : decode cJ9_fixAfterInsertion 138 = .ok (.aload_n 1, 1) := dk_43 (dk_at dksJ9_fixAfterInsertion_5 20 rfl rfl)
theorem dJ9_fixAfterInsertion_139 : decode cJ9_fixAfterInsertion 139 = .ok (.invokestatic 294, 3) := dk_184 1 38 (dk_at dksJ9_fixAfterInsertion_5 21 rfl rfl)
theorem dJ9_fixAfterInsertion_142 : decode cJ9_fixAfterInsertion 142 = .ok (.invokestatic 294, 3) := dk_184 1 38 (dk_at dksJ9_fixAfterInsertion_6 0 rfl rfl)
theorem dJ9_fixAfterInsertion_145 : decode cJ9_fixAfterInsertion 145 = .ok (.invokevirtual 314, 3) := dk_182 1 58 (dk_at dksJ9_fixAfterInsertion_6 3 rfl rfl)
theorem dJ9_fixAfterInsertion_148 : decode cJ9_fixAfterInsertion 148 = .ok (.goto (-143), 3) := dk_167 255 113 (dk_at dksJ9_fixAfterInsertion_6 6 rfl rfl)
theorem dJ9_fixAfterInsertion_151 : decode cJ9_fixAfterInsertion 151 = .ok (.aload_n 1, 1) := dk_43 (dk_at dksJ9_fixAfterInsertion_6 9 rfl rfl)
theorem dJ9_fixAfterInsertion_152 : decode cJ9_fixAfterInsertion 152 = .ok (.invokestatic 294, 3) := dk_184 1 38 (dk_at dksJ9_fixAfterInsertion_6 10 rfl rfl)
theorem dJ9_fixAfterInsertion_155 : decode cJ9_fixAfterInsertion 155 = .ok (.invokestatic 294, 3) := dk_184 1 38 (dk_at dksJ9_fixAfterInsertion_6 13 rfl rfl)
theorem dJ9_fixAfterInsertion_158 : decode cJ9_fixAfterInsertion 158 = .ok (.invokestatic 297, 3) := dk_184 1 41 (dk_at dksJ9_fixAfterInsertion_6 16 rfl rfl)
theorem dJ9_fixAfterInsertion_161 : decode cJ9_fixAfterInsertion 161 = .ok (.astore_n 2, 1) := dk_77 (dk_at dksJ9_fixAfterInsertion_6 19 rfl rfl)
theorem dJ9_fixAfterInsertion_162 : decode cJ9_fixAfterInsertion 162 = .ok (.aload_n 2, 1) := dk_44 (dk_at dksJ9_fixAfterInsertion_6 20 rfl rfl)
theorem dJ9_fixAfterInsertion_163 : decode cJ9_fixAfterInsertion 163 = .ok (.invokestatic 303, 3) := dk_184 1 47 (dk_at dksJ9_fixAfterInsertion_6 21 rfl rfl)
theorem dJ9_fixAfterInsertion_166 : decode cJ9_fixAfterInsertion 166 = .ok (.ifCond .ne 38, 3) := dk_154 0 38 (dk_at dksJ9_fixAfterInsertion_7 0 rfl rfl)
theorem dJ9_fixAfterInsertion_169 : decode cJ9_fixAfterInsertion 169 = .ok (.aload_n 1, 1) := dk_43 (dk_at dksJ9_fixAfterInsertion_7 3 rfl rfl)
theorem dJ9_fixAfterInsertion_170 : decode cJ9_fixAfterInsertion 170 = .ok (.invokestatic 294, 3) := dk_184 1 38 (dk_at dksJ9_fixAfterInsertion_7 4 rfl rfl)
theorem dJ9_fixAfterInsertion_173 : decode cJ9_fixAfterInsertion 173 = .ok (.iconst 1, 1) := dk_4 (dk_at dksJ9_fixAfterInsertion_7 7 rfl rfl)
theorem dJ9_fixAfterInsertion_174 : decode cJ9_fixAfterInsertion 174 = .ok (.invokestatic 307, 3) := dk_184 1 51 (dk_at dksJ9_fixAfterInsertion_7 8 rfl rfl)
theorem dJ9_fixAfterInsertion_177 : decode cJ9_fixAfterInsertion 177 = .ok (.aload_n 2, 1) := dk_44 (dk_at dksJ9_fixAfterInsertion_7 11 rfl rfl)
theorem dJ9_fixAfterInsertion_178 : decode cJ9_fixAfterInsertion 178 = .ok (.iconst 1, 1) := dk_4 (dk_at dksJ9_fixAfterInsertion_7 12 rfl rfl)
theorem dJ9_fixAfterInsertion_179 : decode cJ9_fixAfterInsertion 179 = .ok (.invokestatic 307, 3) := dk_184 1 51 (dk_at dksJ9_fixAfterInsertion_7 13 rfl rfl)
theorem dJ9_fixAfterInsertion_182 : decode cJ9_fixAfterInsertion 182 = .ok (.aload_n 1, 1) := dk_43 (dk_at dksJ9_fixAfterInsertion_7 16 rfl rfl)
theorem dJ9_fixAfterInsertion_183 : decode cJ9_fixAfterInsertion 183 = .ok (.invokestatic 294, 3) := dk_184 1 38 (dk_at dksJ9_fixAfterInsertion_7 17 rfl rfl)
theorem dJ9_fixAfterInsertion_186 : decode cJ9_fixAfterInsertion 186 = .ok (.invokestatic 294, 3) := dk_184 1 38 (dk_at dksJ9_fixAfterInsertion_7 20 rfl rfl)
theorem dJ9_fixAfterInsertion_189 : decode cJ9_fixAfterInsertion 189 = .ok (.iconst 0, 1) := dk_3 (dk_at dksJ9_fixAfterInsertion_7 23 rfl rfl)
theorem dJ9_fixAfterInsertion_190 : decode cJ9_fixAfterInsertion 190 = .ok (.invokestatic 307, 3) := dk_184 1 51 (dk_at dksJ9_fixAfterInsertion_8 0 rfl rfl)
theorem dJ9_fixAfterInsertion_193 : decode cJ9_fixAfterInsertion 193 = .ok (.aload_n 1, 1) := dk_43 (dk_at dksJ9_fixAfterInsertion_8 3 rfl rfl)
theorem dJ9_fixAfterInsertion_194 : decode cJ9_fixAfterInsertion 194 = .ok (.invokestatic 294, 3) := dk_184 1 38 (dk_at dksJ9_fixAfterInsertion_8 4 rfl rfl)
theorem dJ9_fixAfterInsertion_197 : decode cJ9_fixAfterInsertion 197 = .ok (.invokestatic 294, 3) := dk_184 1 38 (dk_at dksJ9_fixAfterInsertion_8 7 rfl rfl)
theorem dJ9_fixAfterInsertion_200 : decode cJ9_fixAfterInsertion 200 = .ok (.astore_n 1, 1) := dk_76 (dk_at dksJ9_fixAfterInsertion_8 10 rfl rfl)
theorem dJ9_fixAfterInsertion_201 : decode cJ9_fixAfterInsertion 201 = .ok (.goto 54, 3) := dk_167 0 54 (dk_at dksJ9_fixAfterInsertion_8 11 rfl rfl)
theorem dJ9_fixAfterInsertion_204 : decode cJ9_fixAfterInsertion 204 = .ok (.aload_n 1, 1) := dk_43 (dk_at dksJ9_fixAfterInsertion_8 14 rfl rfl)
theorem dJ9_fixAfterInsertion_205 : decode cJ9_fixAfterInsertion 205 = .ok (.aload_n 1, 1) := dk_43 (dk_at dksJ9_fixAfterInsertion_8 15 rfl rfl)
theorem dJ9_fixAfterInsertion_206 : decode cJ9_fixAfterInsertion 206 = .ok (.invokestatic 294, 3) := dk_184 1 38 (dk_at dksJ9_fixAfterInsertion_8 16 rfl rfl)
theorem dJ9_fixAfterInsertion_209 : decode cJ9_fixAfterInsertion 209 = .ok (.invokestatic 297, 3) := dk_184 1 41 (dk_at dksJ9_fixAfterInsertion_8 19 rfl rfl)
theorem dJ9_fixAfterInsertion_212 : decode cJ9_fixAfterInsertion 212 = .ok (.if_acmp .ne 13, 3) := dk_166 0 13 (dk_at dksJ9_fixAfterInsertion_9 0 rfl rfl)
theorem dJ9_fixAfterInsertion_215 : decode cJ9_fixAfterInsertion 215 = .ok (.aload_n 1, 1) := dk_43 (dk_at dksJ9_fixAfterInsertion_9 3 rfl rfl)
theorem dJ9_fixAfterInsertion_216 : decode cJ9_fixAfterInsertion 216 = .ok (.invokestatic 294, 3) := dk_184 1 38 (dk_at dksJ9_fixAfterInsertion_9 4 rfl rfl)
theorem dJ9_fixAfterInsertion_219 : decode cJ9_fixAfterInsertion 219 = .ok (.astore_n 1, 1) := dk_76 (dk_at dksJ9_fixAfterInsertion_9 7 rfl rfl)
theorem dJ9_fixAfterInsertion_220 : decode cJ9_fixAfterInsertion 220 = .ok (.aload_n 0, 1) := dk_42 (dk_at dksJ9_fixAfterInsertion_9 8 rfl rfl)
theorem dJ9_fixAfterInsertion_221 : decode cJ9_fixAfterInsertion 221 = .ok (.aload_n 1, 1) := dk_43 (dk_at dksJ9_fixAfterInsertion_9 9 rfl rfl)
theorem dJ9_fixAfterInsertion_222 : decode cJ9_fixAfterInsertion 222 = .ok (.invokevirtual 314, 3) := dk_182 1 58 (dk_at dksJ9_fixAfterInsertion_9 10 rfl rfl)
theorem dJ9_fixAfterInsertion_225 : decode cJ9_fixAfterInsertion 225 = .ok (.aload_n 1, 1) := dk_43 (dk_at dksJ9_fixAfterInsertion_9 13 rfl rfl)
theorem dJ9_fixAfterInsertion_226 : decode cJ9_fixAfterInsertion 226 = .ok (.invokestatic 294, 3) := dk_184 1 38 (dk_at dksJ9_fixAfterInsertion_9 14 rfl rfl)
theorem dJ9_fixAfterInsertion_229 : decode cJ9_fixAfterInsertion 229 = .ok (.iconst 1, 1) := dk_4 (dk_at dksJ9_fixAfterInsertion_9 17 rfl rfl)
theorem dJ9_fixAfterInsertion_230 : decode cJ9_fixAfterInsertion 230 = .ok (.invokestatic 307, 3) := dk_184 1 51 (dk_at dksJ9_fixAfterInsertion_9 18 rfl rfl)
theorem dJ9_fixAfterInsertion_233 : decode cJ9_fixAfterInsertion 233 = .ok (.aload_n 1, 1) := dk_43 (dk_at dksJ9_fixAfterInsertion_9 21 rfl rfl)
theorem dJ9_fixAfterInsertion_234 : decode cJ9_fixAfterInsertion 234 = .ok (.invokestatic 294, 3) := dk_184 1 38 (dk_at dksJ9_fixAfterInsertion_10 0 rfl rfl)
theorem dJ9_fixAfterInsertion_237 : decode cJ9_fixAfterInsertion 237 = .ok (.invokestatic 294, 3) := dk_184 1 38 (dk_at dksJ9_fixAfterInsertion_10 3 rfl rfl)
theorem dJ9_fixAfterInsertion_240 : decode cJ9_fixAfterInsertion 240 = .ok (.iconst 0, 1) := dk_3 (dk_at dksJ9_fixAfterInsertion_10 6 rfl rfl)
theorem dJ9_fixAfterInsertion_241 : decode cJ9_fixAfterInsertion 241 = .ok (.invokestatic 307, 3) := dk_184 1 51 (dk_at dksJ9_fixAfterInsertion_10 7 rfl rfl)
theorem dJ9_fixAfterInsertion_244 : decode cJ9_fixAfterInsertion 244 = .ok (.aload_n 0, 1) := dk_42 (dk_at dksJ9_fixAfterInsertion_10 10 rfl rfl)
theorem dJ9_fixAfterInsertion_245 : decode cJ9_fixAfterInsertion 245 = .ok (.aload_n 1, 1) := dk_43 (dk_at dksJ9_fixAfterInsertion_10 11 rfl rfl)
theorem dJ9_fixAfterInsertion_246 : decode cJ9_fixAfterInsertion 246 = .ok (.invokestatic 294, 3) := dk_184 1 38 (dk_at dksJ9_fixAfterInsertion_10 12 rfl rfl)
theorem dJ9_fixAfterInsertion_249 : decode cJ9_fixAfterInsertion 249 = .ok (.invokestatic 294, 3) := dk_184 1 38 (dk_at dksJ9_fixAfterInsertion_10 15 rfl rfl)
theorem dJ9_fixAfterInsertion_252 : decode cJ9_fixAfterInsertion 252 = .ok (.invokevirtual 311, 3) := dk_182 1 55 (dk_at dksJ9_fixAfterInsertion_10 18 rfl rfl)
theorem dJ9_fixAfterInsertion_255 : decode cJ9_fixAfterInsertion 255 = .ok (.goto (-250), 3) := dk_167 255 6 (dk_at dksJ9_fixAfterInsertion_10 21 rfl rfl)
theorem dJ9_fixAfterInsertion_258 : decode cJ9_fixAfterInsertion 258 = .ok (.aload_n 0, 1) := dk_42 (dk_at dksJ9_fixAfterInsertion_11 0 rfl rfl)
theorem dJ9_fixAfterInsertion_259 : decode cJ9_fixAfterInsertion 259 = .ok (.getfield 101, 3) := dk_180 0 101 (dk_at dksJ9_fixAfterInsertion_11 1 rfl rfl)
theorem dJ9_fixAfterInsertion_262 : decode cJ9_fixAfterInsertion 262 = .ok (.iconst 1, 1) := dk_4 (dk_at dksJ9_fixAfterInsertion_11 4 rfl rfl)
theorem dJ9_fixAfterInsertion_263 : decode cJ9_fixAfterInsertion 263 = .ok (.putfield 290, 3) := dk_181 1 34 (dk_at dksJ9_fixAfterInsertion_11 5 rfl rfl)
theorem dJ9_fixAfterInsertion_266 : decode cJ9_fixAfterInsertion 266 = .ok (.return_, 1) := dk_177 (dk_at dksJ9_fixAfterInsertion_11 8 rfl rfl)
abbrev cJ9_parentOf : ByteArray := prog_51_method_77_code
def yJ9_parentOf : MethodName := ⟨RJ9, "parentOf", "(Ljava/util/TreeMap$Entry;)Ljava/util/TreeMap$Entry;"⟩
def dkwJ9_parentOf_0 : List UInt8 := [42, 199, 0, 7, 1, 167, 0, 7, 42, 180, 0, 124, 176]
abbrev dktJ9_parentOf_0 : List UInt8 := dkwJ9_parentOf_0 ++ []
theorem dksJ9_parentOf_0 : cJ9_parentOf.data.toList.drop 0 = dktJ9_parentOf_0 := by decide +kernel
theorem dJ9_parentOf_0 : decode cJ9_parentOf 0 = .ok (.aload_n 0, 1) := dk_42 (dk_at dksJ9_parentOf_0 0 rfl rfl)
theorem dJ9_parentOf_1 : decode cJ9_parentOf 1 = .ok (.ifnonnull 7, 3) := dk_199 0 7 (dk_at dksJ9_parentOf_0 1 rfl rfl)
theorem dJ9_parentOf_4 : decode cJ9_parentOf 4 = .ok (.aconst_null, 1) := dk_1 (dk_at dksJ9_parentOf_0 4 rfl rfl)
theorem dJ9_parentOf_5 : decode cJ9_parentOf 5 = .ok (.goto 7, 3) := dk_167 0 7 (dk_at dksJ9_parentOf_0 5 rfl rfl)
theorem dJ9_parentOf_8 : decode cJ9_parentOf 8 = .ok (.aload_n 0, 1) := dk_42 (dk_at dksJ9_parentOf_0 8 rfl rfl)
theorem dJ9_parentOf_9 : decode cJ9_parentOf 9 = .ok (.getfield 124, 3) := dk_180 0 124 (dk_at dksJ9_parentOf_0 9 rfl rfl)
theorem dJ9_parentOf_12 : decode cJ9_parentOf 12 = .ok (.areturn, 1) := dk_176 (dk_at dksJ9_parentOf_0 12 rfl rfl)
abbrev cJ9_leftOf : ByteArray := prog_51_method_79_code
def yJ9_leftOf : MethodName := ⟨RJ9, "leftOf", "(Ljava/util/TreeMap$Entry;)Ljava/util/TreeMap$Entry;"⟩
def dkwJ9_leftOf_0 : List UInt8 := [42, 199, 0, 7, 1, 167, 0, 7, 42, 180, 0, 111, 176]
abbrev dktJ9_leftOf_0 : List UInt8 := dkwJ9_leftOf_0 ++ []
theorem dksJ9_leftOf_0 : cJ9_leftOf.data.toList.drop 0 = dktJ9_leftOf_0 := by decide +kernel
theorem dJ9_leftOf_0 : decode cJ9_leftOf 0 = .ok (.aload_n 0, 1) := dk_42 (dk_at dksJ9_leftOf_0 0 rfl rfl)
theorem dJ9_leftOf_1 : decode cJ9_leftOf 1 = .ok (.ifnonnull 7, 3) := dk_199 0 7 (dk_at dksJ9_leftOf_0 1 rfl rfl)
theorem dJ9_leftOf_4 : decode cJ9_leftOf 4 = .ok (.aconst_null, 1) := dk_1 (dk_at dksJ9_leftOf_0 4 rfl rfl)
theorem dJ9_leftOf_5 : decode cJ9_leftOf 5 = .ok (.goto 7, 3) := dk_167 0 7 (dk_at dksJ9_leftOf_0 5 rfl rfl)
theorem dJ9_leftOf_8 : decode cJ9_leftOf 8 = .ok (.aload_n 0, 1) := dk_42 (dk_at dksJ9_leftOf_0 8 rfl rfl)
theorem dJ9_leftOf_9 : decode cJ9_leftOf 9 = .ok (.getfield 111, 3) := dk_180 0 111 (dk_at dksJ9_leftOf_0 9 rfl rfl)
theorem dJ9_leftOf_12 : decode cJ9_leftOf 12 = .ok (.areturn, 1) := dk_176 (dk_at dksJ9_leftOf_0 12 rfl rfl)
abbrev cJ9_rightOf : ByteArray := prog_51_method_80_code
def yJ9_rightOf : MethodName := ⟨RJ9, "rightOf", "(Ljava/util/TreeMap$Entry;)Ljava/util/TreeMap$Entry;"⟩
def dkwJ9_rightOf_0 : List UInt8 := [42, 199, 0, 7, 1, 167, 0, 7, 42, 180, 0, 114, 176]
abbrev dktJ9_rightOf_0 : List UInt8 := dkwJ9_rightOf_0 ++ []
theorem dksJ9_rightOf_0 : cJ9_rightOf.data.toList.drop 0 = dktJ9_rightOf_0 := by decide +kernel
theorem dJ9_rightOf_0 : decode cJ9_rightOf 0 = .ok (.aload_n 0, 1) := dk_42 (dk_at dksJ9_rightOf_0 0 rfl rfl)
theorem dJ9_rightOf_1 : decode cJ9_rightOf 1 = .ok (.ifnonnull 7, 3) := dk_199 0 7 (dk_at dksJ9_rightOf_0 1 rfl rfl)
theorem dJ9_rightOf_4 : decode cJ9_rightOf 4 = .ok (.aconst_null, 1) := dk_1 (dk_at dksJ9_rightOf_0 4 rfl rfl)
theorem dJ9_rightOf_5 : decode cJ9_rightOf 5 = .ok (.goto 7, 3) := dk_167 0 7 (dk_at dksJ9_rightOf_0 5 rfl rfl)
theorem dJ9_rightOf_8 : decode cJ9_rightOf 8 = .ok (.aload_n 0, 1) := dk_42 (dk_at dksJ9_rightOf_0 8 rfl rfl)
theorem dJ9_rightOf_9 : decode cJ9_rightOf 9 = .ok (.getfield 114, 3) := dk_180 0 114 (dk_at dksJ9_rightOf_0 9 rfl rfl)
theorem dJ9_rightOf_12 : decode cJ9_rightOf 12 = .ok (.areturn, 1) := dk_176 (dk_at dksJ9_rightOf_0 12 rfl rfl)
abbrev cJ9_colorOf : ByteArray := prog_51_method_76_code
def yJ9_colorOf : MethodName := ⟨RJ9, "colorOf", "(Ljava/util/TreeMap$Entry;)Z"⟩
def dkwJ9_colorOf_0 : List UInt8 := [42, 199, 0, 7, 4, 167, 0, 7, 42, 180, 1, 34, 172]
abbrev dktJ9_colorOf_0 : List UInt8 := dkwJ9_colorOf_0 ++ []
theorem dksJ9_colorOf_0 : cJ9_colorOf.data.toList.drop 0 = dktJ9_colorOf_0 := by decide +kernel
theorem dJ9_colorOf_0 : decode cJ9_colorOf 0 = .ok (.aload_n 0, 1) := dk_42 (dk_at dksJ9_colorOf_0 0 rfl rfl)
theorem dJ9_colorOf_1 : decode cJ9_colorOf 1 = .ok (.ifnonnull 7, 3) := dk_199 0 7 (dk_at dksJ9_colorOf_0 1 rfl rfl)
theorem dJ9_colorOf_4 : decode cJ9_colorOf 4 = .ok (.iconst 1, 1) := dk_4 (dk_at dksJ9_colorOf_0 4 rfl rfl)
theorem dJ9_colorOf_5 : decode cJ9_colorOf 5 = .ok (.goto 7, 3) := dk_167 0 7 (dk_at dksJ9_colorOf_0 5 rfl rfl)
theorem dJ9_colorOf_8 : decode cJ9_colorOf 8 = .ok (.aload_n 0, 1) := dk_42 (dk_at dksJ9_colorOf_0 8 rfl rfl)
theorem dJ9_colorOf_9 : decode cJ9_colorOf 9 = .ok (.getfield 290, 3) := dk_180 1 34 (dk_at dksJ9_colorOf_0 9 rfl rfl)
theorem dJ9_colorOf_12 : decode cJ9_colorOf 12 = .ok (.ireturn, 1) := dk_172 (dk_at dksJ9_colorOf_0 12 rfl rfl)
abbrev cJ9_setColor : ByteArray := prog_51_method_78_code
def yJ9_setColor : MethodName := ⟨RJ9, "setColor", "(Ljava/util/TreeMap$Entry;Z)V"⟩
def dkwJ9_setColor_0 : List UInt8 := [42, 198, 0, 8, 42, 27, 181, 1, 34, 177]
abbrev dktJ9_setColor_0 : List UInt8 := dkwJ9_setColor_0 ++ []
theorem dksJ9_setColor_0 : cJ9_setColor.data.toList.drop 0 = dktJ9_setColor_0 := by decide +kernel
theorem dJ9_setColor_0 : decode cJ9_setColor 0 = .ok (.aload_n 0, 1) := dk_42 (dk_at dksJ9_setColor_0 0 rfl rfl)
theorem dJ9_setColor_1 : decode cJ9_setColor 1 = .ok (.ifnull 8, 3) := dk_198 0 8 (dk_at dksJ9_setColor_0 1 rfl rfl)
theorem dJ9_setColor_4 : decode cJ9_setColor 4 = .ok (.aload_n 0, 1) := dk_42 (dk_at dksJ9_setColor_0 4 rfl rfl)
theorem dJ9_setColor_5 : decode cJ9_setColor 5 = .ok (.iload_n 1, 1) := dk_27 (dk_at dksJ9_setColor_0 5 rfl rfl)
theorem dJ9_setColor_6 : decode cJ9_setColor 6 = .ok (.putfield 290, 3) := dk_181 1 34 (dk_at dksJ9_setColor_0 6 rfl rfl)
theorem dJ9_setColor_9 : decode cJ9_setColor 9 = .ok (.return_, 1) := dk_177 (dk_at dksJ9_setColor_0 9 rfl rfl)
abbrev cJ9_rotateLeft : ByteArray := prog_51_method_81_code
def yJ9_rotateLeft : MethodName := ⟨RJ9, "rotateLeft", "(Ljava/util/TreeMap$Entry;)V"⟩
def dkwJ9_rotateLeft_4 : List UInt8 := [177]
abbrev dktJ9_rotateLeft_4 : List UInt8 := dkwJ9_rotateLeft_4 ++ []
def dkwJ9_rotateLeft_3 : List UInt8 := [181, 0, 111, 167, 0, 11, 43, 180, 0, 124, 44, 181, 0, 114, 44, 43, 181, 0, 111, 43, 44, 181, 0, 124]
abbrev dktJ9_rotateLeft_3 : List UInt8 := dkwJ9_rotateLeft_3 ++ dktJ9_rotateLeft_4
def dkwJ9_rotateLeft_2 : List UInt8 := [44, 181, 0, 101, 167, 0, 33, 43, 180, 0, 124, 180, 0, 111, 43, 166, 0, 14, 43, 180, 0, 124, 44]
abbrev dktJ9_rotateLeft_2 : List UInt8 := dkwJ9_rotateLeft_2 ++ dktJ9_rotateLeft_3
def dkwJ9_rotateLeft_1 : List UInt8 := [44, 180, 0, 111, 43, 181, 0, 124, 44, 43, 180, 0, 124, 181, 0, 124, 43, 180, 0, 124, 199, 0, 11, 42]
abbrev dktJ9_rotateLeft_1 : List UInt8 := dkwJ9_rotateLeft_1 ++ dktJ9_rotateLeft_2
def dkwJ9_rotateLeft_0 : List UInt8 := [43, 198, 0, 94, 43, 180, 0, 114, 77, 43, 44, 180, 0, 111, 181, 0, 114, 44, 180, 0, 111, 198, 0, 11]
abbrev dktJ9_rotateLeft_0 : List UInt8 := dkwJ9_rotateLeft_0 ++ dktJ9_rotateLeft_1
theorem dksJ9_rotateLeft_0 : cJ9_rotateLeft.data.toList.drop 0 = dktJ9_rotateLeft_0 := by decide +kernel
theorem dksJ9_rotateLeft_1 : cJ9_rotateLeft.data.toList.drop 24 = dktJ9_rotateLeft_1 := dk_seg dksJ9_rotateLeft_0 24 rfl rfl
theorem dksJ9_rotateLeft_2 : cJ9_rotateLeft.data.toList.drop 48 = dktJ9_rotateLeft_2 := dk_seg dksJ9_rotateLeft_1 24 rfl rfl
theorem dksJ9_rotateLeft_3 : cJ9_rotateLeft.data.toList.drop 71 = dktJ9_rotateLeft_3 := dk_seg dksJ9_rotateLeft_2 23 rfl rfl
theorem dksJ9_rotateLeft_4 : cJ9_rotateLeft.data.toList.drop 95 = dktJ9_rotateLeft_4 := dk_seg dksJ9_rotateLeft_3 24 rfl rfl
theorem dJ9_rotateLeft_0 : decode cJ9_rotateLeft 0 = .ok (.aload_n 1, 1) := dk_43 (dk_at dksJ9_rotateLeft_0 0 rfl rfl)
theorem dJ9_rotateLeft_1 : decode cJ9_rotateLeft 1 = .ok (.ifnull 94, 3) := dk_198 0 94 (dk_at dksJ9_rotateLeft_0 1 rfl rfl)
theorem dJ9_rotateLeft_4 : decode cJ9_rotateLeft 4 = .ok (.aload_n 1, 1) := dk_43 (dk_at dksJ9_rotateLeft_0 4 rfl rfl)
theorem dJ9_rotateLeft_5 : decode cJ9_rotateLeft 5 = .ok (.getfield 114, 3) := dk_180 0 114 (dk_at dksJ9_rotateLeft_0 5 rfl rfl)
theorem dJ9_rotateLeft_8 : decode cJ9_rotateLeft 8 = .ok (.astore_n 2, 1) := dk_77 (dk_at dksJ9_rotateLeft_0 8 rfl rfl)
theorem dJ9_rotateLeft_9 : decode cJ9_rotateLeft 9 = .ok (.aload_n 1, 1) := dk_43 (dk_at dksJ9_rotateLeft_0 9 rfl rfl)
theorem dJ9_rotateLeft_10 : decode cJ9_rotateLeft 10 = .ok (.aload_n 2, 1) := dk_44 (dk_at dksJ9_rotateLeft_0 10 rfl rfl)
theorem dJ9_rotateLeft_11 : decode cJ9_rotateLeft 11 = .ok (.getfield 111, 3) := dk_180 0 111 (dk_at dksJ9_rotateLeft_0 11 rfl rfl)
theorem dJ9_rotateLeft_14 : decode cJ9_rotateLeft 14 = .ok (.putfield 114, 3) := dk_181 0 114 (dk_at dksJ9_rotateLeft_0 14 rfl rfl)
theorem dJ9_rotateLeft_17 : decode cJ9_rotateLeft 17 = .ok (.aload_n 2, 1) := dk_44 (dk_at dksJ9_rotateLeft_0 17 rfl rfl)
theorem dJ9_rotateLeft_18 : decode cJ9_rotateLeft 18 = .ok (.getfield 111, 3) := dk_180 0 111 (dk_at dksJ9_rotateLeft_0 18 rfl rfl)
theorem dJ9_rotateLeft_21 : decode cJ9_rotateLeft 21 = .ok (.ifnull 11, 3) := dk_198 0 11 (dk_at dksJ9_rotateLeft_0 21 rfl rfl)
theorem dJ9_rotateLeft_24 : decode cJ9_rotateLeft 24 = .ok (.aload_n 2, 1) := dk_44 (dk_at dksJ9_rotateLeft_1 0 rfl rfl)
theorem dJ9_rotateLeft_25 : decode cJ9_rotateLeft 25 = .ok (.getfield 111, 3) := dk_180 0 111 (dk_at dksJ9_rotateLeft_1 1 rfl rfl)
theorem dJ9_rotateLeft_28 : decode cJ9_rotateLeft 28 = .ok (.aload_n 1, 1) := dk_43 (dk_at dksJ9_rotateLeft_1 4 rfl rfl)
theorem dJ9_rotateLeft_29 : decode cJ9_rotateLeft 29 = .ok (.putfield 124, 3) := dk_181 0 124 (dk_at dksJ9_rotateLeft_1 5 rfl rfl)
theorem dJ9_rotateLeft_32 : decode cJ9_rotateLeft 32 = .ok (.aload_n 2, 1) := dk_44 (dk_at dksJ9_rotateLeft_1 8 rfl rfl)
theorem dJ9_rotateLeft_33 : decode cJ9_rotateLeft 33 = .ok (.aload_n 1, 1) := dk_43 (dk_at dksJ9_rotateLeft_1 9 rfl rfl)
theorem dJ9_rotateLeft_34 : decode cJ9_rotateLeft 34 = .ok (.getfield 124, 3) := dk_180 0 124 (dk_at dksJ9_rotateLeft_1 10 rfl rfl)
theorem dJ9_rotateLeft_37 : decode cJ9_rotateLeft 37 = .ok (.putfield 124, 3) := dk_181 0 124 (dk_at dksJ9_rotateLeft_1 13 rfl rfl)
theorem dJ9_rotateLeft_40 : decode cJ9_rotateLeft 40 = .ok (.aload_n 1, 1) := dk_43 (dk_at dksJ9_rotateLeft_1 16 rfl rfl)
theorem dJ9_rotateLeft_41 : decode cJ9_rotateLeft 41 = .ok (.getfield 124, 3) := dk_180 0 124 (dk_at dksJ9_rotateLeft_1 17 rfl rfl)
theorem dJ9_rotateLeft_44 : decode cJ9_rotateLeft 44 = .ok (.ifnonnull 11, 3) := dk_199 0 11 (dk_at dksJ9_rotateLeft_1 20 rfl rfl)
theorem dJ9_rotateLeft_47 : decode cJ9_rotateLeft 47 = .ok (.aload_n 0, 1) := dk_42 (dk_at dksJ9_rotateLeft_1 23 rfl rfl)
theorem dJ9_rotateLeft_48 : decode cJ9_rotateLeft 48 = .ok (.aload_n 2, 1) := dk_44 (dk_at dksJ9_rotateLeft_2 0 rfl rfl)
theorem dJ9_rotateLeft_49 : decode cJ9_rotateLeft 49 = .ok (.putfield 101, 3) := dk_181 0 101 (dk_at dksJ9_rotateLeft_2 1 rfl rfl)
theorem dJ9_rotateLeft_52 : decode cJ9_rotateLeft 52 = .ok (.goto 33, 3) := dk_167 0 33 (dk_at dksJ9_rotateLeft_2 4 rfl rfl)
theorem dJ9_rotateLeft_55 : decode cJ9_rotateLeft 55 = .ok (.aload_n 1, 1) := dk_43 (dk_at dksJ9_rotateLeft_2 7 rfl rfl)
theorem dJ9_rotateLeft_56 : decode cJ9_rotateLeft 56 = .ok (.getfield 124, 3) := dk_180 0 124 (dk_at dksJ9_rotateLeft_2 8 rfl rfl)
theorem dJ9_rotateLeft_59 : decode cJ9_rotateLeft 59 = .ok (.getfield 111, 3) := dk_180 0 111 (dk_at dksJ9_rotateLeft_2 11 rfl rfl)
theorem dJ9_rotateLeft_62 : decode cJ9_rotateLeft 62 = .ok (.aload_n 1, 1) := dk_43 (dk_at dksJ9_rotateLeft_2 14 rfl rfl)
theorem dJ9_rotateLeft_63 : decode cJ9_rotateLeft 63 = .ok (.if_acmp .ne 14, 3) := dk_166 0 14 (dk_at dksJ9_rotateLeft_2 15 rfl rfl)
theorem dJ9_rotateLeft_66 : decode cJ9_rotateLeft 66 = .ok (.aload_n 1, 1) := dk_43 (dk_at dksJ9_rotateLeft_2 18 rfl rfl)
theorem dJ9_rotateLeft_67 : decode cJ9_rotateLeft 67 = .ok (.getfield 124, 3) := dk_180 0 124 (dk_at dksJ9_rotateLeft_2 19 rfl rfl)
theorem dJ9_rotateLeft_70 : decode cJ9_rotateLeft 70 = .ok (.aload_n 2, 1) := dk_44 (dk_at dksJ9_rotateLeft_2 22 rfl rfl)
theorem dJ9_rotateLeft_71 : decode cJ9_rotateLeft 71 = .ok (.putfield 111, 3) := dk_181 0 111 (dk_at dksJ9_rotateLeft_3 0 rfl rfl)
theorem dJ9_rotateLeft_74 : decode cJ9_rotateLeft 74 = .ok (.goto 11, 3) := dk_167 0 11 (dk_at dksJ9_rotateLeft_3 3 rfl rfl)
theorem dJ9_rotateLeft_77 : decode cJ9_rotateLeft 77 = .ok (.aload_n 1, 1) := dk_43 (dk_at dksJ9_rotateLeft_3 6 rfl rfl)
theorem dJ9_rotateLeft_78 : decode cJ9_rotateLeft 78 = .ok (.getfield 124, 3) := dk_180 0 124 (dk_at dksJ9_rotateLeft_3 7 rfl rfl)
theorem dJ9_rotateLeft_81 : decode cJ9_rotateLeft 81 = .ok (.aload_n 2, 1) := dk_44 (dk_at dksJ9_rotateLeft_3 10 rfl rfl)
theorem dJ9_rotateLeft_82 : decode cJ9_rotateLeft 82 = .ok (.putfield 114, 3) := dk_181 0 114 (dk_at dksJ9_rotateLeft_3 11 rfl rfl)
theorem dJ9_rotateLeft_85 : decode cJ9_rotateLeft 85 = .ok (.aload_n 2, 1) := dk_44 (dk_at dksJ9_rotateLeft_3 14 rfl rfl)
theorem dJ9_rotateLeft_86 : decode cJ9_rotateLeft 86 = .ok (.aload_n 1, 1) := dk_43 (dk_at dksJ9_rotateLeft_3 15 rfl rfl)
theorem dJ9_rotateLeft_87 : decode cJ9_rotateLeft 87 = .ok (.putfield 111, 3) := dk_181 0 111 (dk_at dksJ9_rotateLeft_3 16 rfl rfl)
theorem dJ9_rotateLeft_90 : decode cJ9_rotateLeft 90 = .ok (.aload_n 1, 1) := dk_43 (dk_at dksJ9_rotateLeft_3 19 rfl rfl)
theorem dJ9_rotateLeft_91 : decode cJ9_rotateLeft 91 = .ok (.aload_n 2, 1) := dk_44 (dk_at dksJ9_rotateLeft_3 20 rfl rfl)
theorem dJ9_rotateLeft_92 : decode cJ9_rotateLeft 92 = .ok (.putfield 124, 3) := dk_181 0 124 (dk_at dksJ9_rotateLeft_3 21 rfl rfl)
theorem dJ9_rotateLeft_95 : decode cJ9_rotateLeft 95 = .ok (.return_, 1) := dk_177 (dk_at dksJ9_rotateLeft_4 0 rfl rfl)
abbrev cJ9_rotateRight : ByteArray := prog_51_method_82_code
def yJ9_rotateRight : MethodName := ⟨RJ9, "rotateRight", "(Ljava/util/TreeMap$Entry;)V"⟩
def dkwJ9_rotateRight_4 : List UInt8 := [177]
abbrev dktJ9_rotateRight_4 : List UInt8 := dkwJ9_rotateRight_4 ++ []
def dkwJ9_rotateRight_3 : List UInt8 := [181, 0, 114, 167, 0, 11, 43, 180, 0, 124, 44, 181, 0, 111, 44, 43, 181, 0, 114, 43, 44, 181, 0, 124]
abbrev dktJ9_rotateRight_3 : List UInt8 := dkwJ9_rotateRight_3 ++ dktJ9_rotateRight_4
def dkwJ9_rotateRight_2 : List UInt8 := [44, 181, 0, 101, 167, 0, 33, 43, 180, 0, 124, 180, 0, 114, 43, 166, 0, 14, 43, 180, 0, 124, 44]
abbrev dktJ9_rotateRight_2 : List UInt8 := dkwJ9_rotateRight_2 ++ dktJ9_rotateRight_3
def dkwJ9_rotateRight_1 : List UInt8 := [44, 180, 0, 114, 43, 181, 0, 124, 44, 43, 180, 0, 124, 181, 0, 124, 43, 180, 0, 124, 199, 0, 11, 42]
abbrev dktJ9_rotateRight_1 : List UInt8 := dkwJ9_rotateRight_1 ++ dktJ9_rotateRight_2
def dkwJ9_rotateRight_0 : List UInt8 := [43, 198, 0, 94, 43, 180, 0, 111, 77, 43, 44, 180, 0, 114, 181, 0, 111, 44, 180, 0, 114, 198, 0, 11]
abbrev dktJ9_rotateRight_0 : List UInt8 := dkwJ9_rotateRight_0 ++ dktJ9_rotateRight_1
theorem dksJ9_rotateRight_0 : cJ9_rotateRight.data.toList.drop 0 = dktJ9_rotateRight_0 := by decide +kernel
theorem dksJ9_rotateRight_1 : cJ9_rotateRight.data.toList.drop 24 = dktJ9_rotateRight_1 := dk_seg dksJ9_rotateRight_0 24 rfl rfl
theorem dksJ9_rotateRight_2 : cJ9_rotateRight.data.toList.drop 48 = dktJ9_rotateRight_2 := dk_seg dksJ9_rotateRight_1 24 rfl rfl
theorem dksJ9_rotateRight_3 : cJ9_rotateRight.data.toList.drop 71 = dktJ9_rotateRight_3 := dk_seg dksJ9_rotateRight_2 23 rfl rfl
theorem dksJ9_rotateRight_4 : cJ9_rotateRight.data.toList.drop 95 = dktJ9_rotateRight_4 := dk_seg dksJ9_rotateRight_3 24 rfl rfl
theorem dJ9_rotateRight_0 : decode cJ9_rotateRight 0 = .ok (.aload_n 1, 1) := dk_43 (dk_at dksJ9_rotateRight_0 0 rfl rfl)
theorem dJ9_rotateRight_1 : decode cJ9_rotateRight 1 = .ok (.ifnull 94, 3) := dk_198 0 94 (dk_at dksJ9_rotateRight_0 1 rfl rfl)
theorem dJ9_rotateRight_4 : decode cJ9_rotateRight 4 = .ok (.aload_n 1, 1) := dk_43 (dk_at dksJ9_rotateRight_0 4 rfl rfl)
theorem dJ9_rotateRight_5 : decode cJ9_rotateRight 5 = .ok (.getfield 111, 3) := dk_180 0 111 (dk_at dksJ9_rotateRight_0 5 rfl rfl)
theorem dJ9_rotateRight_8 : decode cJ9_rotateRight 8 = .ok (.astore_n 2, 1) := dk_77 (dk_at dksJ9_rotateRight_0 8 rfl rfl)
theorem dJ9_rotateRight_9 : decode cJ9_rotateRight 9 = .ok (.aload_n 1, 1) := dk_43 (dk_at dksJ9_rotateRight_0 9 rfl rfl)
theorem dJ9_rotateRight_10 : decode cJ9_rotateRight 10 = .ok (.aload_n 2, 1) := dk_44 (dk_at dksJ9_rotateRight_0 10 rfl rfl)
theorem dJ9_rotateRight_11 : decode cJ9_rotateRight 11 = .ok (.getfield 114, 3) := dk_180 0 114 (dk_at dksJ9_rotateRight_0 11 rfl rfl)
theorem dJ9_rotateRight_14 : decode cJ9_rotateRight 14 = .ok (.putfield 111, 3) := dk_181 0 111 (dk_at dksJ9_rotateRight_0 14 rfl rfl)
theorem dJ9_rotateRight_17 : decode cJ9_rotateRight 17 = .ok (.aload_n 2, 1) := dk_44 (dk_at dksJ9_rotateRight_0 17 rfl rfl)
theorem dJ9_rotateRight_18 : decode cJ9_rotateRight 18 = .ok (.getfield 114, 3) := dk_180 0 114 (dk_at dksJ9_rotateRight_0 18 rfl rfl)
theorem dJ9_rotateRight_21 : decode cJ9_rotateRight 21 = .ok (.ifnull 11, 3) := dk_198 0 11 (dk_at dksJ9_rotateRight_0 21 rfl rfl)
theorem dJ9_rotateRight_24 : decode cJ9_rotateRight 24 = .ok (.aload_n 2, 1) := dk_44 (dk_at dksJ9_rotateRight_1 0 rfl rfl)
theorem dJ9_rotateRight_25 : decode cJ9_rotateRight 25 = .ok (.getfield 114, 3) := dk_180 0 114 (dk_at dksJ9_rotateRight_1 1 rfl rfl)
theorem dJ9_rotateRight_28 : decode cJ9_rotateRight 28 = .ok (.aload_n 1, 1) := dk_43 (dk_at dksJ9_rotateRight_1 4 rfl rfl)
theorem dJ9_rotateRight_29 : decode cJ9_rotateRight 29 = .ok (.putfield 124, 3) := dk_181 0 124 (dk_at dksJ9_rotateRight_1 5 rfl rfl)
theorem dJ9_rotateRight_32 : decode cJ9_rotateRight 32 = .ok (.aload_n 2, 1) := dk_44 (dk_at dksJ9_rotateRight_1 8 rfl rfl)
theorem dJ9_rotateRight_33 : decode cJ9_rotateRight 33 = .ok (.aload_n 1, 1) := dk_43 (dk_at dksJ9_rotateRight_1 9 rfl rfl)
theorem dJ9_rotateRight_34 : decode cJ9_rotateRight 34 = .ok (.getfield 124, 3) := dk_180 0 124 (dk_at dksJ9_rotateRight_1 10 rfl rfl)
theorem dJ9_rotateRight_37 : decode cJ9_rotateRight 37 = .ok (.putfield 124, 3) := dk_181 0 124 (dk_at dksJ9_rotateRight_1 13 rfl rfl)
theorem dJ9_rotateRight_40 : decode cJ9_rotateRight 40 = .ok (.aload_n 1, 1) := dk_43 (dk_at dksJ9_rotateRight_1 16 rfl rfl)
theorem dJ9_rotateRight_41 : decode cJ9_rotateRight 41 = .ok (.getfield 124, 3) := dk_180 0 124 (dk_at dksJ9_rotateRight_1 17 rfl rfl)
theorem dJ9_rotateRight_44 : decode cJ9_rotateRight 44 = .ok (.ifnonnull 11, 3) := dk_199 0 11 (dk_at dksJ9_rotateRight_1 20 rfl rfl)
theorem dJ9_rotateRight_47 : decode cJ9_rotateRight 47 = .ok (.aload_n 0, 1) := dk_42 (dk_at dksJ9_rotateRight_1 23 rfl rfl)
theorem dJ9_rotateRight_48 : decode cJ9_rotateRight 48 = .ok (.aload_n 2, 1) := dk_44 (dk_at dksJ9_rotateRight_2 0 rfl rfl)
theorem dJ9_rotateRight_49 : decode cJ9_rotateRight 49 = .ok (.putfield 101, 3) := dk_181 0 101 (dk_at dksJ9_rotateRight_2 1 rfl rfl)
theorem dJ9_rotateRight_52 : decode cJ9_rotateRight 52 = .ok (.goto 33, 3) := dk_167 0 33 (dk_at dksJ9_rotateRight_2 4 rfl rfl)
theorem dJ9_rotateRight_55 : decode cJ9_rotateRight 55 = .ok (.aload_n 1, 1) := dk_43 (dk_at dksJ9_rotateRight_2 7 rfl rfl)
theorem dJ9_rotateRight_56 : decode cJ9_rotateRight 56 = .ok (.getfield 124, 3) := dk_180 0 124 (dk_at dksJ9_rotateRight_2 8 rfl rfl)
theorem dJ9_rotateRight_59 : decode cJ9_rotateRight 59 = .ok (.getfield 114, 3) := dk_180 0 114 (dk_at dksJ9_rotateRight_2 11 rfl rfl)
theorem dJ9_rotateRight_62 : decode cJ9_rotateRight 62 = .ok (.aload_n 1, 1) := dk_43 (dk_at dksJ9_rotateRight_2 14 rfl rfl)
theorem dJ9_rotateRight_63 : decode cJ9_rotateRight 63 = .ok (.if_acmp .ne 14, 3) := dk_166 0 14 (dk_at dksJ9_rotateRight_2 15 rfl rfl)
theorem dJ9_rotateRight_66 : decode cJ9_rotateRight 66 = .ok (.aload_n 1, 1) := dk_43 (dk_at dksJ9_rotateRight_2 18 rfl rfl)
theorem dJ9_rotateRight_67 : decode cJ9_rotateRight 67 = .ok (.getfield 124, 3) := dk_180 0 124 (dk_at dksJ9_rotateRight_2 19 rfl rfl)
theorem dJ9_rotateRight_70 : decode cJ9_rotateRight 70 = .ok (.aload_n 2, 1) := dk_44 (dk_at dksJ9_rotateRight_2 22 rfl rfl)
theorem dJ9_rotateRight_71 : decode cJ9_rotateRight 71 = .ok (.putfield 114, 3) := dk_181 0 114 (dk_at dksJ9_rotateRight_3 0 rfl rfl)
theorem dJ9_rotateRight_74 : decode cJ9_rotateRight 74 = .ok (.goto 11, 3) := dk_167 0 11 (dk_at dksJ9_rotateRight_3 3 rfl rfl)
theorem dJ9_rotateRight_77 : decode cJ9_rotateRight 77 = .ok (.aload_n 1, 1) := dk_43 (dk_at dksJ9_rotateRight_3 6 rfl rfl)
theorem dJ9_rotateRight_78 : decode cJ9_rotateRight 78 = .ok (.getfield 124, 3) := dk_180 0 124 (dk_at dksJ9_rotateRight_3 7 rfl rfl)
theorem dJ9_rotateRight_81 : decode cJ9_rotateRight 81 = .ok (.aload_n 2, 1) := dk_44 (dk_at dksJ9_rotateRight_3 10 rfl rfl)
theorem dJ9_rotateRight_82 : decode cJ9_rotateRight 82 = .ok (.putfield 111, 3) := dk_181 0 111 (dk_at dksJ9_rotateRight_3 11 rfl rfl)
theorem dJ9_rotateRight_85 : decode cJ9_rotateRight 85 = .ok (.aload_n 2, 1) := dk_44 (dk_at dksJ9_rotateRight_3 14 rfl rfl)
theorem dJ9_rotateRight_86 : decode cJ9_rotateRight 86 = .ok (.aload_n 1, 1) := dk_43 (dk_at dksJ9_rotateRight_3 15 rfl rfl)
theorem dJ9_rotateRight_87 : decode cJ9_rotateRight 87 = .ok (.putfield 114, 3) := dk_181 0 114 (dk_at dksJ9_rotateRight_3 16 rfl rfl)
theorem dJ9_rotateRight_90 : decode cJ9_rotateRight 90 = .ok (.aload_n 1, 1) := dk_43 (dk_at dksJ9_rotateRight_3 19 rfl rfl)
theorem dJ9_rotateRight_91 : decode cJ9_rotateRight 91 = .ok (.aload_n 2, 1) := dk_44 (dk_at dksJ9_rotateRight_3 20 rfl rfl)
theorem dJ9_rotateRight_92 : decode cJ9_rotateRight 92 = .ok (.putfield 124, 3) := dk_181 0 124 (dk_at dksJ9_rotateRight_3 21 rfl rfl)
theorem dJ9_rotateRight_95 : decode cJ9_rotateRight 95 = .ok (.return_, 1) := dk_177 (dk_at dksJ9_rotateRight_4 0 rfl rfl)
abbrev cJ9_headMap : ByteArray := prog_51_method_59_code
def yJ9_headMap : MethodName := ⟨RJ9, "headMap", "(Ljava/lang/Object;)Ljava/util/SortedMap;"⟩
def dkwJ9_headMap_0 : List UInt8 := [42, 43, 3, 182, 1, 1, 176]
abbrev dktJ9_headMap_0 : List UInt8 := dkwJ9_headMap_0 ++ []
theorem dksJ9_headMap_0 : cJ9_headMap.data.toList.drop 0 = dktJ9_headMap_0 := by decide +kernel
theorem dJ9_headMap_0 : decode cJ9_headMap 0 = .ok (.aload_n 0, 1) := dk_42 (dk_at dksJ9_headMap_0 0 rfl rfl)
theorem dJ9_headMap_1 : decode cJ9_headMap 1 = .ok (.aload_n 1, 1) := dk_43 (dk_at dksJ9_headMap_0 1 rfl rfl)
theorem dJ9_headMap_2 : decode cJ9_headMap 2 = .ok (.iconst 0, 1) := dk_3 (dk_at dksJ9_headMap_0 2 rfl rfl)
theorem dJ9_headMap_3 : decode cJ9_headMap 3 = .ok (.invokevirtual 257, 3) := dk_182 1 1 (dk_at dksJ9_headMap_0 3 rfl rfl)
theorem dJ9_headMap_6 : decode cJ9_headMap 6 = .ok (.areturn, 1) := dk_176 (dk_at dksJ9_headMap_0 6 rfl rfl)
abbrev cJ9_headMap_2 : ByteArray := prog_51_method_56_code
def yJ9_headMap_2 : MethodName := ⟨RJ9, "headMap", "(Ljava/lang/Object;Z)Ljava/util/NavigableMap;"⟩
def dkwJ9_headMap_2_0 : List UInt8 := [187, 0, 250, 89, 42, 4, 1, 4, 3, 43, 28, 183, 0, 252, 176]
abbrev dktJ9_headMap_2_0 : List UInt8 := dkwJ9_headMap_2_0 ++ []
theorem dksJ9_headMap_2_0 : cJ9_headMap_2.data.toList.drop 0 = dktJ9_headMap_2_0 := by decide +kernel
theorem dJ9_headMap_2_0 : decode cJ9_headMap_2 0 = .ok (.new 250, 3) := dk_187 0 250 (dk_at dksJ9_headMap_2_0 0 rfl rfl)
theorem dJ9_headMap_2_3 : decode cJ9_headMap_2 3 = .ok (.dup, 1) := dk_89 (dk_at dksJ9_headMap_2_0 3 rfl rfl)
theorem dJ9_headMap_2_4 : decode cJ9_headMap_2 4 = .ok (.aload_n 0, 1) := dk_42 (dk_at dksJ9_headMap_2_0 4 rfl rfl)
theorem dJ9_headMap_2_5 : decode cJ9_headMap_2 5 = .ok (.iconst 1, 1) := dk_4 (dk_at dksJ9_headMap_2_0 5 rfl rfl)
theorem dJ9_headMap_2_6 : decode cJ9_headMap_2 6 = .ok (.aconst_null, 1) := dk_1 (dk_at dksJ9_headMap_2_0 6 rfl rfl)
theorem dJ9_headMap_2_7 : decode cJ9_headMap_2 7 = .ok (.iconst 1, 1) := dk_4 (dk_at dksJ9_headMap_2_0 7 rfl rfl)
theorem dJ9_headMap_2_8 : decode cJ9_headMap_2 8 = .ok (.iconst 0, 1) := dk_3 (dk_at dksJ9_headMap_2_0 8 rfl rfl)
theorem dJ9_headMap_2_9 : decode cJ9_headMap_2 9 = .ok (.aload_n 1, 1) := dk_43 (dk_at dksJ9_headMap_2_0 9 rfl rfl)
theorem dJ9_headMap_2_10 : decode cJ9_headMap_2 10 = .ok (.iload_n 2, 1) := dk_28 (dk_at dksJ9_headMap_2_0 10 rfl rfl)
theorem dJ9_headMap_2_11 : decode cJ9_headMap_2 11 = .ok (.invokespecial 252, 3) := dk_183 0 252 (dk_at dksJ9_headMap_2_0 11 rfl rfl)
theorem dJ9_headMap_2_14 : decode cJ9_headMap_2 14 = .ok (.areturn, 1) := dk_176 (dk_at dksJ9_headMap_2_0 14 rfl rfl)
abbrev cJ9_values : ByteArray := prog_51_method_52_code
def yJ9_values : MethodName := ⟨RJ9, "values", "()Ljava/util/Collection;"⟩
def dkwJ9_values_1 : List UInt8 := [176]
abbrev dktJ9_values_1 : List UInt8 := dkwJ9_values_1 ++ []
def dkwJ9_values_0 : List UInt8 := [42, 180, 0, 233, 76, 43, 199, 0, 17, 187, 0, 237, 89, 42, 183, 0, 239, 76, 42, 43, 181, 0, 233, 43]
abbrev dktJ9_values_0 : List UInt8 := dkwJ9_values_0 ++ dktJ9_values_1
theorem dksJ9_values_0 : cJ9_values.data.toList.drop 0 = dktJ9_values_0 := by decide +kernel
theorem dksJ9_values_1 : cJ9_values.data.toList.drop 24 = dktJ9_values_1 := dk_seg dksJ9_values_0 24 rfl rfl
theorem dJ9_values_0 : decode cJ9_values 0 = .ok (.aload_n 0, 1) := dk_42 (dk_at dksJ9_values_0 0 rfl rfl)
theorem dJ9_values_1 : decode cJ9_values 1 = .ok (.getfield 233, 3) := dk_180 0 233 (dk_at dksJ9_values_0 1 rfl rfl)
theorem dJ9_values_4 : decode cJ9_values 4 = .ok (.astore_n 1, 1) := dk_76 (dk_at dksJ9_values_0 4 rfl rfl)
theorem dJ9_values_5 : decode cJ9_values 5 = .ok (.aload_n 1, 1) := dk_43 (dk_at dksJ9_values_0 5 rfl rfl)
theorem dJ9_values_6 : decode cJ9_values 6 = .ok (.ifnonnull 17, 3) := dk_199 0 17 (dk_at dksJ9_values_0 6 rfl rfl)
theorem dJ9_values_9 : decode cJ9_values 9 = .ok (.new 237, 3) := dk_187 0 237 (dk_at dksJ9_values_0 9 rfl rfl)
theorem dJ9_values_12 : decode cJ9_values 12 = .ok (.dup, 1) := dk_89 (dk_at dksJ9_values_0 12 rfl rfl)
theorem dJ9_values_13 : decode cJ9_values 13 = .ok (.aload_n 0, 1) := dk_42 (dk_at dksJ9_values_0 13 rfl rfl)
theorem dJ9_values_14 : decode cJ9_values 14 = .ok (.invokespecial 239, 3) := dk_183 0 239 (dk_at dksJ9_values_0 14 rfl rfl)
theorem dJ9_values_17 : decode cJ9_values 17 = .ok (.astore_n 1, 1) := dk_76 (dk_at dksJ9_values_0 17 rfl rfl)
theorem dJ9_values_18 : decode cJ9_values 18 = .ok (.aload_n 0, 1) := dk_42 (dk_at dksJ9_values_0 18 rfl rfl)
theorem dJ9_values_19 : decode cJ9_values 19 = .ok (.aload_n 1, 1) := dk_43 (dk_at dksJ9_values_0 19 rfl rfl)
theorem dJ9_values_20 : decode cJ9_values 20 = .ok (.putfield 233, 3) := dk_181 0 233 (dk_at dksJ9_values_0 20 rfl rfl)
theorem dJ9_values_23 : decode cJ9_values 23 = .ok (.aload_n 1, 1) := dk_43 (dk_at dksJ9_values_0 23 rfl rfl)
theorem dJ9_values_24 : decode cJ9_values 24 = .ok (.areturn, 1) := dk_176 (dk_at dksJ9_values_1 0 rfl rfl)
abbrev cJ9_entrySet : ByteArray := prog_51_method_53_code
def yJ9_entrySet : MethodName := ⟨RJ9, "entrySet", "()Ljava/util/Set;"⟩
def dkwJ9_entrySet_1 : List UInt8 := [181, 0, 188, 176]
abbrev dktJ9_entrySet_1 : List UInt8 := dkwJ9_entrySet_1 ++ []
def dkwJ9_entrySet_0 : List UInt8 := [42, 180, 0, 188, 76, 43, 198, 0, 7, 43, 167, 0, 16, 42, 187, 0, 242, 89, 42, 183, 0, 244, 90]
abbrev dktJ9_entrySet_0 : List UInt8 := dkwJ9_entrySet_0 ++ dktJ9_entrySet_1
theorem dksJ9_entrySet_0 : cJ9_entrySet.data.toList.drop 0 = dktJ9_entrySet_0 := by decide +kernel
theorem dksJ9_entrySet_1 : cJ9_entrySet.data.toList.drop 23 = dktJ9_entrySet_1 := dk_seg dksJ9_entrySet_0 23 rfl rfl
theorem dJ9_entrySet_0 : decode cJ9_entrySet 0 = .ok (.aload_n 0, 1) := dk_42 (dk_at dksJ9_entrySet_0 0 rfl rfl)
theorem dJ9_entrySet_1 : decode cJ9_entrySet 1 = .ok (.getfield 188, 3) := dk_180 0 188 (dk_at dksJ9_entrySet_0 1 rfl rfl)
theorem dJ9_entrySet_4 : decode cJ9_entrySet 4 = .ok (.astore_n 1, 1) := dk_76 (dk_at dksJ9_entrySet_0 4 rfl rfl)
theorem dJ9_entrySet_5 : decode cJ9_entrySet 5 = .ok (.aload_n 1, 1) := dk_43 (dk_at dksJ9_entrySet_0 5 rfl rfl)
theorem dJ9_entrySet_6 : decode cJ9_entrySet 6 = .ok (.ifnull 7, 3) := dk_198 0 7 (dk_at dksJ9_entrySet_0 6 rfl rfl)
theorem dJ9_entrySet_9 : decode cJ9_entrySet 9 = .ok (.aload_n 1, 1) := dk_43 (dk_at dksJ9_entrySet_0 9 rfl rfl)
theorem dJ9_entrySet_10 : decode cJ9_entrySet 10 = .ok (.goto 16, 3) := dk_167 0 16 (dk_at dksJ9_entrySet_0 10 rfl rfl)
theorem dJ9_entrySet_13 : decode cJ9_entrySet 13 = .ok (.aload_n 0, 1) := dk_42 (dk_at dksJ9_entrySet_0 13 rfl rfl)
theorem dJ9_entrySet_14 : decode cJ9_entrySet 14 = .ok (.new 242, 3) := dk_187 0 242 (dk_at dksJ9_entrySet_0 14 rfl rfl)
theorem dJ9_entrySet_17 : decode cJ9_entrySet 17 = .ok (.dup, 1) := dk_89 (dk_at dksJ9_entrySet_0 17 rfl rfl)
theorem dJ9_entrySet_18 : decode cJ9_entrySet 18 = .ok (.aload_n 0, 1) := dk_42 (dk_at dksJ9_entrySet_0 18 rfl rfl)
theorem dJ9_entrySet_19 : decode cJ9_entrySet 19 = .ok (.invokespecial 244, 3) := dk_183 0 244 (dk_at dksJ9_entrySet_0 19 rfl rfl)
theorem dJ9_entrySet_22 : decode cJ9_entrySet 22 = .ok (.dup_x1, 1) := dk_90 (dk_at dksJ9_entrySet_0 22 rfl rfl)
theorem dJ9_entrySet_23 : decode cJ9_entrySet 23 = .ok (.putfield 188, 3) := dk_181 0 188 (dk_at dksJ9_entrySet_1 0 rfl rfl)
theorem dJ9_entrySet_26 : decode cJ9_entrySet 26 = .ok (.areturn, 1) := dk_176 (dk_at dksJ9_entrySet_1 3 rfl rfl)
abbrev cJ9_getFirstEntry : ByteArray := prog_51_method_72_code
def yJ9_getFirstEntry : MethodName := ⟨RJ9, "getFirstEntry", "()Ljava/util/TreeMap$Entry;"⟩
def dkwJ9_getFirstEntry_1 : List UInt8 := [43, 176]
abbrev dktJ9_getFirstEntry_1 : List UInt8 := dkwJ9_getFirstEntry_1 ++ []
def dkwJ9_getFirstEntry_0 : List UInt8 := [42, 180, 0, 101, 76, 43, 198, 0, 18, 43, 180, 0, 111, 198, 0, 11, 43, 180, 0, 111, 76, 167, 255, 244]
abbrev dktJ9_getFirstEntry_0 : List UInt8 := dkwJ9_getFirstEntry_0 ++ dktJ9_getFirstEntry_1
theorem dksJ9_getFirstEntry_0 : cJ9_getFirstEntry.data.toList.drop 0 = dktJ9_getFirstEntry_0 := by decide +kernel
theorem dksJ9_getFirstEntry_1 : cJ9_getFirstEntry.data.toList.drop 24 = dktJ9_getFirstEntry_1 := dk_seg dksJ9_getFirstEntry_0 24 rfl rfl
theorem dJ9_getFirstEntry_0 : decode cJ9_getFirstEntry 0 = .ok (.aload_n 0, 1) := dk_42 (dk_at dksJ9_getFirstEntry_0 0 rfl rfl)
theorem dJ9_getFirstEntry_1 : decode cJ9_getFirstEntry 1 = .ok (.getfield 101, 3) := dk_180 0 101 (dk_at dksJ9_getFirstEntry_0 1 rfl rfl)
theorem dJ9_getFirstEntry_4 : decode cJ9_getFirstEntry 4 = .ok (.astore_n 1, 1) := dk_76 (dk_at dksJ9_getFirstEntry_0 4 rfl rfl)
theorem dJ9_getFirstEntry_5 : decode cJ9_getFirstEntry 5 = .ok (.aload_n 1, 1) := dk_43 (dk_at dksJ9_getFirstEntry_0 5 rfl rfl)
theorem dJ9_getFirstEntry_6 : decode cJ9_getFirstEntry 6 = .ok (.ifnull 18, 3) := dk_198 0 18 (dk_at dksJ9_getFirstEntry_0 6 rfl rfl)
theorem dJ9_getFirstEntry_9 : decode cJ9_getFirstEntry 9 = .ok (.aload_n 1, 1) := dk_43 (dk_at dksJ9_getFirstEntry_0 9 rfl rfl)
theorem dJ9_getFirstEntry_10 : decode cJ9_getFirstEntry 10 = .ok (.getfield 111, 3) := dk_180 0 111 (dk_at dksJ9_getFirstEntry_0 10 rfl rfl)
theorem dJ9_getFirstEntry_13 : decode cJ9_getFirstEntry 13 = .ok (.ifnull 11, 3) := dk_198 0 11 (dk_at dksJ9_getFirstEntry_0 13 rfl rfl)
theorem dJ9_getFirstEntry_16 : decode cJ9_getFirstEntry 16 = .ok (.aload_n 1, 1) := dk_43 (dk_at dksJ9_getFirstEntry_0 16 rfl rfl)
theorem dJ9_getFirstEntry_17 : decode cJ9_getFirstEntry 17 = .ok (.getfield 111, 3) := dk_180 0 111 (dk_at dksJ9_getFirstEntry_0 17 rfl rfl)
theorem dJ9_getFirstEntry_20 : decode cJ9_getFirstEntry 20 = .ok (.astore_n 1, 1) := dk_76 (dk_at dksJ9_getFirstEntry_0 20 rfl rfl)
theorem dJ9_getFirstEntry_21 : decode cJ9_getFirstEntry 21 = .ok (.goto (-12), 3) := dk_167 255 244 (dk_at dksJ9_getFirstEntry_0 21 rfl rfl)
theorem dJ9_getFirstEntry_24 : decode cJ9_getFirstEntry 24 = .ok (.aload_n 1, 1) := dk_43 (dk_at dksJ9_getFirstEntry_1 0 rfl rfl)
theorem dJ9_getFirstEntry_25 : decode cJ9_getFirstEntry 25 = .ok (.areturn, 1) := dk_176 (dk_at dksJ9_getFirstEntry_1 1 rfl rfl)
abbrev cJ9_getCeilingEntry : ByteArray := prog_51_method_17_code
def yJ9_getCeilingEntry : MethodName := ⟨RJ9, "getCeilingEntry", "(Ljava/lang/Object;)Ljava/util/TreeMap$Entry;"⟩
def dkwJ9_getCeilingEntry_4 : List UInt8 := [167, 255, 230, 25, 4, 176, 44, 176, 167, 255, 159, 1, 176]
abbrev dktJ9_getCeilingEntry_4 : List UInt8 := dkwJ9_getCeilingEntry_4 ++ []
def dkwJ9_getCeilingEntry_3 : List UInt8 := [198, 0, 27, 25, 5, 25, 4, 180, 0, 114, 166, 0, 17, 25, 4, 58, 5, 25, 4, 180, 0, 124, 58, 4]
abbrev dktJ9_getCeilingEntry_3 : List UInt8 := dkwJ9_getCeilingEntry_3 ++ dktJ9_getCeilingEntry_4
def dkwJ9_getCeilingEntry_2 : List UInt8 := [198, 0, 11, 44, 180, 0, 114, 77, 167, 0, 46, 44, 180, 0, 124, 58, 4, 44, 58, 5, 25, 4]
abbrev dktJ9_getCeilingEntry_2 : List UInt8 := dkwJ9_getCeilingEntry_2 ++ dktJ9_getCeilingEntry_3
def dkwJ9_getCeilingEntry_1 : List UInt8 := [180, 0, 111, 198, 0, 11, 44, 180, 0, 111, 77, 167, 0, 67, 44, 176, 29, 158, 0, 59, 44, 180, 0, 114]
abbrev dktJ9_getCeilingEntry_1 : List UInt8 := dkwJ9_getCeilingEntry_1 ++ dktJ9_getCeilingEntry_2
def dkwJ9_getCeilingEntry_0 : List UInt8 := [42, 180, 0, 101, 77, 44, 198, 0, 99, 42, 43, 44, 180, 0, 105, 182, 0, 123, 62, 29, 156, 0, 20, 44]
abbrev dktJ9_getCeilingEntry_0 : List UInt8 := dkwJ9_getCeilingEntry_0 ++ dktJ9_getCeilingEntry_1
theorem dksJ9_getCeilingEntry_0 : cJ9_getCeilingEntry.data.toList.drop 0 = dktJ9_getCeilingEntry_0 := by decide +kernel
theorem dksJ9_getCeilingEntry_1 : cJ9_getCeilingEntry.data.toList.drop 24 = dktJ9_getCeilingEntry_1 := dk_seg dksJ9_getCeilingEntry_0 24 rfl rfl
theorem dksJ9_getCeilingEntry_2 : cJ9_getCeilingEntry.data.toList.drop 48 = dktJ9_getCeilingEntry_2 := dk_seg dksJ9_getCeilingEntry_1 24 rfl rfl
theorem dksJ9_getCeilingEntry_3 : cJ9_getCeilingEntry.data.toList.drop 70 = dktJ9_getCeilingEntry_3 := dk_seg dksJ9_getCeilingEntry_2 22 rfl rfl
theorem dksJ9_getCeilingEntry_4 : cJ9_getCeilingEntry.data.toList.drop 94 = dktJ9_getCeilingEntry_4 := dk_seg dksJ9_getCeilingEntry_3 24 rfl rfl
theorem dJ9_getCeilingEntry_0 : decode cJ9_getCeilingEntry 0 = .ok (.aload_n 0, 1) := dk_42 (dk_at dksJ9_getCeilingEntry_0 0 rfl rfl)
theorem dJ9_getCeilingEntry_1 : decode cJ9_getCeilingEntry 1 = .ok (.getfield 101, 3) := dk_180 0 101 (dk_at dksJ9_getCeilingEntry_0 1 rfl rfl)
theorem dJ9_getCeilingEntry_4 : decode cJ9_getCeilingEntry 4 = .ok (.astore_n 2, 1) := dk_77 (dk_at dksJ9_getCeilingEntry_0 4 rfl rfl)
theorem dJ9_getCeilingEntry_5 : decode cJ9_getCeilingEntry 5 = .ok (.aload_n 2, 1) := dk_44 (dk_at dksJ9_getCeilingEntry_0 5 rfl rfl)
theorem dJ9_getCeilingEntry_6 : decode cJ9_getCeilingEntry 6 = .ok (.ifnull 99, 3) := dk_198 0 99 (dk_at dksJ9_getCeilingEntry_0 6 rfl rfl)
theorem dJ9_getCeilingEntry_9 : decode cJ9_getCeilingEntry 9 = .ok (.aload_n 0, 1) := dk_42 (dk_at dksJ9_getCeilingEntry_0 9 rfl rfl)
theorem dJ9_getCeilingEntry_10 : decode cJ9_getCeilingEntry 10 = .ok (.aload_n 1, 1) := dk_43 (dk_at dksJ9_getCeilingEntry_0 10 rfl rfl)
theorem dJ9_getCeilingEntry_11 : decode cJ9_getCeilingEntry 11 = .ok (.aload_n 2, 1) := dk_44 (dk_at dksJ9_getCeilingEntry_0 11 rfl rfl)
theorem dJ9_getCeilingEntry_12 : decode cJ9_getCeilingEntry 12 = .ok (.getfield 105, 3) := dk_180 0 105 (dk_at dksJ9_getCeilingEntry_0 12 rfl rfl)
theorem dJ9_getCeilingEntry_15 : decode cJ9_getCeilingEntry 15 = .ok (.invokevirtual 123, 3) := dk_182 0 123 (dk_at dksJ9_getCeilingEntry_0 15 rfl rfl)
theorem dJ9_getCeilingEntry_18 : decode cJ9_getCeilingEntry 18 = .ok (.istore_n 3, 1) := dk_62 (dk_at dksJ9_getCeilingEntry_0 18 rfl rfl)
theorem dJ9_getCeilingEntry_19 : decode cJ9_getCeilingEntry 19 = .ok (.iload_n 3, 1) := dk_29 (dk_at dksJ9_getCeilingEntry_0 19 rfl rfl)
theorem dJ9_getCeilingEntry_20 : decode cJ9_getCeilingEntry 20 = .ok (.ifCond .ge 20, 3) := dk_156 0 20 (dk_at dksJ9_getCeilingEntry_0 20 rfl rfl)
theorem dJ9_getCeilingEntry_23 : decode cJ9_getCeilingEntry 23 = .ok (.aload_n 2, 1) := dk_44 (dk_at dksJ9_getCeilingEntry_0 23 rfl rfl)
theorem dJ9_getCeilingEntry_24 : decode cJ9_getCeilingEntry 24 = .ok (.getfield 111, 3) := dk_180 0 111 (dk_at dksJ9_getCeilingEntry_1 0 rfl rfl)
theorem dJ9_getCeilingEntry_27 : decode cJ9_getCeilingEntry 27 = .ok (.ifnull 11, 3) := dk_198 0 11 (dk_at dksJ9_getCeilingEntry_1 3 rfl rfl)
theorem dJ9_getCeilingEntry_30 : decode cJ9_getCeilingEntry 30 = .ok (.aload_n 2, 1) := dk_44 (dk_at dksJ9_getCeilingEntry_1 6 rfl rfl)
theorem dJ9_getCeilingEntry_31 : decode cJ9_getCeilingEntry 31 = .ok (.getfield 111, 3) := dk_180 0 111 (dk_at dksJ9_getCeilingEntry_1 7 rfl rfl)
theorem dJ9_getCeilingEntry_34 : decode cJ9_getCeilingEntry 34 = .ok (.astore_n 2, 1) := dk_77 (dk_at dksJ9_getCeilingEntry_1 10 rfl rfl)
theorem dJ9_getCeilingEntry_35 : decode cJ9_getCeilingEntry 35 = .ok (.goto 67, 3) := dk_167 0 67 (dk_at dksJ9_getCeilingEntry_1 11 rfl rfl)
theorem dJ9_getCeilingEntry_38 : decode cJ9_getCeilingEntry 38 = .ok (.aload_n 2, 1) := dk_44 (dk_at dksJ9_getCeilingEntry_1 14 rfl rfl)
theorem dJ9_getCeilingEntry_39 : decode cJ9_getCeilingEntry 39 = .ok (.areturn, 1) := dk_176 (dk_at dksJ9_getCeilingEntry_1 15 rfl rfl)
theorem dJ9_getCeilingEntry_40 : decode cJ9_getCeilingEntry 40 = .ok (.iload_n 3, 1) := dk_29 (dk_at dksJ9_getCeilingEntry_1 16 rfl rfl)
theorem dJ9_getCeilingEntry_41 : decode cJ9_getCeilingEntry 41 = .ok (.ifCond .le 59, 3) := dk_158 0 59 (dk_at dksJ9_getCeilingEntry_1 17 rfl rfl)
theorem dJ9_getCeilingEntry_44 : decode cJ9_getCeilingEntry 44 = .ok (.aload_n 2, 1) := dk_44 (dk_at dksJ9_getCeilingEntry_1 20 rfl rfl)
theorem dJ9_getCeilingEntry_45 : decode cJ9_getCeilingEntry 45 = .ok (.getfield 114, 3) := dk_180 0 114 (dk_at dksJ9_getCeilingEntry_1 21 rfl rfl)
theorem dJ9_getCeilingEntry_48 : decode cJ9_getCeilingEntry 48 = .ok (.ifnull 11, 3) := dk_198 0 11 (dk_at dksJ9_getCeilingEntry_2 0 rfl rfl)
theorem dJ9_getCeilingEntry_51 : decode cJ9_getCeilingEntry 51 = .ok (.aload_n 2, 1) := dk_44 (dk_at dksJ9_getCeilingEntry_2 3 rfl rfl)
theorem dJ9_getCeilingEntry_52 : decode cJ9_getCeilingEntry 52 = .ok (.getfield 114, 3) := dk_180 0 114 (dk_at dksJ9_getCeilingEntry_2 4 rfl rfl)
theorem dJ9_getCeilingEntry_55 : decode cJ9_getCeilingEntry 55 = .ok (.astore_n 2, 1) := dk_77 (dk_at dksJ9_getCeilingEntry_2 7 rfl rfl)
theorem dJ9_getCeilingEntry_56 : decode cJ9_getCeilingEntry 56 = .ok (.goto 46, 3) := dk_167 0 46 (dk_at dksJ9_getCeilingEntry_2 8 rfl rfl)
theorem dJ9_getCeilingEntry_59 : decode cJ9_getCeilingEntry 59 = .ok (.aload_n 2, 1) := dk_44 (dk_at dksJ9_getCeilingEntry_2 11 rfl rfl)
theorem dJ9_getCeilingEntry_60 : decode cJ9_getCeilingEntry 60 = .ok (.getfield 124, 3) := dk_180 0 124 (dk_at dksJ9_getCeilingEntry_2 12 rfl rfl)
theorem dJ9_getCeilingEntry_63 : decode cJ9_getCeilingEntry 63 = .ok (.astore 4, 2) := dk_58 4 (dk_at dksJ9_getCeilingEntry_2 15 rfl rfl)
theorem dJ9_getCeilingEntry_65 : decode cJ9_getCeilingEntry 65 = .ok (.aload_n 2, 1) := dk_44 (dk_at dksJ9_getCeilingEntry_2 17 rfl rfl)
theorem dJ9_getCeilingEntry_66 : decode cJ9_getCeilingEntry 66 = .ok (.astore 5, 2) := dk_58 5 (dk_at dksJ9_getCeilingEntry_2 18 rfl rfl)
theorem dJ9_getCeilingEntry_68 : decode cJ9_getCeilingEntry 68 = .ok (.aload 4, 2) := dk_25 4 (dk_at dksJ9_getCeilingEntry_2 20 rfl rfl)
theorem dJ9_getCeilingEntry_70 : decode cJ9_getCeilingEntry 70 = .ok (.ifnull 27, 3) := dk_198 0 27 (dk_at dksJ9_getCeilingEntry_3 0 rfl rfl)
theorem dJ9_getCeilingEntry_73 : decode cJ9_getCeilingEntry 73 = .ok (.aload 5, 2) := dk_25 5 (dk_at dksJ9_getCeilingEntry_3 3 rfl rfl)
theorem dJ9_getCeilingEntry_75 : decode cJ9_getCeilingEntry 75 = .ok (.aload 4, 2) := dk_25 4 (dk_at dksJ9_getCeilingEntry_3 5 rfl rfl)
theorem dJ9_getCeilingEntry_77 : decode cJ9_getCeilingEntry 77 = .ok (.getfield 114, 3) := dk_180 0 114 (dk_at dksJ9_getCeilingEntry_3 7 rfl rfl)
theorem dJ9_getCeilingEntry_80 : decode cJ9_getCeilingEntry 80 = .ok (.if_acmp .ne 17, 3) := dk_166 0 17 (dk_at dksJ9_getCeilingEntry_3 10 rfl rfl)
theorem dJ9_getCeilingEntry_83 : decode cJ9_getCeilingEntry 83 = .ok (.aload 4, 2) := dk_25 4 (dk_at dksJ9_getCeilingEntry_3 13 rfl rfl)
theorem dJ9_getCeilingEntry_85 : decode cJ9_getCeilingEntry 85 = .ok (.astore 5, 2) := dk_58 5 (dk_at dksJ9_getCeilingEntry_3 15 rfl rfl)
theorem dJ9_getCeilingEntry_87 : decode cJ9_getCeilingEntry 87 = .ok (.aload 4, 2) := dk_25 4 (dk_at dksJ9_getCeilingEntry_3 17 rfl rfl)
theorem dJ9_getCeilingEntry_89 : decode cJ9_getCeilingEntry 89 = .ok (.getfield 124, 3) := dk_180 0 124 (dk_at dksJ9_getCeilingEntry_3 19 rfl rfl)
theorem dJ9_getCeilingEntry_92 : decode cJ9_getCeilingEntry 92 = .ok (.astore 4, 2) := dk_58 4 (dk_at dksJ9_getCeilingEntry_3 22 rfl rfl)
theorem dJ9_getCeilingEntry_94 : decode cJ9_getCeilingEntry 94 = .ok (.goto (-26), 3) := dk_167 255 230 (dk_at dksJ9_getCeilingEntry_4 0 rfl rfl)
theorem dJ9_getCeilingEntry_97 : decode cJ9_getCeilingEntry 97 = .ok (.aload 4, 2) := dk_25 4 (dk_at dksJ9_getCeilingEntry_4 3 rfl rfl)
theorem dJ9_getCeilingEntry_99 : decode cJ9_getCeilingEntry 99 = .ok (.areturn, 1) := dk_176 (dk_at dksJ9_getCeilingEntry_4 5 rfl rfl)
theorem dJ9_getCeilingEntry_100 : decode cJ9_getCeilingEntry 100 = .ok (.aload_n 2, 1) := dk_44 (dk_at dksJ9_getCeilingEntry_4 6 rfl rfl)
theorem dJ9_getCeilingEntry_101 : decode cJ9_getCeilingEntry 101 = .ok (.areturn, 1) := dk_176 (dk_at dksJ9_getCeilingEntry_4 7 rfl rfl)
theorem dJ9_getCeilingEntry_102 : decode cJ9_getCeilingEntry 102 = .ok (.goto (-97), 3) := dk_167 255 159 (dk_at dksJ9_getCeilingEntry_4 8 rfl rfl)
theorem dJ9_getCeilingEntry_105 : decode cJ9_getCeilingEntry 105 = .ok (.aconst_null, 1) := dk_1 (dk_at dksJ9_getCeilingEntry_4 11 rfl rfl)
theorem dJ9_getCeilingEntry_106 : decode cJ9_getCeilingEntry 106 = .ok (.areturn, 1) := dk_176 (dk_at dksJ9_getCeilingEntry_4 12 rfl rfl)
abbrev cJ9_getHigherEntry : ByteArray := prog_51_method_19_code
def yJ9_getHigherEntry : MethodName := ⟨RJ9, "getHigherEntry", "(Ljava/lang/Object;)Ljava/util/TreeMap$Entry;"⟩
def dkwJ9_getHigherEntry_4 : List UInt8 := [176, 167, 255, 165, 1, 176]
abbrev dktJ9_getHigherEntry_4 : List UInt8 := dkwJ9_getHigherEntry_4 ++ []
def dkwJ9_getHigherEntry_3 : List UInt8 := [25, 4, 180, 0, 114, 166, 0, 17, 25, 4, 58, 5, 25, 4, 180, 0, 124, 58, 4, 167, 255, 230, 25, 4]
abbrev dktJ9_getHigherEntry_3 : List UInt8 := dkwJ9_getHigherEntry_3 ++ dktJ9_getHigherEntry_4
def dkwJ9_getHigherEntry_2 : List UInt8 := [180, 0, 114, 77, 167, 0, 44, 44, 180, 0, 124, 58, 4, 44, 58, 5, 25, 4, 198, 0, 27, 25, 5]
abbrev dktJ9_getHigherEntry_2 : List UInt8 := dkwJ9_getHigherEntry_2 ++ dktJ9_getHigherEntry_3
def dkwJ9_getHigherEntry_1 : List UInt8 := [180, 0, 111, 198, 0, 11, 44, 180, 0, 111, 77, 167, 0, 61, 44, 176, 44, 180, 0, 114, 198, 0, 11, 44]
abbrev dktJ9_getHigherEntry_1 : List UInt8 := dkwJ9_getHigherEntry_1 ++ dktJ9_getHigherEntry_2
def dkwJ9_getHigherEntry_0 : List UInt8 := [42, 180, 0, 101, 77, 44, 198, 0, 93, 42, 43, 44, 180, 0, 105, 182, 0, 123, 62, 29, 156, 0, 20, 44]
abbrev dktJ9_getHigherEntry_0 : List UInt8 := dkwJ9_getHigherEntry_0 ++ dktJ9_getHigherEntry_1
theorem dksJ9_getHigherEntry_0 : cJ9_getHigherEntry.data.toList.drop 0 = dktJ9_getHigherEntry_0 := by decide +kernel
theorem dksJ9_getHigherEntry_1 : cJ9_getHigherEntry.data.toList.drop 24 = dktJ9_getHigherEntry_1 := dk_seg dksJ9_getHigherEntry_0 24 rfl rfl
theorem dksJ9_getHigherEntry_2 : cJ9_getHigherEntry.data.toList.drop 48 = dktJ9_getHigherEntry_2 := dk_seg dksJ9_getHigherEntry_1 24 rfl rfl
theorem dksJ9_getHigherEntry_3 : cJ9_getHigherEntry.data.toList.drop 71 = dktJ9_getHigherEntry_3 := dk_seg dksJ9_getHigherEntry_2 23 rfl rfl
theorem dksJ9_getHigherEntry_4 : cJ9_getHigherEntry.data.toList.drop 95 = dktJ9_getHigherEntry_4 := dk_seg dksJ9_getHigherEntry_3 24 rfl rfl
theorem dJ9_getHigherEntry_0 : decode cJ9_getHigherEntry 0 = .ok (.aload_n 0, 1) := dk_42 (dk_at dksJ9_getHigherEntry_0 0 rfl rfl)
theorem dJ9_getHigherEntry_1 : decode cJ9_getHigherEntry 1 = .ok (.getfield 101, 3) := dk_180 0 101 (dk_at dksJ9_getHigherEntry_0 1 rfl rfl)
theorem dJ9_getHigherEntry_4 : decode cJ9_getHigherEntry 4 = .ok (.astore_n 2, 1) := dk_77 (dk_at dksJ9_getHigherEntry_0 4 rfl rfl)
theorem dJ9_getHigherEntry_5 : decode cJ9_getHigherEntry 5 = .ok (.aload_n 2, 1) := dk_44 (dk_at dksJ9_getHigherEntry_0 5 rfl rfl)
theorem dJ9_getHigherEntry_6 : decode cJ9_getHigherEntry 6 = .ok (.ifnull 93, 3) := dk_198 0 93 (dk_at dksJ9_getHigherEntry_0 6 rfl rfl)
theorem dJ9_getHigherEntry_9 : decode cJ9_getHigherEntry 9 = .ok (.aload_n 0, 1) := dk_42 (dk_at dksJ9_getHigherEntry_0 9 rfl rfl)
theorem dJ9_getHigherEntry_10 : decode cJ9_getHigherEntry 10 = .ok (.aload_n 1, 1) := dk_43 (dk_at dksJ9_getHigherEntry_0 10 rfl rfl)
theorem dJ9_getHigherEntry_11 : decode cJ9_getHigherEntry 11 = .ok (.aload_n 2, 1) := dk_44 (dk_at dksJ9_getHigherEntry_0 11 rfl rfl)
theorem dJ9_getHigherEntry_12 : decode cJ9_getHigherEntry 12 = .ok (.getfield 105, 3) := dk_180 0 105 (dk_at dksJ9_getHigherEntry_0 12 rfl rfl)
theorem dJ9_getHigherEntry_15 : decode cJ9_getHigherEntry 15 = .ok (.invokevirtual 123, 3) := dk_182 0 123 (dk_at dksJ9_getHigherEntry_0 15 rfl rfl)
theorem dJ9_getHigherEntry_18 : decode cJ9_getHigherEntry 18 = .ok (.istore_n 3, 1) := dk_62 (dk_at dksJ9_getHigherEntry_0 18 rfl rfl)
theorem dJ9_getHigherEntry_19 : decode cJ9_getHigherEntry 19 = .ok (.iload_n 3, 1) := dk_29 (dk_at dksJ9_getHigherEntry_0 19 rfl rfl)
theorem dJ9_getHigherEntry_20 : decode cJ9_getHigherEntry 20 = .ok (.ifCond .ge 20, 3) := dk_156 0 20 (dk_at dksJ9_getHigherEntry_0 20 rfl rfl)
theorem dJ9_getHigherEntry_23 : decode cJ9_getHigherEntry 23 = .ok (.aload_n 2, 1) := dk_44 (dk_at dksJ9_getHigherEntry_0 23 rfl rfl)
theorem dJ9_getHigherEntry_24 : decode cJ9_getHigherEntry 24 = .ok (.getfield 111, 3) := dk_180 0 111 (dk_at dksJ9_getHigherEntry_1 0 rfl rfl)
theorem dJ9_getHigherEntry_27 : decode cJ9_getHigherEntry 27 = .ok (.ifnull 11, 3) := dk_198 0 11 (dk_at dksJ9_getHigherEntry_1 3 rfl rfl)
theorem dJ9_getHigherEntry_30 : decode cJ9_getHigherEntry 30 = .ok (.aload_n 2, 1) := dk_44 (dk_at dksJ9_getHigherEntry_1 6 rfl rfl)
theorem dJ9_getHigherEntry_31 : decode cJ9_getHigherEntry 31 = .ok (.getfield 111, 3) := dk_180 0 111 (dk_at dksJ9_getHigherEntry_1 7 rfl rfl)
theorem dJ9_getHigherEntry_34 : decode cJ9_getHigherEntry 34 = .ok (.astore_n 2, 1) := dk_77 (dk_at dksJ9_getHigherEntry_1 10 rfl rfl)
theorem dJ9_getHigherEntry_35 : decode cJ9_getHigherEntry 35 = .ok (.goto 61, 3) := dk_167 0 61 (dk_at dksJ9_getHigherEntry_1 11 rfl rfl)
theorem dJ9_getHigherEntry_38 : decode cJ9_getHigherEntry 38 = .ok (.aload_n 2, 1) := dk_44 (dk_at dksJ9_getHigherEntry_1 14 rfl rfl)
theorem dJ9_getHigherEntry_39 : decode cJ9_getHigherEntry 39 = .ok (.areturn, 1) := dk_176 (dk_at dksJ9_getHigherEntry_1 15 rfl rfl)
theorem dJ9_getHigherEntry_40 : decode cJ9_getHigherEntry 40 = .ok (.aload_n 2, 1) := dk_44 (dk_at dksJ9_getHigherEntry_1 16 rfl rfl)
theorem dJ9_getHigherEntry_41 : decode cJ9_getHigherEntry 41 = .ok (.getfield 114, 3) := dk_180 0 114 (dk_at dksJ9_getHigherEntry_1 17 rfl rfl)
theorem dJ9_getHigherEntry_44 : decode cJ9_getHigherEntry 44 = .ok (.ifnull 11, 3) := dk_198 0 11 (dk_at dksJ9_getHigherEntry_1 20 rfl rfl)
theorem dJ9_getHigherEntry_47 : decode cJ9_getHigherEntry 47 = .ok (.aload_n 2, 1) := dk_44 (dk_at dksJ9_getHigherEntry_1 23 rfl rfl)
theorem dJ9_getHigherEntry_48 : decode cJ9_getHigherEntry 48 = .ok (.getfield 114, 3) := dk_180 0 114 (dk_at dksJ9_getHigherEntry_2 0 rfl rfl)
theorem dJ9_getHigherEntry_51 : decode cJ9_getHigherEntry 51 = .ok (.astore_n 2, 1) := dk_77 (dk_at dksJ9_getHigherEntry_2 3 rfl rfl)
theorem dJ9_getHigherEntry_52 : decode cJ9_getHigherEntry 52 = .ok (.goto 44, 3) := dk_167 0 44 (dk_at dksJ9_getHigherEntry_2 4 rfl rfl)
theorem dJ9_getHigherEntry_55 : decode cJ9_getHigherEntry 55 = .ok (.aload_n 2, 1) := dk_44 (dk_at dksJ9_getHigherEntry_2 7 rfl rfl)
theorem dJ9_getHigherEntry_56 : decode cJ9_getHigherEntry 56 = .ok (.getfield 124, 3) := dk_180 0 124 (dk_at dksJ9_getHigherEntry_2 8 rfl rfl)
theorem dJ9_getHigherEntry_59 : decode cJ9_getHigherEntry 59 = .ok (.astore 4, 2) := dk_58 4 (dk_at dksJ9_getHigherEntry_2 11 rfl rfl)
theorem dJ9_getHigherEntry_61 : decode cJ9_getHigherEntry 61 = .ok (.aload_n 2, 1) := dk_44 (dk_at dksJ9_getHigherEntry_2 13 rfl rfl)
theorem dJ9_getHigherEntry_62 : decode cJ9_getHigherEntry 62 = .ok (.astore 5, 2) := dk_58 5 (dk_at dksJ9_getHigherEntry_2 14 rfl rfl)
theorem dJ9_getHigherEntry_64 : decode cJ9_getHigherEntry 64 = .ok (.aload 4, 2) := dk_25 4 (dk_at dksJ9_getHigherEntry_2 16 rfl rfl)
theorem dJ9_getHigherEntry_66 : decode cJ9_getHigherEntry 66 = .ok (.ifnull 27, 3) := dk_198 0 27 (dk_at dksJ9_getHigherEntry_2 18 rfl rfl)
theorem dJ9_getHigherEntry_69 : decode cJ9_getHigherEntry 69 = .ok (.aload 5, 2) := dk_25 5 (dk_at dksJ9_getHigherEntry_2 21 rfl rfl)
theorem dJ9_getHigherEntry_71 : decode cJ9_getHigherEntry 71 = .ok (.aload 4, 2) := dk_25 4 (dk_at dksJ9_getHigherEntry_3 0 rfl rfl)
theorem dJ9_getHigherEntry_73 : decode cJ9_getHigherEntry 73 = .ok (.getfield 114, 3) := dk_180 0 114 (dk_at dksJ9_getHigherEntry_3 2 rfl rfl)
theorem dJ9_getHigherEntry_76 : decode cJ9_getHigherEntry 76 = .ok (.if_acmp .ne 17, 3) := dk_166 0 17 (dk_at dksJ9_getHigherEntry_3 5 rfl rfl)
theorem dJ9_getHigherEntry_79 : decode cJ9_getHigherEntry 79 = .ok (.aload 4, 2) := dk_25 4 (dk_at dksJ9_getHigherEntry_3 8 rfl rfl)
theorem dJ9_getHigherEntry_81 : decode cJ9_getHigherEntry 81 = .ok (.astore 5, 2) := dk_58 5 (dk_at dksJ9_getHigherEntry_3 10 rfl rfl)
theorem dJ9_getHigherEntry_83 : decode cJ9_getHigherEntry 83 = .ok (.aload 4, 2) := dk_25 4 (dk_at dksJ9_getHigherEntry_3 12 rfl rfl)
theorem dJ9_getHigherEntry_85 : decode cJ9_getHigherEntry 85 = .ok (.getfield 124, 3) := dk_180 0 124 (dk_at dksJ9_getHigherEntry_3 14 rfl rfl)
theorem dJ9_getHigherEntry_88 : decode cJ9_getHigherEntry 88 = .ok (.astore 4, 2) := dk_58 4 (dk_at dksJ9_getHigherEntry_3 17 rfl rfl)
theorem dJ9_getHigherEntry_90 : decode cJ9_getHigherEntry 90 = .ok (.goto (-26), 3) := dk_167 255 230 (dk_at dksJ9_getHigherEntry_3 19 rfl rfl)
theorem dJ9_getHigherEntry_93 : decode cJ9_getHigherEntry 93 = .ok (.aload 4, 2) := dk_25 4 (dk_at dksJ9_getHigherEntry_3 22 rfl rfl)
theorem dJ9_getHigherEntry_95 : decode cJ9_getHigherEntry 95 = .ok (.areturn, 1) := dk_176 (dk_at dksJ9_getHigherEntry_4 0 rfl rfl)
theorem dJ9_getHigherEntry_96 : decode cJ9_getHigherEntry 96 = .ok (.goto (-91), 3) := dk_167 255 165 (dk_at dksJ9_getHigherEntry_4 1 rfl rfl)
theorem dJ9_getHigherEntry_99 : decode cJ9_getHigherEntry 99 = .ok (.aconst_null, 1) := dk_1 (dk_at dksJ9_getHigherEntry_4 4 rfl rfl)
theorem dJ9_getHigherEntry_100 : decode cJ9_getHigherEntry 100 = .ok (.areturn, 1) := dk_176 (dk_at dksJ9_getHigherEntry_4 5 rfl rfl)
abbrev cJ9_successor : ByteArray := prog_51_method_74_code
def yJ9_successor : MethodName := ⟨RJ9, "successor", "(Ljava/util/TreeMap$Entry;)Ljava/util/TreeMap$Entry;"⟩
def dkwJ9_successor_2 : List UInt8 := [44, 43, 180, 0, 114, 166, 0, 13, 43, 77, 43, 180, 0, 124, 76, 167, 255, 237, 43, 176]
abbrev dktJ9_successor_2 : List UInt8 := dkwJ9_successor_2 ++ []
def dkwJ9_successor_1 : List UInt8 := [198, 0, 11, 43, 180, 0, 111, 76, 167, 255, 244, 43, 176, 42, 180, 0, 124, 76, 42, 77, 43, 198, 0, 21]
abbrev dktJ9_successor_1 : List UInt8 := dkwJ9_successor_1 ++ dktJ9_successor_2
def dkwJ9_successor_0 : List UInt8 := [42, 199, 0, 5, 1, 176, 42, 180, 0, 114, 198, 0, 25, 42, 180, 0, 114, 76, 43, 180, 0, 111]
abbrev dktJ9_successor_0 : List UInt8 := dkwJ9_successor_0 ++ dktJ9_successor_1
theorem dksJ9_successor_0 : cJ9_successor.data.toList.drop 0 = dktJ9_successor_0 := by decide +kernel
theorem dksJ9_successor_1 : cJ9_successor.data.toList.drop 22 = dktJ9_successor_1 := dk_seg dksJ9_successor_0 22 rfl rfl
theorem dksJ9_successor_2 : cJ9_successor.data.toList.drop 46 = dktJ9_successor_2 := dk_seg dksJ9_successor_1 24 rfl rfl
theorem dJ9_successor_0 : decode cJ9_successor 0 = .ok (.aload_n 0, 1) := dk_42 (dk_at dksJ9_successor_0 0 rfl rfl)
theorem dJ9_successor_1 : decode cJ9_successor 1 = .ok (.ifnonnull 5, 3) := dk_199 0 5 (dk_at dksJ9_successor_0 1 rfl rfl)
theorem dJ9_successor_4 : decode cJ9_successor 4 = .ok (.aconst_null, 1) := dk_1 (dk_at dksJ9_successor_0 4 rfl rfl)
theorem dJ9_successor_5 : decode cJ9_successor 5 = .ok (.areturn, 1) := dk_176 (dk_at dksJ9_successor_0 5 rfl rfl)
theorem dJ9_successor_6 : decode cJ9_successor 6 = .ok (.aload_n 0, 1) := dk_42 (dk_at dksJ9_successor_0 6 rfl rfl)
theorem dJ9_successor_7 : decode cJ9_successor 7 = .ok (.getfield 114, 3) := dk_180 0 114 (dk_at dksJ9_successor_0 7 rfl rfl)
theorem dJ9_successor_10 : decode cJ9_successor 10 = .ok (.ifnull 25, 3) := dk_198 0 25 (dk_at dksJ9_successor_0 10 rfl rfl)
theorem dJ9_successor_13 : decode cJ9_successor 13 = .ok (.aload_n 0, 1) := dk_42 (dk_at dksJ9_successor_0 13 rfl rfl)
theorem dJ9_successor_14 : decode cJ9_successor 14 = .ok (.getfield 114, 3) := dk_180 0 114 (dk_at dksJ9_successor_0 14 rfl rfl)
theorem dJ9_successor_17 : decode cJ9_successor 17 = .ok (.astore_n 1, 1) := dk_76 (dk_at dksJ9_successor_0 17 rfl rfl)
theorem dJ9_successor_18 : decode cJ9_successor 18 = .ok (.aload_n 1, 1) := dk_43 (dk_at dksJ9_successor_0 18 rfl rfl)
theorem dJ9_successor_19 : decode cJ9_successor 19 = .ok (.getfield 111, 3) := dk_180 0 111 (dk_at dksJ9_successor_0 19 rfl rfl)
theorem dJ9_successor_22 : decode cJ9_successor 22 = .ok (.ifnull 11, 3) := dk_198 0 11 (dk_at dksJ9_successor_1 0 rfl rfl)
theorem dJ9_successor_25 : decode cJ9_successor 25 = .ok (.aload_n 1, 1) := dk_43 (dk_at dksJ9_successor_1 3 rfl rfl)
theorem dJ9_successor_26 : decode cJ9_successor 26 = .ok (.getfield 111, 3) := dk_180 0 111 (dk_at dksJ9_successor_1 4 rfl rfl)
theorem dJ9_successor_29 : decode cJ9_successor 29 = .ok (.astore_n 1, 1) := dk_76 (dk_at dksJ9_successor_1 7 rfl rfl)
theorem dJ9_successor_30 : decode cJ9_successor 30 = .ok (.goto (-12), 3) := dk_167 255 244 (dk_at dksJ9_successor_1 8 rfl rfl)
theorem dJ9_successor_33 : decode cJ9_successor 33 = .ok (.aload_n 1, 1) := dk_43 (dk_at dksJ9_successor_1 11 rfl rfl)
theorem dJ9_successor_34 : decode cJ9_successor 34 = .ok (.areturn, 1) := dk_176 (dk_at dksJ9_successor_1 12 rfl rfl)
theorem dJ9_successor_35 : decode cJ9_successor 35 = .ok (.aload_n 0, 1) := dk_42 (dk_at dksJ9_successor_1 13 rfl rfl)
theorem dJ9_successor_36 : decode cJ9_successor 36 = .ok (.getfield 124, 3) := dk_180 0 124 (dk_at dksJ9_successor_1 14 rfl rfl)
theorem dJ9_successor_39 : decode cJ9_successor 39 = .ok (.astore_n 1, 1) := dk_76 (dk_at dksJ9_successor_1 17 rfl rfl)
theorem dJ9_successor_40 : decode cJ9_successor 40 = .ok (.aload_n 0, 1) := dk_42 (dk_at dksJ9_successor_1 18 rfl rfl)
theorem dJ9_successor_41 : decode cJ9_successor 41 = .ok (.astore_n 2, 1) := dk_77 (dk_at dksJ9_successor_1 19 rfl rfl)
theorem dJ9_successor_42 : decode cJ9_successor 42 = .ok (.aload_n 1, 1) := dk_43 (dk_at dksJ9_successor_1 20 rfl rfl)
theorem dJ9_successor_43 : decode cJ9_successor 43 = .ok (.ifnull 21, 3) := dk_198 0 21 (dk_at dksJ9_successor_1 21 rfl rfl)
theorem dJ9_successor_46 : decode cJ9_successor 46 = .ok (.aload_n 2, 1) := dk_44 (dk_at dksJ9_successor_2 0 rfl rfl)
theorem dJ9_successor_47 : decode cJ9_successor 47 = .ok (.aload_n 1, 1) := dk_43 (dk_at dksJ9_successor_2 1 rfl rfl)
theorem dJ9_successor_48 : decode cJ9_successor 48 = .ok (.getfield 114, 3) := dk_180 0 114 (dk_at dksJ9_successor_2 2 rfl rfl)
theorem dJ9_successor_51 : decode cJ9_successor 51 = .ok (.if_acmp .ne 13, 3) := dk_166 0 13 (dk_at dksJ9_successor_2 5 rfl rfl)
theorem dJ9_successor_54 : decode cJ9_successor 54 = .ok (.aload_n 1, 1) := dk_43 (dk_at dksJ9_successor_2 8 rfl rfl)
theorem dJ9_successor_55 : decode cJ9_successor 55 = .ok (.astore_n 2, 1) := dk_77 (dk_at dksJ9_successor_2 9 rfl rfl)
theorem dJ9_successor_56 : decode cJ9_successor 56 = .ok (.aload_n 1, 1) := dk_43 (dk_at dksJ9_successor_2 10 rfl rfl)
theorem dJ9_successor_57 : decode cJ9_successor 57 = .ok (.getfield 124, 3) := dk_180 0 124 (dk_at dksJ9_successor_2 11 rfl rfl)
theorem dJ9_successor_60 : decode cJ9_successor 60 = .ok (.astore_n 1, 1) := dk_76 (dk_at dksJ9_successor_2 14 rfl rfl)
theorem dJ9_successor_61 : decode cJ9_successor 61 = .ok (.goto (-19), 3) := dk_167 255 237 (dk_at dksJ9_successor_2 15 rfl rfl)
theorem dJ9_successor_64 : decode cJ9_successor 64 = .ok (.aload_n 1, 1) := dk_43 (dk_at dksJ9_successor_2 18 rfl rfl)
theorem dJ9_successor_65 : decode cJ9_successor 65 = .ok (.areturn, 1) := dk_176 (dk_at dksJ9_successor_2 19 rfl rfl)
theorem q48 : (Jvm.Cond.initialized "java/util/TreeMap") ∈ lw_all := lw_g (lw_at lw_m1 13 rfl) rfl
theorem q255 : (Jvm.Cond.instantiable "java/util/TreeMap" (9 : Nat)) ∈ lw_all := lw_g (lw_at lw_m1 220 rfl) rfl
theorem q257 : (Jvm.Cond.instanceMethod ({ cls := "java/util/TreeMap", name := "<init>", desc := "()V" } : Jvm.MethodName)) ∈ lw_all := lw_g (lw_at lw_m1 222 rfl) rfl
theorem q258 : (Jvm.Cond.code ({ cls := "java/util/TreeMap", name := "<init>", desc := "()V" } : Jvm.MethodName) prog_51_method_1_code (1 : Nat) (Option.none : Option Jvm.ClassFile.FieldType)) ∈ lw_all := lw_g (lw_at lw_m1 223 rfl) rfl
theorem q259 : (Jvm.Cond.methodLink "java/util/TreeMap" (1 : Nat) ({ cls := "java/util/AbstractMap", name := "<init>", desc := "()V" } : Jvm.MethodName)) ∈ lw_all := lw_g (lw_at lw_m1 224 rfl) rfl
theorem q263 : (Jvm.Cond.fieldLink "java/util/TreeMap" (16 : Nat) "java/util/TreeMap" "comparator" "Ljava/util/Comparator;") ∈ lw_all := lw_g (lw_at lw_m1 228 rfl) rfl
theorem q264 : (Jvm.Cond.fieldLink "java/util/TreeMap" (101 : Nat) "java/util/TreeMap" "root" "Ljava/util/TreeMap$Entry;") ∈ lw_all := lw_g (lw_at lw_m1 229 rfl) rfl
theorem q265 : (Jvm.Cond.fieldLink "java/util/TreeMap" (7 : Nat) "java/util/TreeMap" "size" "I") ∈ lw_all := lw_g (lw_at lw_m1 230 rfl) rfl
theorem q266 : (Jvm.Cond.fieldLink "java/util/TreeMap" (13 : Nat) "java/util/TreeMap" "modCount" "I") ∈ lw_all := lw_g (lw_at lw_m1 231 rfl) rfl
theorem q269 : (Jvm.Cond.fieldLink "java/util/TreeMap" (188 : Nat) "java/util/TreeMap" "entrySet" "Ljava/util/TreeMap$EntrySet;") ∈ lw_all := lw_g (lw_at lw_m1 234 rfl) rfl
theorem q271 : (Jvm.Cond.fieldLink "java/util/TreeMap" (233 : Nat) "java/util/TreeMap" "values" "Ljava/util/Collection;") ∈ lw_all := lw_g (lw_at lw_m1 236 rfl) rfl
theorem q272 : (Jvm.Cond.sameField "java/util/TreeMap" "java/util/AbstractMap" "values" "Ljava/util/Collection;") ∈ lw_all := lw_g (lw_at lw_m1 237 rfl) rfl
theorem q273 : (Jvm.Cond.laysFinal "java/util/TreeMap" "java/util/TreeMap" "comparator" "Ljava/util/Comparator;") ∈ lw_all := lw_g (lw_at lw_m1 238 rfl) rfl
theorem q274 : (Jvm.Cond.soleField "java/util/TreeMap" "comparator") ∈ lw_all := lw_g (lw_at lw_m1 239 rfl) rfl
theorem q275 : (Jvm.Cond.lays "java/util/TreeMap" "java/util/TreeMap" "root" "Ljava/util/TreeMap$Entry;") ∈ lw_all := lw_g (lw_at lw_m2 0 rfl) rfl
theorem q276 : (Jvm.Cond.soleField "java/util/TreeMap" "root") ∈ lw_all := lw_g (lw_at lw_m2 1 rfl) rfl
theorem q277 : (Jvm.Cond.lays "java/util/TreeMap" "java/util/TreeMap" "size" "I") ∈ lw_all := lw_g (lw_at lw_m2 2 rfl) rfl
theorem q278 : (Jvm.Cond.soleField "java/util/TreeMap" "size") ∈ lw_all := lw_g (lw_at lw_m2 3 rfl) rfl
theorem q279 : (Jvm.Cond.lays "java/util/TreeMap" "java/util/TreeMap" "modCount" "I") ∈ lw_all := lw_g (lw_at lw_m2 4 rfl) rfl
theorem q280 : (Jvm.Cond.soleField "java/util/TreeMap" "modCount") ∈ lw_all := lw_g (lw_at lw_m2 5 rfl) rfl
theorem q281 : (Jvm.Cond.lays "java/util/TreeMap" "java/util/TreeMap" "entrySet" "Ljava/util/TreeMap$EntrySet;") ∈ lw_all := lw_g (lw_at lw_m2 6 rfl) rfl
theorem q282 : (Jvm.Cond.soleField "java/util/TreeMap" "entrySet") ∈ lw_all := lw_g (lw_at lw_m2 7 rfl) rfl
theorem q283 : (Jvm.Cond.lays "java/util/TreeMap" "java/util/TreeMap" "navigableKeySet" "Ljava/util/TreeMap$KeySet;") ∈ lw_all := lw_g (lw_at lw_m2 8 rfl) rfl
theorem q284 : (Jvm.Cond.soleField "java/util/TreeMap" "navigableKeySet") ∈ lw_all := lw_g (lw_at lw_m2 9 rfl) rfl
theorem q285 : (Jvm.Cond.lays "java/util/TreeMap" "java/util/TreeMap" "descendingMap" "Ljava/util/NavigableMap;") ∈ lw_all := lw_g (lw_at lw_m2 10 rfl) rfl
theorem q286 : (Jvm.Cond.soleField "java/util/TreeMap" "descendingMap") ∈ lw_all := lw_g (lw_at lw_m2 11 rfl) rfl
theorem q287 : (Jvm.Cond.lays "java/util/TreeMap" "java/util/AbstractMap" "keySet" "Ljava/util/Set;") ∈ lw_all := lw_g (lw_at lw_m2 12 rfl) rfl
theorem q289 : (Jvm.Cond.lays "java/util/TreeMap" "java/util/AbstractMap" "values" "Ljava/util/Collection;") ∈ lw_all := lw_g (lw_at lw_m2 14 rfl) rfl
theorem q291 : (Jvm.Cond.superclass "java/util/TreeMap" "java/util/AbstractMap") ∈ lw_all := lw_g (lw_at lw_m2 16 rfl) rfl
theorem q356 : (Jvm.Cond.selects "java/util/TreeMap" ({ cls := "java/lang/Object", name := "getClass", desc := "()Ljava/lang/Class;" } : Jvm.MethodName) ({ cls := "java/lang/Object", name := "getClass", desc := "()Ljava/lang/Class;" } : Jvm.MethodName)) ∈ lw_all := lw_g (lw_at lw_m2 81 rfl) rfl
theorem q553 : (Jvm.Cond.instanceMethod ({ cls := "java/util/TreeMap", name := "put", desc := "(Ljava/lang/Object;Ljava/lang/Object;)Ljava/lang/Object;" } : Jvm.MethodName)) ∈ lw_all := lw_g (lw_at lw_m3 38 rfl) rfl
theorem q554 : (Jvm.Cond.selects "java/util/TreeMap" ({ cls := "java/util/TreeMap", name := "put", desc := "(Ljava/lang/Object;Ljava/lang/Object;)Ljava/lang/Object;" } : Jvm.MethodName) ({ cls := "java/util/TreeMap", name := "put", desc := "(Ljava/lang/Object;Ljava/lang/Object;)Ljava/lang/Object;" } : Jvm.MethodName)) ∈ lw_all := lw_g (lw_at lw_m3 39 rfl) rfl
theorem q555 : (Jvm.Cond.code ({ cls := "java/util/TreeMap", name := "put", desc := "(Ljava/lang/Object;Ljava/lang/Object;)Ljava/lang/Object;" } : Jvm.MethodName) prog_51_method_21_code (3 : Nat) (Option.some (Jvm.ClassFile.FieldType.object "java/lang/Object"))) ∈ lw_all := lw_g (lw_at lw_m3 40 rfl) rfl
theorem q556 : (Jvm.Cond.methodLink "java/util/TreeMap" (127 : Nat) ({ cls := "java/util/TreeMap", name := "put", desc := "(Ljava/lang/Object;Ljava/lang/Object;Z)Ljava/lang/Object;" } : Jvm.MethodName)) ∈ lw_all := lw_g (lw_at lw_m3 41 rfl) rfl
theorem q557 : (Jvm.Cond.privateMethod ({ cls := "java/util/TreeMap", name := "put", desc := "(Ljava/lang/Object;Ljava/lang/Object;Z)Ljava/lang/Object;" } : Jvm.MethodName)) ∈ lw_tbl := lw_at lw_m3 42 rfl
theorem q558 : (Jvm.Cond.instanceMethod ({ cls := "java/util/TreeMap", name := "put", desc := "(Ljava/lang/Object;Ljava/lang/Object;Z)Ljava/lang/Object;" } : Jvm.MethodName)) ∈ lw_all := lw_g (lw_at lw_m3 43 rfl) rfl
theorem q559 : (Jvm.Cond.code ({ cls := "java/util/TreeMap", name := "put", desc := "(Ljava/lang/Object;Ljava/lang/Object;Z)Ljava/lang/Object;" } : Jvm.MethodName) prog_51_method_31_code (10 : Nat) (Option.some (Jvm.ClassFile.FieldType.object "java/lang/Object"))) ∈ lw_all := lw_g (lw_at lw_m3 44 rfl) rfl
theorem q560 : (Jvm.Cond.methodLink "java/util/TreeMap" (135 : Nat) ({ cls := "java/util/TreeMap", name := "addEntryToEmptyMap", desc := "(Ljava/lang/Object;Ljava/lang/Object;)V" } : Jvm.MethodName)) ∈ lw_all := lw_g (lw_at lw_m3 45 rfl) rfl
theorem q561 : (Jvm.Cond.privateMethod ({ cls := "java/util/TreeMap", name := "addEntryToEmptyMap", desc := "(Ljava/lang/Object;Ljava/lang/Object;)V" } : Jvm.MethodName)) ∈ lw_tbl := lw_at lw_m3 46 rfl
theorem q562 : (Jvm.Cond.instanceMethod ({ cls := "java/util/TreeMap", name := "addEntryToEmptyMap", desc := "(Ljava/lang/Object;Ljava/lang/Object;)V" } : Jvm.MethodName)) ∈ lw_all := lw_g (lw_at lw_m3 47 rfl) rfl
theorem q563 : (Jvm.Cond.code ({ cls := "java/util/TreeMap", name := "addEntryToEmptyMap", desc := "(Ljava/lang/Object;Ljava/lang/Object;)V" } : Jvm.MethodName) prog_51_method_30_code (3 : Nat) (Option.none : Option Jvm.ClassFile.FieldType)) ∈ lw_all := lw_g (lw_at lw_m3 48 rfl) rfl
theorem q564 : (Jvm.Cond.methodLink "java/util/TreeMap" (123 : Nat) ({ cls := "java/util/TreeMap", name := "compare", desc := "(Ljava/lang/Object;Ljava/lang/Object;)I" } : Jvm.MethodName)) ∈ lw_all := lw_g (lw_at lw_m3 49 rfl) rfl
theorem q565 : (Jvm.Cond.instanceMethod ({ cls := "java/util/TreeMap", name := "compare", desc := "(Ljava/lang/Object;Ljava/lang/Object;)I" } : Jvm.MethodName)) ∈ lw_all := lw_g (lw_at lw_m3 50 rfl) rfl
theorem q566 : (Jvm.Cond.selects "java/util/TreeMap" ({ cls := "java/util/TreeMap", name := "compare", desc := "(Ljava/lang/Object;Ljava/lang/Object;)I" } : Jvm.MethodName) ({ cls := "java/util/TreeMap", name := "compare", desc := "(Ljava/lang/Object;Ljava/lang/Object;)I" } : Jvm.MethodName)) ∈ lw_all := lw_g (lw_at lw_m3 51 rfl) rfl
theorem q567 : (Jvm.Cond.code ({ cls := "java/util/TreeMap", name := "compare", desc := "(Ljava/lang/Object;Ljava/lang/Object;)I" } : Jvm.MethodName) prog_51_method_67_code (3 : Nat) (Option.some Jvm.ClassFile.FieldType.int)) ∈ lw_all := lw_g (lw_at lw_m3 52 rfl) rfl
theorem q568 : (Jvm.Cond.classLink "java/util/TreeMap" (99 : Nat) "java/lang/Comparable") ∈ lw_all := lw_g (lw_at lw_m3 53 rfl) rfl
theorem q569 : (Jvm.Cond.interfaceEntry "java/util/TreeMap" (107 : Nat)) ∈ lw_tbl := lw_at lw_m3 54 rfl
theorem q570 : (Jvm.Cond.methodLink "java/util/TreeMap" (107 : Nat) ({ cls := "java/lang/Comparable", name := "compareTo", desc := "(Ljava/lang/Object;)I" } : Jvm.MethodName)) ∈ lw_all := lw_g (lw_at lw_m3 55 rfl) rfl
theorem q603 : (Jvm.Cond.interfaceEntry "java/util/TreeMap" (117 : Nat)) ∈ lw_tbl := lw_at lw_m3 88 rfl
theorem q604 : (Jvm.Cond.methodLink "java/util/TreeMap" (117 : Nat) ({ cls := "java/util/Comparator", name := "compare", desc := "(Ljava/lang/Object;Ljava/lang/Object;)I" } : Jvm.MethodName)) ∈ lw_all := lw_g (lw_at lw_m3 89 rfl) rfl
theorem q607 : (Jvm.Cond.classLink "java/util/TreeMap" (59 : Nat) "java/util/TreeMap$Entry") ∈ lw_all := lw_g (lw_at lw_m3 92 rfl) rfl
theorem q609 : (Jvm.Cond.methodLink "java/util/TreeMap" (167 : Nat) ({ cls := "java/util/TreeMap$Entry", name := "<init>", desc := "(Ljava/lang/Object;Ljava/lang/Object;Ljava/util/TreeMap$Entry;)V" } : Jvm.MethodName)) ∈ lw_all := lw_g (lw_at lw_m3 94 rfl) rfl
theorem q616 : (Jvm.Cond.fieldLink "java/util/TreeMap" (105 : Nat) "java/util/TreeMap$Entry" "key" "Ljava/lang/Object;") ∈ lw_all := lw_g (lw_at lw_m3 101 rfl) rfl
theorem q619 : (Jvm.Cond.fieldLink "java/util/TreeMap" (58 : Nat) "java/util/TreeMap$Entry" "value" "Ljava/lang/Object;") ∈ lw_all := lw_g (lw_at lw_m3 104 rfl) rfl
theorem q620 : (Jvm.Cond.fieldLink "java/util/TreeMap" (111 : Nat) "java/util/TreeMap$Entry" "left" "Ljava/util/TreeMap$Entry;") ∈ lw_all := lw_g (lw_at lw_m3 105 rfl) rfl
theorem q621 : (Jvm.Cond.fieldLink "java/util/TreeMap" (114 : Nat) "java/util/TreeMap$Entry" "right" "Ljava/util/TreeMap$Entry;") ∈ lw_all := lw_g (lw_at lw_m3 106 rfl) rfl
theorem q623 : (Jvm.Cond.fieldLink "java/util/TreeMap" (124 : Nat) "java/util/TreeMap$Entry" "parent" "Ljava/util/TreeMap$Entry;") ∈ lw_all := lw_g (lw_at lw_m3 108 rfl) rfl
theorem q625 : (Jvm.Cond.fieldLink "java/util/TreeMap" (290 : Nat) "java/util/TreeMap$Entry" "color" "Z") ∈ lw_all := lw_g (lw_at lw_m3 110 rfl) rfl
theorem q639 : (Jvm.Cond.methodLink "java/util/TreeMap" (95 : Nat) ({ cls := "java/util/Objects", name := "requireNonNull", desc := "(Ljava/lang/Object;)Ljava/lang/Object;" } : Jvm.MethodName)) ∈ lw_all := lw_g (lw_at lw_m3 124 rfl) rfl
theorem q642 : (Jvm.Cond.methodLink "java/util/TreeMap" (139 : Nat) ({ cls := "java/util/TreeMap", name := "addEntry", desc := "(Ljava/lang/Object;Ljava/lang/Object;Ljava/util/TreeMap$Entry;Z)V" } : Jvm.MethodName)) ∈ lw_all := lw_g (lw_at lw_m3 127 rfl) rfl
theorem q643 : (Jvm.Cond.privateMethod ({ cls := "java/util/TreeMap", name := "addEntry", desc := "(Ljava/lang/Object;Ljava/lang/Object;Ljava/util/TreeMap$Entry;Z)V" } : Jvm.MethodName)) ∈ lw_tbl := lw_at lw_m3 128 rfl
theorem q644 : (Jvm.Cond.instanceMethod ({ cls := "java/util/TreeMap", name := "addEntry", desc := "(Ljava/lang/Object;Ljava/lang/Object;Ljava/util/TreeMap$Entry;Z)V" } : Jvm.MethodName)) ∈ lw_all := lw_g (lw_at lw_m3 129 rfl) rfl
theorem q645 : (Jvm.Cond.code ({ cls := "java/util/TreeMap", name := "addEntry", desc := "(Ljava/lang/Object;Ljava/lang/Object;Ljava/util/TreeMap$Entry;Z)V" } : Jvm.MethodName) prog_51_method_29_code (6 : Nat) (Option.none : Option Jvm.ClassFile.FieldType)) ∈ lw_all := lw_g (lw_at lw_m3 130 rfl) rfl
theorem q646 : (Jvm.Cond.methodLink "java/util/TreeMap" (170 : Nat) ({ cls := "java/util/TreeMap", name := "fixAfterInsertion", desc := "(Ljava/util/TreeMap$Entry;)V" } : Jvm.MethodName)) ∈ lw_all := lw_g (lw_at lw_m3 131 rfl) rfl
theorem q647 : (Jvm.Cond.privateMethod ({ cls := "java/util/TreeMap", name := "fixAfterInsertion", desc := "(Ljava/util/TreeMap$Entry;)V" } : Jvm.MethodName)) ∈ lw_tbl := lw_at lw_m3 132 rfl
theorem q648 : (Jvm.Cond.instanceMethod ({ cls := "java/util/TreeMap", name := "fixAfterInsertion", desc := "(Ljava/util/TreeMap$Entry;)V" } : Jvm.MethodName)) ∈ lw_all := lw_g (lw_at lw_m3 133 rfl) rfl
theorem q649 : (Jvm.Cond.code ({ cls := "java/util/TreeMap", name := "fixAfterInsertion", desc := "(Ljava/util/TreeMap$Entry;)V" } : Jvm.MethodName) prog_51_method_83_code (3 : Nat) (Option.none : Option Jvm.ClassFile.FieldType)) ∈ lw_all := lw_g (lw_at lw_m3 134 rfl) rfl
theorem q650 : (Jvm.Cond.methodLink "java/util/TreeMap" (294 : Nat) ({ cls := "java/util/TreeMap", name := "parentOf", desc := "(Ljava/util/TreeMap$Entry;)Ljava/util/TreeMap$Entry;" } : Jvm.MethodName)) ∈ lw_all := lw_g (lw_at lw_m3 135 rfl) rfl
theorem q651 : (Jvm.Cond.static ({ cls := "java/util/TreeMap", name := "parentOf", desc := "(Ljava/util/TreeMap$Entry;)Ljava/util/TreeMap$Entry;" } : Jvm.MethodName)) ∈ lw_all := lw_g (lw_at lw_m3 136 rfl) rfl
theorem q652 : (Jvm.Cond.code ({ cls := "java/util/TreeMap", name := "parentOf", desc := "(Ljava/util/TreeMap$Entry;)Ljava/util/TreeMap$Entry;" } : Jvm.MethodName) prog_51_method_77_code (1 : Nat) (Option.some (Jvm.ClassFile.FieldType.object "java/util/TreeMap$Entry"))) ∈ lw_all := lw_g (lw_at lw_m3 137 rfl) rfl
theorem q653 : (Jvm.Cond.methodLink "java/util/TreeMap" (297 : Nat) ({ cls := "java/util/TreeMap", name := "leftOf", desc := "(Ljava/util/TreeMap$Entry;)Ljava/util/TreeMap$Entry;" } : Jvm.MethodName)) ∈ lw_all := lw_g (lw_at lw_m3 138 rfl) rfl
theorem q654 : (Jvm.Cond.static ({ cls := "java/util/TreeMap", name := "leftOf", desc := "(Ljava/util/TreeMap$Entry;)Ljava/util/TreeMap$Entry;" } : Jvm.MethodName)) ∈ lw_all := lw_g (lw_at lw_m3 139 rfl) rfl
theorem q655 : (Jvm.Cond.code ({ cls := "java/util/TreeMap", name := "leftOf", desc := "(Ljava/util/TreeMap$Entry;)Ljava/util/TreeMap$Entry;" } : Jvm.MethodName) prog_51_method_79_code (1 : Nat) (Option.some (Jvm.ClassFile.FieldType.object "java/util/TreeMap$Entry"))) ∈ lw_all := lw_g (lw_at lw_m3 140 rfl) rfl
theorem q656 : (Jvm.Cond.methodLink "java/util/TreeMap" (300 : Nat) ({ cls := "java/util/TreeMap", name := "rightOf", desc := "(Ljava/util/TreeMap$Entry;)Ljava/util/TreeMap$Entry;" } : Jvm.MethodName)) ∈ lw_all := lw_g (lw_at lw_m3 141 rfl) rfl
theorem q657 : (Jvm.Cond.static ({ cls := "java/util/TreeMap", name := "rightOf", desc := "(Ljava/util/TreeMap$Entry;)Ljava/util/TreeMap$Entry;" } : Jvm.MethodName)) ∈ lw_all := lw_g (lw_at lw_m3 142 rfl) rfl
theorem q658 : (Jvm.Cond.code ({ cls := "java/util/TreeMap", name := "rightOf", desc := "(Ljava/util/TreeMap$Entry;)Ljava/util/TreeMap$Entry;" } : Jvm.MethodName) prog_51_method_80_code (1 : Nat) (Option.some (Jvm.ClassFile.FieldType.object "java/util/TreeMap$Entry"))) ∈ lw_all := lw_g (lw_at lw_m3 143 rfl) rfl
theorem q659 : (Jvm.Cond.methodLink "java/util/TreeMap" (303 : Nat) ({ cls := "java/util/TreeMap", name := "colorOf", desc := "(Ljava/util/TreeMap$Entry;)Z" } : Jvm.MethodName)) ∈ lw_all := lw_g (lw_at lw_m3 144 rfl) rfl
theorem q660 : (Jvm.Cond.static ({ cls := "java/util/TreeMap", name := "colorOf", desc := "(Ljava/util/TreeMap$Entry;)Z" } : Jvm.MethodName)) ∈ lw_all := lw_g (lw_at lw_m3 145 rfl) rfl
theorem q661 : (Jvm.Cond.code ({ cls := "java/util/TreeMap", name := "colorOf", desc := "(Ljava/util/TreeMap$Entry;)Z" } : Jvm.MethodName) prog_51_method_76_code (1 : Nat) (Option.some Jvm.ClassFile.FieldType.boolean)) ∈ lw_all := lw_g (lw_at lw_m3 146 rfl) rfl
theorem q662 : (Jvm.Cond.methodLink "java/util/TreeMap" (307 : Nat) ({ cls := "java/util/TreeMap", name := "setColor", desc := "(Ljava/util/TreeMap$Entry;Z)V" } : Jvm.MethodName)) ∈ lw_all := lw_g (lw_at lw_m3 147 rfl) rfl
theorem q663 : (Jvm.Cond.static ({ cls := "java/util/TreeMap", name := "setColor", desc := "(Ljava/util/TreeMap$Entry;Z)V" } : Jvm.MethodName)) ∈ lw_all := lw_g (lw_at lw_m3 148 rfl) rfl
theorem q664 : (Jvm.Cond.code ({ cls := "java/util/TreeMap", name := "setColor", desc := "(Ljava/util/TreeMap$Entry;Z)V" } : Jvm.MethodName) prog_51_method_78_code (2 : Nat) (Option.none : Option Jvm.ClassFile.FieldType)) ∈ lw_all := lw_g (lw_at lw_m3 149 rfl) rfl
theorem q665 : (Jvm.Cond.methodLink "java/util/TreeMap" (311 : Nat) ({ cls := "java/util/TreeMap", name := "rotateLeft", desc := "(Ljava/util/TreeMap$Entry;)V" } : Jvm.MethodName)) ∈ lw_all := lw_g (lw_at lw_m3 150 rfl) rfl
theorem q666 : (Jvm.Cond.privateMethod ({ cls := "java/util/TreeMap", name := "rotateLeft", desc := "(Ljava/util/TreeMap$Entry;)V" } : Jvm.MethodName)) ∈ lw_tbl := lw_at lw_m3 151 rfl
theorem q667 : (Jvm.Cond.instanceMethod ({ cls := "java/util/TreeMap", name := "rotateLeft", desc := "(Ljava/util/TreeMap$Entry;)V" } : Jvm.MethodName)) ∈ lw_all := lw_g (lw_at lw_m3 152 rfl) rfl
theorem q668 : (Jvm.Cond.code ({ cls := "java/util/TreeMap", name := "rotateLeft", desc := "(Ljava/util/TreeMap$Entry;)V" } : Jvm.MethodName) prog_51_method_81_code (3 : Nat) (Option.none : Option Jvm.ClassFile.FieldType)) ∈ lw_all := lw_g (lw_at lw_m3 153 rfl) rfl
theorem q669 : (Jvm.Cond.methodLink "java/util/TreeMap" (314 : Nat) ({ cls := "java/util/TreeMap", name := "rotateRight", desc := "(Ljava/util/TreeMap$Entry;)V" } : Jvm.MethodName)) ∈ lw_all := lw_g (lw_at lw_m3 154 rfl) rfl
theorem q670 : (Jvm.Cond.privateMethod ({ cls := "java/util/TreeMap", name := "rotateRight", desc := "(Ljava/util/TreeMap$Entry;)V" } : Jvm.MethodName)) ∈ lw_tbl := lw_at lw_m3 155 rfl
theorem q671 : (Jvm.Cond.instanceMethod ({ cls := "java/util/TreeMap", name := "rotateRight", desc := "(Ljava/util/TreeMap$Entry;)V" } : Jvm.MethodName)) ∈ lw_all := lw_g (lw_at lw_m3 156 rfl) rfl
theorem q672 : (Jvm.Cond.code ({ cls := "java/util/TreeMap", name := "rotateRight", desc := "(Ljava/util/TreeMap$Entry;)V" } : Jvm.MethodName) prog_51_method_82_code (3 : Nat) (Option.none : Option Jvm.ClassFile.FieldType)) ∈ lw_all := lw_g (lw_at lw_m3 157 rfl) rfl
theorem q756 : (Jvm.Cond.instanceMethod ({ cls := "java/util/TreeMap", name := "headMap", desc := "(Ljava/lang/Object;)Ljava/util/SortedMap;" } : Jvm.MethodName)) ∈ lw_all := lw_g (lw_at lw_m4 1 rfl) rfl
theorem q757 : (Jvm.Cond.selects "java/util/TreeMap" ({ cls := "java/util/TreeMap", name := "headMap", desc := "(Ljava/lang/Object;)Ljava/util/SortedMap;" } : Jvm.MethodName) ({ cls := "java/util/TreeMap", name := "headMap", desc := "(Ljava/lang/Object;)Ljava/util/SortedMap;" } : Jvm.MethodName)) ∈ lw_all := lw_g (lw_at lw_m4 2 rfl) rfl
theorem q758 : (Jvm.Cond.code ({ cls := "java/util/TreeMap", name := "headMap", desc := "(Ljava/lang/Object;)Ljava/util/SortedMap;" } : Jvm.MethodName) prog_51_method_59_code (2 : Nat) (Option.some (Jvm.ClassFile.FieldType.object "java/util/SortedMap"))) ∈ lw_all := lw_g (lw_at lw_m4 3 rfl) rfl
theorem q759 : (Jvm.Cond.methodLink "java/util/TreeMap" (257 : Nat) ({ cls := "java/util/TreeMap", name := "headMap", desc := "(Ljava/lang/Object;Z)Ljava/util/NavigableMap;" } : Jvm.MethodName)) ∈ lw_all := lw_g (lw_at lw_m4 4 rfl) rfl
theorem q760 : (Jvm.Cond.instanceMethod ({ cls := "java/util/TreeMap", name := "headMap", desc := "(Ljava/lang/Object;Z)Ljava/util/NavigableMap;" } : Jvm.MethodName)) ∈ lw_all := lw_g (lw_at lw_m4 5 rfl) rfl
theorem q761 : (Jvm.Cond.selects "java/util/TreeMap" ({ cls := "java/util/TreeMap", name := "headMap", desc := "(Ljava/lang/Object;Z)Ljava/util/NavigableMap;" } : Jvm.MethodName) ({ cls := "java/util/TreeMap", name := "headMap", desc := "(Ljava/lang/Object;Z)Ljava/util/NavigableMap;" } : Jvm.MethodName)) ∈ lw_all := lw_g (lw_at lw_m4 6 rfl) rfl
theorem q762 : (Jvm.Cond.code ({ cls := "java/util/TreeMap", name := "headMap", desc := "(Ljava/lang/Object;Z)Ljava/util/NavigableMap;" } : Jvm.MethodName) prog_51_method_56_code (3 : Nat) (Option.some (Jvm.ClassFile.FieldType.object "java/util/NavigableMap"))) ∈ lw_all := lw_g (lw_at lw_m4 7 rfl) rfl
theorem q763 : (Jvm.Cond.classLink "java/util/TreeMap" (250 : Nat) "java/util/TreeMap$AscendingSubMap") ∈ lw_all := lw_g (lw_at lw_m4 8 rfl) rfl
theorem q765 : (Jvm.Cond.methodLink "java/util/TreeMap" (252 : Nat) ({ cls := "java/util/TreeMap$AscendingSubMap", name := "<init>", desc := "(Ljava/util/TreeMap;ZLjava/lang/Object;ZZLjava/lang/Object;Z)V" } : Jvm.MethodName)) ∈ lw_all := lw_g (lw_at lw_m4 10 rfl) rfl
theorem q816 : (Jvm.Cond.castable "java/util/TreeMap" "java/util/SortedMap") ∈ lw_tbl := lw_at lw_m4 61 rfl
theorem q817 : (Jvm.Cond.selects "java/util/TreeMap" ({ cls := "java/util/SortedMap", name := "values", desc := "()Ljava/util/Collection;" } : Jvm.MethodName) ({ cls := "java/util/TreeMap", name := "values", desc := "()Ljava/util/Collection;" } : Jvm.MethodName)) ∈ lw_all := lw_g (lw_at lw_m4 62 rfl) rfl
theorem q818 : (Jvm.Cond.unhidden "java/util/TreeMap" "values" "()Ljava/util/Collection;") ∈ lw_tbl := lw_at lw_m4 63 rfl
theorem q819 : (Jvm.Cond.instanceMethod ({ cls := "java/util/TreeMap", name := "values", desc := "()Ljava/util/Collection;" } : Jvm.MethodName)) ∈ lw_all := lw_g (lw_at lw_m4 64 rfl) rfl
theorem q820 : (Jvm.Cond.publicMethod ({ cls := "java/util/TreeMap", name := "values", desc := "()Ljava/util/Collection;" } : Jvm.MethodName)) ∈ lw_tbl := lw_at lw_m4 65 rfl
theorem q821 : (Jvm.Cond.code ({ cls := "java/util/TreeMap", name := "values", desc := "()Ljava/util/Collection;" } : Jvm.MethodName) prog_51_method_52_code (2 : Nat) (Option.some (Jvm.ClassFile.FieldType.object "java/util/Collection"))) ∈ lw_all := lw_g (lw_at lw_m4 66 rfl) rfl
theorem q822 : (Jvm.Cond.classLink "java/util/TreeMap" (237 : Nat) "java/util/TreeMap$Values") ∈ lw_all := lw_g (lw_at lw_m4 67 rfl) rfl
theorem q824 : (Jvm.Cond.methodLink "java/util/TreeMap" (239 : Nat) ({ cls := "java/util/TreeMap$Values", name := "<init>", desc := "(Ljava/util/TreeMap;)V" } : Jvm.MethodName)) ∈ lw_all := lw_g (lw_at lw_m4 69 rfl) rfl
theorem q868 : (Jvm.Cond.selects "java/util/TreeMap" ({ cls := "java/util/AbstractMap", name := "entrySet", desc := "()Ljava/util/Set;" } : Jvm.MethodName) ({ cls := "java/util/TreeMap", name := "entrySet", desc := "()Ljava/util/Set;" } : Jvm.MethodName)) ∈ lw_all := lw_g (lw_at lw_m4 113 rfl) rfl
theorem q869 : (Jvm.Cond.instanceMethod ({ cls := "java/util/TreeMap", name := "entrySet", desc := "()Ljava/util/Set;" } : Jvm.MethodName)) ∈ lw_all := lw_g (lw_at lw_m4 114 rfl) rfl
theorem q870 : (Jvm.Cond.code ({ cls := "java/util/TreeMap", name := "entrySet", desc := "()Ljava/util/Set;" } : Jvm.MethodName) prog_51_method_53_code (2 : Nat) (Option.some (Jvm.ClassFile.FieldType.object "java/util/Set"))) ∈ lw_all := lw_g (lw_at lw_m4 115 rfl) rfl
theorem q871 : (Jvm.Cond.classLink "java/util/TreeMap" (242 : Nat) "java/util/TreeMap$EntrySet") ∈ lw_all := lw_g (lw_at lw_m4 116 rfl) rfl
theorem q873 : (Jvm.Cond.methodLink "java/util/TreeMap" (244 : Nat) ({ cls := "java/util/TreeMap$EntrySet", name := "<init>", desc := "(Ljava/util/TreeMap;)V" } : Jvm.MethodName)) ∈ lw_all := lw_g (lw_at lw_m4 118 rfl) rfl
theorem q927 : (Jvm.Cond.instanceMethod ({ cls := "java/util/TreeMap", name := "getFirstEntry", desc := "()Ljava/util/TreeMap$Entry;" } : Jvm.MethodName)) ∈ lw_all := lw_g (lw_at lw_m4 172 rfl) rfl
theorem q928 : (Jvm.Cond.selects "java/util/TreeMap" ({ cls := "java/util/TreeMap", name := "getFirstEntry", desc := "()Ljava/util/TreeMap$Entry;" } : Jvm.MethodName) ({ cls := "java/util/TreeMap", name := "getFirstEntry", desc := "()Ljava/util/TreeMap$Entry;" } : Jvm.MethodName)) ∈ lw_all := lw_g (lw_at lw_m4 173 rfl) rfl
theorem q929 : (Jvm.Cond.code ({ cls := "java/util/TreeMap", name := "getFirstEntry", desc := "()Ljava/util/TreeMap$Entry;" } : Jvm.MethodName) prog_51_method_72_code (2 : Nat) (Option.some (Jvm.ClassFile.FieldType.object "java/util/TreeMap$Entry"))) ∈ lw_all := lw_g (lw_at lw_m4 174 rfl) rfl
theorem q931 : (Jvm.Cond.instanceMethod ({ cls := "java/util/TreeMap", name := "getCeilingEntry", desc := "(Ljava/lang/Object;)Ljava/util/TreeMap$Entry;" } : Jvm.MethodName)) ∈ lw_all := lw_g (lw_at lw_m4 176 rfl) rfl
theorem q932 : (Jvm.Cond.selects "java/util/TreeMap" ({ cls := "java/util/TreeMap", name := "getCeilingEntry", desc := "(Ljava/lang/Object;)Ljava/util/TreeMap$Entry;" } : Jvm.MethodName) ({ cls := "java/util/TreeMap", name := "getCeilingEntry", desc := "(Ljava/lang/Object;)Ljava/util/TreeMap$Entry;" } : Jvm.MethodName)) ∈ lw_all := lw_g (lw_at lw_m4 177 rfl) rfl
theorem q933 : (Jvm.Cond.code ({ cls := "java/util/TreeMap", name := "getCeilingEntry", desc := "(Ljava/lang/Object;)Ljava/util/TreeMap$Entry;" } : Jvm.MethodName) prog_51_method_17_code (6 : Nat) (Option.some (Jvm.ClassFile.FieldType.object "java/util/TreeMap$Entry"))) ∈ lw_all := lw_g (lw_at lw_m4 178 rfl) rfl
theorem q935 : (Jvm.Cond.instanceMethod ({ cls := "java/util/TreeMap", name := "getHigherEntry", desc := "(Ljava/lang/Object;)Ljava/util/TreeMap$Entry;" } : Jvm.MethodName)) ∈ lw_all := lw_g (lw_at lw_m4 180 rfl) rfl
theorem q936 : (Jvm.Cond.selects "java/util/TreeMap" ({ cls := "java/util/TreeMap", name := "getHigherEntry", desc := "(Ljava/lang/Object;)Ljava/util/TreeMap$Entry;" } : Jvm.MethodName) ({ cls := "java/util/TreeMap", name := "getHigherEntry", desc := "(Ljava/lang/Object;)Ljava/util/TreeMap$Entry;" } : Jvm.MethodName)) ∈ lw_all := lw_g (lw_at lw_m4 181 rfl) rfl
theorem q937 : (Jvm.Cond.code ({ cls := "java/util/TreeMap", name := "getHigherEntry", desc := "(Ljava/lang/Object;)Ljava/util/TreeMap$Entry;" } : Jvm.MethodName) prog_51_method_19_code (6 : Nat) (Option.some (Jvm.ClassFile.FieldType.object "java/util/TreeMap$Entry"))) ∈ lw_all := lw_g (lw_at lw_m4 182 rfl) rfl
theorem q957 : (Jvm.Cond.laysStatic "java/util/TreeMap" "UNBOUNDED" "Ljava/lang/Object;") ∈ lw_tbl := lw_at lw_m4 202 rfl
theorem q1126 : (Jvm.Cond.static ({ cls := "java/util/TreeMap", name := "successor", desc := "(Ljava/util/TreeMap$Entry;)Ljava/util/TreeMap$Entry;" } : Jvm.MethodName)) ∈ lw_all := lw_g (lw_at lw_m5 131 rfl) rfl
theorem q1127 : (Jvm.Cond.code ({ cls := "java/util/TreeMap", name := "successor", desc := "(Ljava/util/TreeMap$Entry;)Ljava/util/TreeMap$Entry;" } : Jvm.MethodName) prog_51_method_74_code (3 : Nat) (Option.some (Jvm.ClassFile.FieldType.object "java/util/TreeMap$Entry"))) ∈ lw_all := lw_g (lw_at lw_m5 132 rfl) rfl
theorem q1506 : (Jvm.Cond.selects "java/util/TreeMap" ({ cls := "java/util/TreeMap", name := "values", desc := "()Ljava/util/Collection;" } : Jvm.MethodName) ({ cls := "java/util/TreeMap", name := "values", desc := "()Ljava/util/Collection;" } : Jvm.MethodName)) ∈ lw_all := lw_g (lw_at lw_m7 31 rfl) rfl
theorem q1515 : (Jvm.Cond.castable "java/util/TreeMap" "java/lang/Object") ∈ lw_tbl := lw_at lw_m7 40 rfl
theorem in_J9 : ∀ w ∈ wsJ90, w ∈ lw_all := lw_in wsJ90 [287, 289, 273, 275, 277, 279, 281, 283, 285] (by decide +kernel) (by decide +kernel)

/-! AllotmentLedger -/
set_option maxRecDepth 100000
def RX1 : String := "AllotmentLedger"
def TX1 : u_T := fun k => match k with
  | 0 => ("AllotmentLedger", "buffer", "Ljava/lang/StringBuilder;", true)
  | 1 => ("AllotmentLedger", "users", "[LAllotmentLedger$Account;", true)
  | 2 => ("AllotmentLedger", "groups", "[LAllotmentLedger$Account;", true)
  | 3 => ("AllotmentLedger", "tree", "Ljava/util/ArrayList;", true)
  | 4 => ("AllotmentLedger", "entries", "Ljava/util/ArrayList;", true)
  | 5 => ("AllotmentLedger", "reservations", "Ljava/util/ArrayList;", true)
  | 6 => ("AllotmentLedger", "now", "I", false)
  | _ => ("AllotmentLedger", "recounted", "I", false)
def tyX1 : Nat → FieldType := fun k => match k with
  | 0 => .object "java/lang/StringBuilder"
  | 1 => .array (.object "AllotmentLedger$Account")
  | 2 => .array (.object "AllotmentLedger$Account")
  | 3 => .object "java/util/ArrayList"
  | 4 => .object "java/util/ArrayList"
  | 5 => .object "java/util/ArrayList"
  | 6 => .int
  | _ => .int
abbrev wsX10 : List Cond := u_ws RX1 TX1 8
theorem nmX1 : ∀ a, a < 8 → ∀ b, b < 8 → a ≠ b → (TX1 a).2.1 ≠ (TX1 b).2.1 := by decide +kernel
theorem tyX1_ok : ∀ k, k < 8 → parseFieldDescriptor (TX1 k).2.2.1 = some (tyX1 k) := by decide +kernel
abbrev cX1_init : ByteArray := prog_1_method_5_code
def yX1_init : MethodName := ⟨RX1, "<init>", "()V"⟩
def dkwX1_init_6 : List UInt8 := [177]
abbrev dktX1_init_6 : List UInt8 := dkwX1_init_6 ++ []
def dkwX1_init_5 : List UInt8 := [132, 1, 1, 167, 255, 235, 42, 180, 0, 37, 187, 0, 52, 89, 3, 18, 54, 183, 0, 56, 182, 0, 59, 87]
abbrev dktX1_init_5 : List UInt8 := dkwX1_init_5 ++ dktX1_init_6
def dkwX1_init_4 : List UInt8 := [167, 255, 234, 3, 60, 27, 6, 162, 0, 22, 42, 180, 0, 31, 27, 187, 0, 25, 89, 183, 0, 51, 83]
abbrev dktX1_init_4 : List UInt8 := dkwX1_init_4 ++ dktX1_init_5
def dkwX1_init_3 : List UInt8 := [27, 16, 6, 162, 0, 22, 42, 180, 0, 27, 27, 187, 0, 25, 89, 183, 0, 51, 83, 132, 1, 1]
abbrev dktX1_init_3 : List UInt8 := dkwX1_init_3 ++ dktX1_init_4
def dkwX1_init_2 : List UInt8 := [183, 0, 36, 181, 0, 41, 42, 187, 0, 34, 89, 183, 0, 36, 181, 0, 44, 42, 2, 181, 0, 47, 3, 60]
abbrev dktX1_init_2 : List UInt8 := dkwX1_init_2 ++ dktX1_init_3
def dkwX1_init_1 : List UInt8 := [42, 6, 189, 0, 25, 181, 0, 31, 42, 187, 0, 34, 89, 183, 0, 36, 181, 0, 37, 42, 187, 0, 34, 89]
abbrev dktX1_init_1 : List UInt8 := dkwX1_init_1 ++ dktX1_init_2
def dkwX1_init_0 : List UInt8 := [42, 183, 0, 13, 42, 187, 0, 16, 89, 183, 0, 18, 181, 0, 19, 42, 16, 6, 189, 0, 25, 181, 0, 27]
abbrev dktX1_init_0 : List UInt8 := dkwX1_init_0 ++ dktX1_init_1
theorem dksX1_init_0 : cX1_init.data.toList.drop 0 = dktX1_init_0 := by decide +kernel
theorem dksX1_init_1 : cX1_init.data.toList.drop 24 = dktX1_init_1 := dk_seg dksX1_init_0 24 rfl rfl
theorem dksX1_init_2 : cX1_init.data.toList.drop 48 = dktX1_init_2 := dk_seg dksX1_init_1 24 rfl rfl
theorem dksX1_init_3 : cX1_init.data.toList.drop 72 = dktX1_init_3 := dk_seg dksX1_init_2 24 rfl rfl
theorem dksX1_init_4 : cX1_init.data.toList.drop 94 = dktX1_init_4 := dk_seg dksX1_init_3 22 rfl rfl
theorem dksX1_init_5 : cX1_init.data.toList.drop 117 = dktX1_init_5 := dk_seg dksX1_init_4 23 rfl rfl
theorem dksX1_init_6 : cX1_init.data.toList.drop 141 = dktX1_init_6 := dk_seg dksX1_init_5 24 rfl rfl
theorem dX1_init_0 : decode cX1_init 0 = .ok (.aload_n 0, 1) := dk_42 (dk_at dksX1_init_0 0 rfl rfl)
theorem dX1_init_1 : decode cX1_init 1 = .ok (.invokespecial 13, 3) := dk_183 0 13 (dk_at dksX1_init_0 1 rfl rfl)
theorem dX1_init_4 : decode cX1_init 4 = .ok (.aload_n 0, 1) := dk_42 (dk_at dksX1_init_0 4 rfl rfl)
theorem dX1_init_5 : decode cX1_init 5 = .ok (.new 16, 3) := dk_187 0 16 (dk_at dksX1_init_0 5 rfl rfl)
theorem dX1_init_8 : decode cX1_init 8 = .ok (.dup, 1) := dk_89 (dk_at dksX1_init_0 8 rfl rfl)
theorem dX1_init_9 : decode cX1_init 9 = .ok (.invokespecial 18, 3) := dk_183 0 18 (dk_at dksX1_init_0 9 rfl rfl)
theorem dX1_init_12 : decode cX1_init 12 = .ok (.putfield 19, 3) := dk_181 0 19 (dk_at dksX1_init_0 12 rfl rfl)
theorem dX1_init_15 : decode cX1_init 15 = .ok (.aload_n 0, 1) := dk_42 (dk_at dksX1_init_0 15 rfl rfl)
theorem dX1_init_16 : decode cX1_init 16 = .ok (.bipush 6, 2) := dk_16 6 (dk_at dksX1_init_0 16 rfl rfl)
theorem dX1_init_18 : decode cX1_init 18 = .ok (.anewarray 25, 3) := dk_189 0 25 (dk_at dksX1_init_0 18 rfl rfl)
theorem dX1_init_21 : decode cX1_init 21 = .ok (.putfield 27, 3) := dk_181 0 27 (dk_at dksX1_init_0 21 rfl rfl)
theorem dX1_init_24 : decode cX1_init 24 = .ok (.aload_n 0, 1) := dk_42 (dk_at dksX1_init_1 0 rfl rfl)
theorem dX1_init_25 : decode cX1_init 25 = .ok (.iconst 3, 1) := dk_6 (dk_at dksX1_init_1 1 rfl rfl)
theorem dX1_init_26 : decode cX1_init 26 = .ok (.anewarray 25, 3) := dk_189 0 25 (dk_at dksX1_init_1 2 rfl rfl)
theorem dX1_init_29 : decode cX1_init 29 = .ok (.putfield 31, 3) := dk_181 0 31 (dk_at dksX1_init_1 5 rfl rfl)
theorem dX1_init_32 : decode cX1_init 32 = .ok (.aload_n 0, 1) := dk_42 (dk_at dksX1_init_1 8 rfl rfl)
theorem dX1_init_33 : decode cX1_init 33 = .ok (.new 34, 3) := dk_187 0 34 (dk_at dksX1_init_1 9 rfl rfl)
theorem dX1_init_36 : decode cX1_init 36 = .ok (.dup, 1) := dk_89 (dk_at dksX1_init_1 12 rfl rfl)
theorem dX1_init_37 : decode cX1_init 37 = .ok (.invokespecial 36, 3) := dk_183 0 36 (dk_at dksX1_init_1 13 rfl rfl)
theorem dX1_init_40 : decode cX1_init 40 = .ok (.putfield 37, 3) := dk_181 0 37 (dk_at dksX1_init_1 16 rfl rfl)
theorem dX1_init_43 : decode cX1_init 43 = .ok (.aload_n 0, 1) := dk_42 (dk_at dksX1_init_1 19 rfl rfl)
theorem dX1_init_44 : decode cX1_init 44 = .ok (.new 34, 3) := dk_187 0 34 (dk_at dksX1_init_1 20 rfl rfl)
theorem dX1_init_47 : decode cX1_init 47 = .ok (.dup, 1) := dk_89 (dk_at dksX1_init_1 23 rfl rfl)
theorem dX1_init_48 : decode cX1_init 48 = .ok (.invokespecial 36, 3) := dk_183 0 36 (dk_at dksX1_init_2 0 rfl rfl)
theorem dX1_init_51 : decode cX1_init 51 = .ok (.putfield 41, 3) := dk_181 0 41 (dk_at dksX1_init_2 3 rfl rfl)
theorem dX1_init_54 : decode cX1_init 54 = .ok (.aload_n 0, 1) := dk_42 (dk_at dksX1_init_2 6 rfl rfl)
theorem dX1_init_55 : decode cX1_init 55 = .ok (.new 34, 3) := dk_187 0 34 (dk_at dksX1_init_2 7 rfl rfl)
theorem dX1_init_58 : decode cX1_init 58 = .ok (.dup, 1) := dk_89 (dk_at dksX1_init_2 10 rfl rfl)
theorem dX1_init_59 : decode cX1_init 59 = .ok (.invokespecial 36, 3) := dk_183 0 36 (dk_at dksX1_init_2 11 rfl rfl)
theorem dX1_init_62 : decode cX1_init 62 = .ok (.putfield 44, 3) := dk_181 0 44 (dk_at dksX1_init_2 14 rfl rfl)
theorem dX1_init_65 : decode cX1_init 65 = .ok (.aload_n 0, 1) := dk_42 (dk_at dksX1_init_2 17 rfl rfl)
theorem dX1_init_66 : decode cX1_init 66 = .ok (.iconst (-1), 1) := dk_2 (dk_at dksX1_init_2 18 rfl rfl)
theorem dX1_init_67 : decode cX1_init 67 = .ok (.putfield 47, 3) := dk_181 0 47 (dk_at dksX1_init_2 19 rfl rfl)
theorem dX1_init_70 : decode cX1_init 70 = .ok (.iconst 0, 1) := dk_3 (dk_at dksX1_init_2 22 rfl rfl)
theorem dX1_init_71 : decode cX1_init 71 = .ok (.istore_n 1, 1) := dk_60 (dk_at dksX1_init_2 23 rfl rfl)
theorem dX1_init_72 : decode cX1_init 72 = .ok (.iload_n 1, 1) := dk_27 (dk_at dksX1_init_3 0 rfl rfl)
theorem dX1_init_73 : decode cX1_init 73 = .ok (.bipush 6, 2) := dk_16 6 (dk_at dksX1_init_3 1 rfl rfl)
theorem dX1_init_75 : decode cX1_init 75 = .ok (.if_icmp .ge 22, 3) := dk_162 0 22 (dk_at dksX1_init_3 3 rfl rfl)
theorem dX1_init_78 : decode cX1_init 78 = .ok (.aload_n 0, 1) := dk_42 (dk_at dksX1_init_3 6 rfl rfl)
theorem dX1_init_79 : decode cX1_init 79 = .ok (.getfield 27, 3) := dk_180 0 27 (dk_at dksX1_init_3 7 rfl rfl)
theorem dX1_init_82 : decode cX1_init 82 = .ok (.iload_n 1, 1) := dk_27 (dk_at dksX1_init_3 10 rfl rfl)
theorem dX1_init_83 : decode cX1_init 83 = .ok (.new 25, 3) := dk_187 0 25 (dk_at dksX1_init_3 11 rfl rfl)
theorem dX1_init_86 : decode cX1_init 86 = .ok (.dup, 1) := dk_89 (dk_at dksX1_init_3 14 rfl rfl)
theorem dX1_init_87 : decode cX1_init 87 = .ok (.invokespecial 51, 3) := dk_183 0 51 (dk_at dksX1_init_3 15 rfl rfl)
theorem dX1_init_90 : decode cX1_init 90 = .ok (.aastore, 1) := dk_83 (dk_at dksX1_init_3 18 rfl rfl)
theorem dX1_init_91 : decode cX1_init 91 = .ok (.iinc 1 1, 3) := dk_132 1 1 (dk_at dksX1_init_3 19 rfl rfl)
theorem dX1_init_94 : decode cX1_init 94 = .ok (.goto (-22), 3) := dk_167 255 234 (dk_at dksX1_init_4 0 rfl rfl)
theorem dX1_init_97 : decode cX1_init 97 = .ok (.iconst 0, 1) := dk_3 (dk_at dksX1_init_4 3 rfl rfl)
theorem dX1_init_98 : decode cX1_init 98 = .ok (.istore_n 1, 1) := dk_60 (dk_at dksX1_init_4 4 rfl rfl)
theorem dX1_init_99 : decode cX1_init 99 = .ok (.iload_n 1, 1) := dk_27 (dk_at dksX1_init_4 5 rfl rfl)
theorem dX1_init_100 : decode cX1_init 100 = .ok (.iconst 3, 1) := dk_6 (dk_at dksX1_init_4 6 rfl rfl)
theorem dX1_init_101 : decode cX1_init 101 = .ok (.if_icmp .ge 22, 3) := dk_162 0 22 (dk_at dksX1_init_4 7 rfl rfl)
theorem dX1_init_104 : decode cX1_init 104 = .ok (.aload_n 0, 1) := dk_42 (dk_at dksX1_init_4 10 rfl rfl)
theorem dX1_init_105 : decode cX1_init 105 = .ok (.getfield 31, 3) := dk_180 0 31 (dk_at dksX1_init_4 11 rfl rfl)
theorem dX1_init_108 : decode cX1_init 108 = .ok (.iload_n 1, 1) := dk_27 (dk_at dksX1_init_4 14 rfl rfl)
theorem dX1_init_109 : decode cX1_init 109 = .ok (.new 25, 3) := dk_187 0 25 (dk_at dksX1_init_4 15 rfl rfl)
theorem dX1_init_112 : decode cX1_init 112 = .ok (.dup, 1) := dk_89 (dk_at dksX1_init_4 18 rfl rfl)
theorem dX1_init_113 : decode cX1_init 113 = .ok (.invokespecial 51, 3) := dk_183 0 51 (dk_at dksX1_init_4 19 rfl rfl)
theorem dX1_init_116 : decode cX1_init 116 = .ok (.aastore, 1) := dk_83 (dk_at dksX1_init_4 22 rfl rfl)
theorem dX1_init_117 : decode cX1_init 117 = .ok (.iinc 1 1, 3) := dk_132 1 1 (dk_at dksX1_init_5 0 rfl rfl)
theorem dX1_init_120 : decode cX1_init 120 = .ok (.goto (-21), 3) := dk_167 255 235 (dk_at dksX1_init_5 3 rfl rfl)
theorem dX1_init_123 : decode cX1_init 123 = .ok (.aload_n 0, 1) := dk_42 (dk_at dksX1_init_5 6 rfl rfl)
theorem dX1_init_124 : decode cX1_init 124 = .ok (.getfield 37, 3) := dk_180 0 37 (dk_at dksX1_init_5 7 rfl rfl)
theorem dX1_init_127 : decode cX1_init 127 = .ok (.new 52, 3) := dk_187 0 52 (dk_at dksX1_init_5 10 rfl rfl)
theorem dX1_init_130 : decode cX1_init 130 = .ok (.dup, 1) := dk_89 (dk_at dksX1_init_5 13 rfl rfl)
theorem dX1_init_131 : decode cX1_init 131 = .ok (.iconst 0, 1) := dk_3 (dk_at dksX1_init_5 14 rfl rfl)
theorem dX1_init_132 : decode cX1_init 132 = .ok (.ldc 54, 2) := dk_18 54 (dk_at dksX1_init_5 15 rfl rfl)
theorem dX1_init_134 : decode cX1_init 134 = .ok (.invokespecial 56, 3) := dk_183 0 56 (dk_at dksX1_init_5 17 rfl rfl)
theorem dX1_init_137 : decode cX1_init 137 = .ok (.invokevirtual 59, 3) := dk_182 0 59 (dk_at dksX1_init_5 20 rfl rfl)
theorem dX1_init_140 : decode cX1_init 140 = .ok (.pop, 1) := dk_87 (dk_at dksX1_init_5 23 rfl rfl)
theorem dX1_init_141 : decode cX1_init 141 = .ok (.return_, 1) := dk_177 (dk_at dksX1_init_6 0 rfl rfl)
abbrev cX1_clearPath : ByteArray := prog_1_method_17_code
def yX1_clearPath : MethodName := ⟨RX1, "clearPath", "()I"⟩
def dkwX1_clearPath_0 : List UInt8 := [42, 180, 0, 19, 182, 0, 102, 60, 42, 180, 0, 19, 3, 182, 0, 168, 27, 172]
abbrev dktX1_clearPath_0 : List UInt8 := dkwX1_clearPath_0 ++ []
theorem dksX1_clearPath_0 : cX1_clearPath.data.toList.drop 0 = dktX1_clearPath_0 := by decide +kernel
theorem dX1_clearPath_0 : decode cX1_clearPath 0 = .ok (.aload_n 0, 1) := dk_42 (dk_at dksX1_clearPath_0 0 rfl rfl)
theorem dX1_clearPath_1 : decode cX1_clearPath 1 = .ok (.getfield 19, 3) := dk_180 0 19 (dk_at dksX1_clearPath_0 1 rfl rfl)
theorem dX1_clearPath_4 : decode cX1_clearPath 4 = .ok (.invokevirtual 102, 3) := dk_182 0 102 (dk_at dksX1_clearPath_0 4 rfl rfl)
theorem dX1_clearPath_7 : decode cX1_clearPath 7 = .ok (.istore_n 1, 1) := dk_60 (dk_at dksX1_clearPath_0 7 rfl rfl)
theorem dX1_clearPath_8 : decode cX1_clearPath 8 = .ok (.aload_n 0, 1) := dk_42 (dk_at dksX1_clearPath_0 8 rfl rfl)
theorem dX1_clearPath_9 : decode cX1_clearPath 9 = .ok (.getfield 19, 3) := dk_180 0 19 (dk_at dksX1_clearPath_0 9 rfl rfl)
theorem dX1_clearPath_12 : decode cX1_clearPath 12 = .ok (.iconst 0, 1) := dk_3 (dk_at dksX1_clearPath_0 12 rfl rfl)
theorem dX1_clearPath_13 : decode cX1_clearPath 13 = .ok (.invokevirtual 168, 3) := dk_182 0 168 (dk_at dksX1_clearPath_0 13 rfl rfl)
theorem dX1_clearPath_16 : decode cX1_clearPath 16 = .ok (.iload_n 1, 1) := dk_27 (dk_at dksX1_clearPath_0 16 rfl rfl)
theorem dX1_clearPath_17 : decode cX1_clearPath 17 = .ok (.ireturn, 1) := dk_172 (dk_at dksX1_clearPath_0 17 rfl rfl)
abbrev cX1_findProject : ByteArray := prog_1_method_19_code
def yX1_findProject : MethodName := ⟨RX1, "findProject", "()I"⟩
def dkwX1_findProject_0 : List UInt8 := [42, 42, 180, 0, 19, 182, 0, 98, 76, 43, 199, 0, 7, 2, 167, 0, 7, 43, 180, 0, 179, 172]
abbrev dktX1_findProject_0 : List UInt8 := dkwX1_findProject_0 ++ []
theorem dksX1_findProject_0 : cX1_findProject.data.toList.drop 0 = dktX1_findProject_0 := by decide +kernel
theorem dX1_findProject_0 : decode cX1_findProject 0 = .ok (.aload_n 0, 1) := dk_42 (dk_at dksX1_findProject_0 0 rfl rfl)
theorem dX1_findProject_1 : decode cX1_findProject 1 = .ok (.aload_n 0, 1) := dk_42 (dk_at dksX1_findProject_0 1 rfl rfl)
theorem dX1_findProject_2 : decode cX1_findProject 2 = .ok (.getfield 19, 3) := dk_180 0 19 (dk_at dksX1_findProject_0 2 rfl rfl)
theorem dX1_findProject_5 : decode cX1_findProject 5 = .ok (.invokevirtual 98, 3) := dk_182 0 98 (dk_at dksX1_findProject_0 5 rfl rfl)
theorem dX1_findProject_8 : decode cX1_findProject 8 = .ok (.astore_n 1, 1) := dk_76 (dk_at dksX1_findProject_0 8 rfl rfl)
theorem dX1_findProject_9 : decode cX1_findProject 9 = .ok (.aload_n 1, 1) := dk_43 (dk_at dksX1_findProject_0 9 rfl rfl)
theorem dX1_findProject_10 : decode cX1_findProject 10 = .ok (.ifnonnull 7, 3) := dk_199 0 7 (dk_at dksX1_findProject_0 10 rfl rfl)
theorem dX1_findProject_13 : decode cX1_findProject 13 = .ok (.iconst (-1), 1) := dk_2 (dk_at dksX1_findProject_0 13 rfl rfl)
theorem dX1_findProject_14 : decode cX1_findProject 14 = .ok (.goto 7, 3) := dk_167 0 7 (dk_at dksX1_findProject_0 14 rfl rfl)
theorem dX1_findProject_17 : decode cX1_findProject 17 = .ok (.aload_n 1, 1) := dk_43 (dk_at dksX1_findProject_0 17 rfl rfl)
theorem dX1_findProject_18 : decode cX1_findProject 18 = .ok (.getfield 179, 3) := dk_180 0 179 (dk_at dksX1_findProject_0 18 rfl rfl)
theorem dX1_findProject_21 : decode cX1_findProject 21 = .ok (.ireturn, 1) := dk_172 (dk_at dksX1_findProject_0 21 rfl rfl)
abbrev cX1_withPath : ByteArray := prog_1_method_9_code
def yX1_withPath : MethodName := ⟨RX1, "withPath", "(Ljava/lang/CharSequence;)LAllotmentLedger$Project;"⟩
def dkwX1_withPath_2 : List UInt8 := [167, 0, 4, 44, 77, 132, 3, 1, 167, 255, 205, 44, 176]
abbrev dktX1_withPath_2 : List UInt8 := dkwX1_withPath_2 ++ []
def dkwX1_withPath_1 : List UInt8 := [192, 0, 52, 180, 0, 85, 43, 182, 0, 89, 153, 0, 17, 42, 180, 0, 37, 29, 182, 0, 75, 192, 0, 52]
abbrev dktX1_withPath_1 : List UInt8 := dkwX1_withPath_1 ++ dktX1_withPath_2
def dkwX1_withPath_0 : List UInt8 := [1, 77, 3, 62, 29, 42, 180, 0, 37, 182, 0, 67, 162, 0, 46, 42, 180, 0, 37, 29, 182, 0, 75]
abbrev dktX1_withPath_0 : List UInt8 := dkwX1_withPath_0 ++ dktX1_withPath_1
theorem dksX1_withPath_0 : cX1_withPath.data.toList.drop 0 = dktX1_withPath_0 := by decide +kernel
theorem dksX1_withPath_1 : cX1_withPath.data.toList.drop 23 = dktX1_withPath_1 := dk_seg dksX1_withPath_0 23 rfl rfl
theorem dksX1_withPath_2 : cX1_withPath.data.toList.drop 47 = dktX1_withPath_2 := dk_seg dksX1_withPath_1 24 rfl rfl
theorem dX1_withPath_0 : decode cX1_withPath 0 = .ok (.aconst_null, 1) := dk_1 (dk_at dksX1_withPath_0 0 rfl rfl)
theorem dX1_withPath_1 : decode cX1_withPath 1 = .ok (.astore_n 2, 1) := dk_77 (dk_at dksX1_withPath_0 1 rfl rfl)
theorem dX1_withPath_2 : decode cX1_withPath 2 = .ok (.iconst 0, 1) := dk_3 (dk_at dksX1_withPath_0 2 rfl rfl)
theorem dX1_withPath_3 : decode cX1_withPath 3 = .ok (.istore_n 3, 1) := dk_62 (dk_at dksX1_withPath_0 3 rfl rfl)
theorem dX1_withPath_4 : decode cX1_withPath 4 = .ok (.iload_n 3, 1) := dk_29 (dk_at dksX1_withPath_0 4 rfl rfl)
theorem dX1_withPath_5 : decode cX1_withPath 5 = .ok (.aload_n 0, 1) := dk_42 (dk_at dksX1_withPath_0 5 rfl rfl)
theorem dX1_withPath_6 : decode cX1_withPath 6 = .ok (.getfield 37, 3) := dk_180 0 37 (dk_at dksX1_withPath_0 6 rfl rfl)
theorem dX1_withPath_9 : decode cX1_withPath 9 = .ok (.invokevirtual 67, 3) := dk_182 0 67 (dk_at dksX1_withPath_0 9 rfl rfl)
theorem dX1_withPath_12 : decode cX1_withPath 12 = .ok (.if_icmp .ge 46, 3) := dk_162 0 46 (dk_at dksX1_withPath_0 12 rfl rfl)
theorem dX1_withPath_15 : decode cX1_withPath 15 = .ok (.aload_n 0, 1) := dk_42 (dk_at dksX1_withPath_0 15 rfl rfl)
theorem dX1_withPath_16 : decode cX1_withPath 16 = .ok (.getfield 37, 3) := dk_180 0 37 (dk_at dksX1_withPath_0 16 rfl rfl)
theorem dX1_withPath_19 : decode cX1_withPath 19 = .ok (.iload_n 3, 1) := dk_29 (dk_at dksX1_withPath_0 19 rfl rfl)
theorem dX1_withPath_20 : decode cX1_withPath 20 = .ok (.invokevirtual 75, 3) := dk_182 0 75 (dk_at dksX1_withPath_0 20 rfl rfl)
theorem dX1_withPath_23 : decode cX1_withPath 23 = .ok (.checkcast 52, 3) := dk_192 0 52 (dk_at dksX1_withPath_1 0 rfl rfl)
theorem dX1_withPath_26 : decode cX1_withPath 26 = .ok (.getfield 85, 3) := dk_180 0 85 (dk_at dksX1_withPath_1 3 rfl rfl)
theorem dX1_withPath_29 : decode cX1_withPath 29 = .ok (.aload_n 1, 1) := dk_43 (dk_at dksX1_withPath_1 6 rfl rfl)
theorem dX1_withPath_30 : decode cX1_withPath 30 = .ok (.invokevirtual 89, 3) := dk_182 0 89 (dk_at dksX1_withPath_1 7 rfl rfl)
theorem dX1_withPath_33 : decode cX1_withPath 33 = .ok (.ifCond .eq 17, 3) := dk_153 0 17 (dk_at dksX1_withPath_1 10 rfl rfl)
theorem dX1_withPath_36 : decode cX1_withPath 36 = .ok (.aload_n 0, 1) := dk_42 (dk_at dksX1_withPath_1 13 rfl rfl)
theorem dX1_withPath_37 : decode cX1_withPath 37 = .ok (.getfield 37, 3) := dk_180 0 37 (dk_at dksX1_withPath_1 14 rfl rfl)
theorem dX1_withPath_40 : decode cX1_withPath 40 = .ok (.iload_n 3, 1) := dk_29 (dk_at dksX1_withPath_1 17 rfl rfl)
theorem dX1_withPath_41 : decode cX1_withPath 41 = .ok (.invokevirtual 75, 3) := dk_182 0 75 (dk_at dksX1_withPath_1 18 rfl rfl)
theorem dX1_withPath_44 : decode cX1_withPath 44 = .ok (.checkcast 52, 3) := dk_192 0 52 (dk_at dksX1_withPath_1 21 rfl rfl)
theorem dX1_withPath_47 : decode cX1_withPath 47 = .ok (.goto 4, 3) := dk_167 0 4 (dk_at dksX1_withPath_2 0 rfl rfl)
theorem dX1_withPath_50 : decode cX1_withPath 50 = .ok (.aload_n 2, 1) := dk_44 (dk_at dksX1_withPath_2 3 rfl rfl)
theorem dX1_withPath_51 : decode cX1_withPath 51 = .ok (.astore_n 2, 1) := dk_77 (dk_at dksX1_withPath_2 4 rfl rfl)
theorem dX1_withPath_52 : decode cX1_withPath 52 = .ok (.iinc 3 1, 3) := dk_132 3 1 (dk_at dksX1_withPath_2 5 rfl rfl)
theorem dX1_withPath_55 : decode cX1_withPath 55 = .ok (.goto (-51), 3) := dk_167 255 205 (dk_at dksX1_withPath_2 8 rfl rfl)
theorem dX1_withPath_58 : decode cX1_withPath 58 = .ok (.aload_n 2, 1) := dk_44 (dk_at dksX1_withPath_2 11 rfl rfl)
theorem dX1_withPath_59 : decode cX1_withPath 59 = .ok (.areturn, 1) := dk_176 (dk_at dksX1_withPath_2 12 rfl rfl)
abbrev cX1_projects : ByteArray := prog_1_method_23_code
def yX1_projects : MethodName := ⟨RX1, "projects", "()I"⟩
def dkwX1_projects_0 : List UInt8 := [42, 180, 0, 37, 182, 0, 67, 172]
abbrev dktX1_projects_0 : List UInt8 := dkwX1_projects_0 ++ []
theorem dksX1_projects_0 : cX1_projects.data.toList.drop 0 = dktX1_projects_0 := by decide +kernel
theorem dX1_projects_0 : decode cX1_projects 0 = .ok (.aload_n 0, 1) := dk_42 (dk_at dksX1_projects_0 0 rfl rfl)
theorem dX1_projects_1 : decode cX1_projects 1 = .ok (.getfield 37, 3) := dk_180 0 37 (dk_at dksX1_projects_0 1 rfl rfl)
theorem dX1_projects_4 : decode cX1_projects 4 = .ok (.invokevirtual 67, 3) := dk_182 0 67 (dk_at dksX1_projects_0 4 rfl rfl)
theorem dX1_projects_7 : decode cX1_projects 7 = .ok (.ireturn, 1) := dk_172 (dk_at dksX1_projects_0 7 rfl rfl)
abbrev cX1_beginRecount : ByteArray := prog_1_method_37_code
def yX1_beginRecount : MethodName := ⟨RX1, "beginRecount", "()I"⟩
def dkwX1_beginRecount_4 : List UInt8 := [182, 0, 67, 172]
abbrev dktX1_beginRecount_4 : List UInt8 := dkwX1_beginRecount_4 ++ []
def dkwX1_beginRecount_3 : List UInt8 := [182, 0, 75, 192, 0, 25, 77, 44, 3, 181, 0, 129, 132, 1, 1, 167, 255, 225, 42, 180, 0, 41]
abbrev dktX1_beginRecount_3 : List UInt8 := dkwX1_beginRecount_3 ++ dktX1_beginRecount_4
def dkwX1_beginRecount_2 : List UInt8 := [132, 1, 1, 167, 255, 238, 3, 60, 27, 42, 180, 0, 37, 182, 0, 67, 162, 0, 26, 42, 180, 0, 37, 27]
abbrev dktX1_beginRecount_2 : List UInt8 := dkwX1_beginRecount_2 ++ dktX1_beginRecount_3
def dkwX1_beginRecount_1 : List UInt8 := [132, 1, 1, 167, 255, 237, 3, 60, 27, 6, 162, 0, 19, 42, 180, 0, 31, 27, 50, 3, 181, 0, 129]
abbrev dktX1_beginRecount_1 : List UInt8 := dkwX1_beginRecount_1 ++ dktX1_beginRecount_2
def dkwX1_beginRecount_0 : List UInt8 := [42, 3, 181, 0, 47, 3, 60, 27, 16, 6, 162, 0, 19, 42, 180, 0, 27, 27, 50, 3, 181, 0, 129]
abbrev dktX1_beginRecount_0 : List UInt8 := dkwX1_beginRecount_0 ++ dktX1_beginRecount_1
theorem dksX1_beginRecount_0 : cX1_beginRecount.data.toList.drop 0 = dktX1_beginRecount_0 := by decide +kernel
theorem dksX1_beginRecount_1 : cX1_beginRecount.data.toList.drop 23 = dktX1_beginRecount_1 := dk_seg dksX1_beginRecount_0 23 rfl rfl
theorem dksX1_beginRecount_2 : cX1_beginRecount.data.toList.drop 46 = dktX1_beginRecount_2 := dk_seg dksX1_beginRecount_1 23 rfl rfl
theorem dksX1_beginRecount_3 : cX1_beginRecount.data.toList.drop 70 = dktX1_beginRecount_3 := dk_seg dksX1_beginRecount_2 24 rfl rfl
theorem dksX1_beginRecount_4 : cX1_beginRecount.data.toList.drop 92 = dktX1_beginRecount_4 := dk_seg dksX1_beginRecount_3 22 rfl rfl
theorem dX1_beginRecount_0 : decode cX1_beginRecount 0 = .ok (.aload_n 0, 1) := dk_42 (dk_at dksX1_beginRecount_0 0 rfl rfl)
theorem dX1_beginRecount_1 : decode cX1_beginRecount 1 = .ok (.iconst 0, 1) := dk_3 (dk_at dksX1_beginRecount_0 1 rfl rfl)
theorem dX1_beginRecount_2 : decode cX1_beginRecount 2 = .ok (.putfield 47, 3) := dk_181 0 47 (dk_at dksX1_beginRecount_0 2 rfl rfl)
theorem dX1_beginRecount_5 : decode cX1_beginRecount 5 = .ok (.iconst 0, 1) := dk_3 (dk_at dksX1_beginRecount_0 5 rfl rfl)
theorem dX1_beginRecount_6 : decode cX1_beginRecount 6 = .ok (.istore_n 1, 1) := dk_60 (dk_at dksX1_beginRecount_0 6 rfl rfl)
theorem dX1_beginRecount_7 : decode cX1_beginRecount 7 = .ok (.iload_n 1, 1) := dk_27 (dk_at dksX1_beginRecount_0 7 rfl rfl)
theorem dX1_beginRecount_8 : decode cX1_beginRecount 8 = .ok (.bipush 6, 2) := dk_16 6 (dk_at dksX1_beginRecount_0 8 rfl rfl)
theorem dX1_beginRecount_10 : decode cX1_beginRecount 10 = .ok (.if_icmp .ge 19, 3) := dk_162 0 19 (dk_at dksX1_beginRecount_0 10 rfl rfl)
theorem dX1_beginRecount_13 : decode cX1_beginRecount 13 = .ok (.aload_n 0, 1) := dk_42 (dk_at dksX1_beginRecount_0 13 rfl rfl)
theorem dX1_beginRecount_14 : decode cX1_beginRecount 14 = .ok (.getfield 27, 3) := dk_180 0 27 (dk_at dksX1_beginRecount_0 14 rfl rfl)
theorem dX1_beginRecount_17 : decode cX1_beginRecount 17 = .ok (.iload_n 1, 1) := dk_27 (dk_at dksX1_beginRecount_0 17 rfl rfl)
theorem dX1_beginRecount_18 : decode cX1_beginRecount 18 = .ok (.aaload, 1) := dk_50 (dk_at dksX1_beginRecount_0 18 rfl rfl)
theorem dX1_beginRecount_19 : decode cX1_beginRecount 19 = .ok (.iconst 0, 1) := dk_3 (dk_at dksX1_beginRecount_0 19 rfl rfl)
theorem dX1_beginRecount_20 : decode cX1_beginRecount 20 = .ok (.putfield 129, 3) := dk_181 0 129 (dk_at dksX1_beginRecount_0 20 rfl rfl)
theorem dX1_beginRecount_23 : decode cX1_beginRecount 23 = .ok (.iinc 1 1, 3) := dk_132 1 1 (dk_at dksX1_beginRecount_1 0 rfl rfl)
theorem dX1_beginRecount_26 : decode cX1_beginRecount 26 = .ok (.goto (-19), 3) := dk_167 255 237 (dk_at dksX1_beginRecount_1 3 rfl rfl)
theorem dX1_beginRecount_29 : decode cX1_beginRecount 29 = .ok (.iconst 0, 1) := dk_3 (dk_at dksX1_beginRecount_1 6 rfl rfl)
theorem dX1_beginRecount_30 : decode cX1_beginRecount 30 = .ok (.istore_n 1, 1) := dk_60 (dk_at dksX1_beginRecount_1 7 rfl rfl)
theorem dX1_beginRecount_31 : decode cX1_beginRecount 31 = .ok (.iload_n 1, 1) := dk_27 (dk_at dksX1_beginRecount_1 8 rfl rfl)
theorem dX1_beginRecount_32 : decode cX1_beginRecount 32 = .ok (.iconst 3, 1) := dk_6 (dk_at dksX1_beginRecount_1 9 rfl rfl)
theorem dX1_beginRecount_33 : decode cX1_beginRecount 33 = .ok (.if_icmp .ge 19, 3) := dk_162 0 19 (dk_at dksX1_beginRecount_1 10 rfl rfl)
theorem dX1_beginRecount_36 : decode cX1_beginRecount 36 = .ok (.aload_n 0, 1) := dk_42 (dk_at dksX1_beginRecount_1 13 rfl rfl)
theorem dX1_beginRecount_37 : decode cX1_beginRecount 37 = .ok (.getfield 31, 3) := dk_180 0 31 (dk_at dksX1_beginRecount_1 14 rfl rfl)
theorem dX1_beginRecount_40 : decode cX1_beginRecount 40 = .ok (.iload_n 1, 1) := dk_27 (dk_at dksX1_beginRecount_1 17 rfl rfl)
theorem dX1_beginRecount_41 : decode cX1_beginRecount 41 = .ok (.aaload, 1) := dk_50 (dk_at dksX1_beginRecount_1 18 rfl rfl)
theorem dX1_beginRecount_42 : decode cX1_beginRecount 42 = .ok (.iconst 0, 1) := dk_3 (dk_at dksX1_beginRecount_1 19 rfl rfl)
theorem dX1_beginRecount_43 : decode cX1_beginRecount 43 = .ok (.putfield 129, 3) := dk_181 0 129 (dk_at dksX1_beginRecount_1 20 rfl rfl)
theorem dX1_beginRecount_46 : decode cX1_beginRecount 46 = .ok (.iinc 1 1, 3) := dk_132 1 1 (dk_at dksX1_beginRecount_2 0 rfl rfl)
theorem dX1_beginRecount_49 : decode cX1_beginRecount 49 = .ok (.goto (-18), 3) := dk_167 255 238 (dk_at dksX1_beginRecount_2 3 rfl rfl)
theorem dX1_beginRecount_52 : decode cX1_beginRecount 52 = .ok (.iconst 0, 1) := dk_3 (dk_at dksX1_beginRecount_2 6 rfl rfl)
theorem dX1_beginRecount_53 : decode cX1_beginRecount 53 = .ok (.istore_n 1, 1) := dk_60 (dk_at dksX1_beginRecount_2 7 rfl rfl)
theorem dX1_beginRecount_54 : decode cX1_beginRecount 54 = .ok (.iload_n 1, 1) := dk_27 (dk_at dksX1_beginRecount_2 8 rfl rfl)
theorem dX1_beginRecount_55 : decode cX1_beginRecount 55 = .ok (.aload_n 0, 1) := dk_42 (dk_at dksX1_beginRecount_2 9 rfl rfl)
theorem dX1_beginRecount_56 : decode cX1_beginRecount 56 = .ok (.getfield 37, 3) := dk_180 0 37 (dk_at dksX1_beginRecount_2 10 rfl rfl)
theorem dX1_beginRecount_59 : decode cX1_beginRecount 59 = .ok (.invokevirtual 67, 3) := dk_182 0 67 (dk_at dksX1_beginRecount_2 13 rfl rfl)
theorem dX1_beginRecount_62 : decode cX1_beginRecount 62 = .ok (.if_icmp .ge 26, 3) := dk_162 0 26 (dk_at dksX1_beginRecount_2 16 rfl rfl)
theorem dX1_beginRecount_65 : decode cX1_beginRecount 65 = .ok (.aload_n 0, 1) := dk_42 (dk_at dksX1_beginRecount_2 19 rfl rfl)
theorem dX1_beginRecount_66 : decode cX1_beginRecount 66 = .ok (.getfield 37, 3) := dk_180 0 37 (dk_at dksX1_beginRecount_2 20 rfl rfl)
theorem dX1_beginRecount_69 : decode cX1_beginRecount 69 = .ok (.iload_n 1, 1) := dk_27 (dk_at dksX1_beginRecount_2 23 rfl rfl)
theorem dX1_beginRecount_70 : decode cX1_beginRecount 70 = .ok (.invokevirtual 75, 3) := dk_182 0 75 (dk_at dksX1_beginRecount_3 0 rfl rfl)
theorem dX1_beginRecount_73 : decode cX1_beginRecount 73 = .ok (.checkcast 25, 3) := dk_192 0 25 (dk_at dksX1_beginRecount_3 3 rfl rfl)
theorem dX1_beginRecount_76 : decode cX1_beginRecount 76 = .ok (.astore_n 2, 1) := dk_77 (dk_at dksX1_beginRecount_3 6 rfl rfl)
theorem dX1_beginRecount_77 : decode cX1_beginRecount 77 = .ok (.aload_n 2, 1) := dk_44 (dk_at dksX1_beginRecount_3 7 rfl rfl)
theorem dX1_beginRecount_78 : decode cX1_beginRecount 78 = .ok (.iconst 0, 1) := dk_3 (dk_at dksX1_beginRecount_3 8 rfl rfl)
theorem dX1_beginRecount_79 : decode cX1_beginRecount 79 = .ok (.putfield 129, 3) := dk_181 0 129 (dk_at dksX1_beginRecount_3 9 rfl rfl)
theorem dX1_beginRecount_82 : decode cX1_beginRecount 82 = .ok (.iinc 1 1, 3) := dk_132 1 1 (dk_at dksX1_beginRecount_3 12 rfl rfl)
theorem dX1_beginRecount_85 : decode cX1_beginRecount 85 = .ok (.goto (-31), 3) := dk_167 255 225 (dk_at dksX1_beginRecount_3 15 rfl rfl)
theorem dX1_beginRecount_88 : decode cX1_beginRecount 88 = .ok (.aload_n 0, 1) := dk_42 (dk_at dksX1_beginRecount_3 18 rfl rfl)
theorem dX1_beginRecount_89 : decode cX1_beginRecount 89 = .ok (.getfield 41, 3) := dk_180 0 41 (dk_at dksX1_beginRecount_3 19 rfl rfl)
theorem dX1_beginRecount_92 : decode cX1_beginRecount 92 = .ok (.invokevirtual 67, 3) := dk_182 0 67 (dk_at dksX1_beginRecount_4 0 rfl rfl)
theorem dX1_beginRecount_95 : decode cX1_beginRecount 95 = .ok (.ireturn, 1) := dk_172 (dk_at dksX1_beginRecount_4 3 rfl rfl)
abbrev cX1_type : ByteArray := prog_1_method_15_code
def yX1_type : MethodName := ⟨RX1, "type", "(C)I"⟩
def dkwX1_type_2 : List UInt8 := [87, 42, 180, 0, 19, 182, 0, 102, 172]
abbrev dktX1_type_2 : List UInt8 := dkwX1_type_2 ++ []
def dkwX1_type_1 : List UInt8 := [182, 0, 102, 16, 8, 162, 0, 7, 4, 167, 0, 4, 3, 184, 0, 161, 42, 180, 0, 19, 27, 182, 0, 164]
abbrev dktX1_type_1 : List UInt8 := dkwX1_type_1 ++ dktX1_type_2
def dkwX1_type_0 : List UInt8 := [27, 16, 97, 161, 0, 13, 27, 16, 122, 163, 0, 7, 4, 167, 0, 4, 3, 184, 0, 158, 42, 180, 0, 19]
abbrev dktX1_type_0 : List UInt8 := dkwX1_type_0 ++ dktX1_type_1
theorem dksX1_type_0 : cX1_type.data.toList.drop 0 = dktX1_type_0 := by decide +kernel
theorem dksX1_type_1 : cX1_type.data.toList.drop 24 = dktX1_type_1 := dk_seg dksX1_type_0 24 rfl rfl
theorem dksX1_type_2 : cX1_type.data.toList.drop 48 = dktX1_type_2 := dk_seg dksX1_type_1 24 rfl rfl
theorem dX1_type_0 : decode cX1_type 0 = .ok (.iload_n 1, 1) := dk_27 (dk_at dksX1_type_0 0 rfl rfl)
theorem dX1_type_1 : decode cX1_type 1 = .ok (.bipush 97, 2) := dk_16 97 (dk_at dksX1_type_0 1 rfl rfl)
theorem dX1_type_3 : decode cX1_type 3 = .ok (.if_icmp .lt 13, 3) := dk_161 0 13 (dk_at dksX1_type_0 3 rfl rfl)
theorem dX1_type_6 : decode cX1_type 6 = .ok (.iload_n 1, 1) := dk_27 (dk_at dksX1_type_0 6 rfl rfl)
theorem dX1_type_7 : decode cX1_type 7 = .ok (.bipush 122, 2) := dk_16 122 (dk_at dksX1_type_0 7 rfl rfl)
theorem dX1_type_9 : decode cX1_type 9 = .ok (.if_icmp .gt 7, 3) := dk_163 0 7 (dk_at dksX1_type_0 9 rfl rfl)
theorem dX1_type_12 : decode cX1_type 12 = .ok (.iconst 1, 1) := dk_4 (dk_at dksX1_type_0 12 rfl rfl)
theorem dX1_type_13 : decode cX1_type 13 = .ok (.goto 4, 3) := dk_167 0 4 (dk_at dksX1_type_0 13 rfl rfl)
theorem dX1_type_16 : decode cX1_type 16 = .ok (.iconst 0, 1) := dk_3 (dk_at dksX1_type_0 16 rfl rfl)
theorem dX1_type_17 : decode cX1_type 17 = .ok (.invokestatic 158, 3) := dk_184 0 158 (dk_at dksX1_type_0 17 rfl rfl)
theorem dX1_type_20 : decode cX1_type 20 = .ok (.aload_n 0, 1) := dk_42 (dk_at dksX1_type_0 20 rfl rfl)
theorem dX1_type_21 : decode cX1_type 21 = .ok (.getfield 19, 3) := dk_180 0 19 (dk_at dksX1_type_0 21 rfl rfl)
theorem dX1_type_24 : decode cX1_type 24 = .ok (.invokevirtual 102, 3) := dk_182 0 102 (dk_at dksX1_type_1 0 rfl rfl)
theorem dX1_type_27 : decode cX1_type 27 = .ok (.bipush 8, 2) := dk_16 8 (dk_at dksX1_type_1 3 rfl rfl)
theorem dX1_type_29 : decode cX1_type 29 = .ok (.if_icmp .ge 7, 3) := dk_162 0 7 (dk_at dksX1_type_1 5 rfl rfl)
theorem dX1_type_32 : decode cX1_type 32 = .ok (.iconst 1, 1) := dk_4 (dk_at dksX1_type_1 8 rfl rfl)
theorem dX1_type_33 : decode cX1_type 33 = .ok (.goto 4, 3) := dk_167 0 4 (dk_at dksX1_type_1 9 rfl rfl)
theorem dX1_type_36 : decode cX1_type 36 = .ok (.iconst 0, 1) := dk_3 (dk_at dksX1_type_1 12 rfl rfl)
theorem dX1_type_37 : decode cX1_type 37 = .ok (.invokestatic 161, 3) := dk_184 0 161 (dk_at dksX1_type_1 13 rfl rfl)
theorem dX1_type_40 : decode cX1_type 40 = .ok (.aload_n 0, 1) := dk_42 (dk_at dksX1_type_1 16 rfl rfl)
theorem dX1_type_41 : decode cX1_type 41 = .ok (.getfield 19, 3) := dk_180 0 19 (dk_at dksX1_type_1 17 rfl rfl)
theorem dX1_type_44 : decode cX1_type 44 = .ok (.iload_n 1, 1) := dk_27 (dk_at dksX1_type_1 20 rfl rfl)
theorem dX1_type_45 : decode cX1_type 45 = .ok (.invokevirtual 164, 3) := dk_182 0 164 (dk_at dksX1_type_1 21 rfl rfl)
theorem dX1_type_48 : decode cX1_type 48 = .ok (.pop, 1) := dk_87 (dk_at dksX1_type_2 0 rfl rfl)
theorem dX1_type_49 : decode cX1_type 49 = .ok (.aload_n 0, 1) := dk_42 (dk_at dksX1_type_2 1 rfl rfl)
theorem dX1_type_50 : decode cX1_type 50 = .ok (.getfield 19, 3) := dk_180 0 19 (dk_at dksX1_type_2 2 rfl rfl)
theorem dX1_type_53 : decode cX1_type 53 = .ok (.invokevirtual 102, 3) := dk_182 0 102 (dk_at dksX1_type_2 5 rfl rfl)
theorem dX1_type_56 : decode cX1_type 56 = .ok (.ireturn, 1) := dk_172 (dk_at dksX1_type_2 8 rfl rfl)
abbrev cX1_requireArgument : ByteArray := prog_1_method_3_code
def yX1_requireArgument : MethodName := ⟨RX1, "requireArgument", "(Z)V"⟩
def dkwX1_requireArgument_0 : List UInt8 := [26, 154, 0, 11, 187, 0, 7, 89, 183, 0, 9, 191, 177]
abbrev dktX1_requireArgument_0 : List UInt8 := dkwX1_requireArgument_0 ++ []
theorem dksX1_requireArgument_0 : cX1_requireArgument.data.toList.drop 0 = dktX1_requireArgument_0 := by decide +kernel
theorem dX1_requireArgument_0 : decode cX1_requireArgument 0 = .ok (.iload_n 0, 1) := dk_26 (dk_at dksX1_requireArgument_0 0 rfl rfl)
theorem dX1_requireArgument_1 : decode cX1_requireArgument 1 = .ok (.ifCond .ne 11, 3) := dk_154 0 11 (dk_at dksX1_requireArgument_0 1 rfl rfl)
theorem dX1_requireArgument_4 : decode cX1_requireArgument 4 = .ok (.new 7, 3) := dk_187 0 7 (dk_at dksX1_requireArgument_0 4 rfl rfl)
theorem dX1_requireArgument_7 : decode cX1_requireArgument 7 = .ok (.dup, 1) := dk_89 (dk_at dksX1_requireArgument_0 7 rfl rfl)
theorem dX1_requireArgument_8 : decode cX1_requireArgument 8 = .ok (.invokespecial 9, 3) := dk_183 0 9 (dk_at dksX1_requireArgument_0 8 rfl rfl)
theorem dX1_requireArgument_11 : decode cX1_requireArgument 11 = .ok (.athrow, 1) := dk_191 (dk_at dksX1_requireArgument_0 11 rfl rfl)
theorem dX1_requireArgument_12 : decode cX1_requireArgument 12 = .ok (.return_, 1) := dk_177 (dk_at dksX1_requireArgument_0 12 rfl rfl)
abbrev cX1_requireState : ByteArray := prog_1_method_4_code
def yX1_requireState : MethodName := ⟨RX1, "requireState", "(Z)V"⟩
def dkwX1_requireState_0 : List UInt8 := [26, 154, 0, 11, 187, 0, 10, 89, 183, 0, 12, 191, 177]
abbrev dktX1_requireState_0 : List UInt8 := dkwX1_requireState_0 ++ []
theorem dksX1_requireState_0 : cX1_requireState.data.toList.drop 0 = dktX1_requireState_0 := by decide +kernel
theorem dX1_requireState_0 : decode cX1_requireState 0 = .ok (.iload_n 0, 1) := dk_26 (dk_at dksX1_requireState_0 0 rfl rfl)
theorem dX1_requireState_1 : decode cX1_requireState 1 = .ok (.ifCond .ne 11, 3) := dk_154 0 11 (dk_at dksX1_requireState_0 1 rfl rfl)
theorem dX1_requireState_4 : decode cX1_requireState 4 = .ok (.new 10, 3) := dk_187 0 10 (dk_at dksX1_requireState_0 4 rfl rfl)
theorem dX1_requireState_7 : decode cX1_requireState 7 = .ok (.dup, 1) := dk_89 (dk_at dksX1_requireState_0 7 rfl rfl)
theorem dX1_requireState_8 : decode cX1_requireState 8 = .ok (.invokespecial 12, 3) := dk_183 0 12 (dk_at dksX1_requireState_0 8 rfl rfl)
theorem dX1_requireState_11 : decode cX1_requireState 11 = .ok (.athrow, 1) := dk_191 (dk_at dksX1_requireState_0 11 rfl rfl)
theorem dX1_requireState_12 : decode cX1_requireState 12 = .ok (.return_, 1) := dk_177 (dk_at dksX1_requireState_0 12 rfl rfl)
abbrev cX1_back : ByteArray := prog_1_method_16_code
def yX1_back : MethodName := ⟨RX1, "back", "()I"⟩
def dkwX1_back_1 : List UInt8 := [180, 0, 19, 182, 0, 102, 4, 100, 182, 0, 105, 87, 42, 180, 0, 19, 182, 0, 102, 172]
abbrev dktX1_back_1 : List UInt8 := dkwX1_back_1 ++ []
def dkwX1_back_0 : List UInt8 := [42, 180, 0, 19, 182, 0, 102, 158, 0, 7, 4, 167, 0, 4, 3, 184, 0, 161, 42, 180, 0, 19, 42]
abbrev dktX1_back_0 : List UInt8 := dkwX1_back_0 ++ dktX1_back_1
theorem dksX1_back_0 : cX1_back.data.toList.drop 0 = dktX1_back_0 := by decide +kernel
theorem dksX1_back_1 : cX1_back.data.toList.drop 23 = dktX1_back_1 := dk_seg dksX1_back_0 23 rfl rfl
theorem dX1_back_0 : decode cX1_back 0 = .ok (.aload_n 0, 1) := dk_42 (dk_at dksX1_back_0 0 rfl rfl)
theorem dX1_back_1 : decode cX1_back 1 = .ok (.getfield 19, 3) := dk_180 0 19 (dk_at dksX1_back_0 1 rfl rfl)
theorem dX1_back_4 : decode cX1_back 4 = .ok (.invokevirtual 102, 3) := dk_182 0 102 (dk_at dksX1_back_0 4 rfl rfl)
theorem dX1_back_7 : decode cX1_back 7 = .ok (.ifCond .le 7, 3) := dk_158 0 7 (dk_at dksX1_back_0 7 rfl rfl)
theorem dX1_back_10 : decode cX1_back 10 = .ok (.iconst 1, 1) := dk_4 (dk_at dksX1_back_0 10 rfl rfl)
theorem dX1_back_11 : decode cX1_back 11 = .ok (.goto 4, 3) := dk_167 0 4 (dk_at dksX1_back_0 11 rfl rfl)
theorem dX1_back_14 : decode cX1_back 14 = .ok (.iconst 0, 1) := dk_3 (dk_at dksX1_back_0 14 rfl rfl)
theorem dX1_back_15 : decode cX1_back 15 = .ok (.invokestatic 161, 3) := dk_184 0 161 (dk_at dksX1_back_0 15 rfl rfl)
theorem dX1_back_18 : decode cX1_back 18 = .ok (.aload_n 0, 1) := dk_42 (dk_at dksX1_back_0 18 rfl rfl)
theorem dX1_back_19 : decode cX1_back 19 = .ok (.getfield 19, 3) := dk_180 0 19 (dk_at dksX1_back_0 19 rfl rfl)
theorem dX1_back_22 : decode cX1_back 22 = .ok (.aload_n 0, 1) := dk_42 (dk_at dksX1_back_0 22 rfl rfl)
theorem dX1_back_23 : decode cX1_back 23 = .ok (.getfield 19, 3) := dk_180 0 19 (dk_at dksX1_back_1 0 rfl rfl)
theorem dX1_back_26 : decode cX1_back 26 = .ok (.invokevirtual 102, 3) := dk_182 0 102 (dk_at dksX1_back_1 3 rfl rfl)
theorem dX1_back_29 : decode cX1_back 29 = .ok (.iconst 1, 1) := dk_4 (dk_at dksX1_back_1 6 rfl rfl)
theorem dX1_back_30 : decode cX1_back 30 = .ok (.isub, 1) := dk_100 (dk_at dksX1_back_1 7 rfl rfl)
theorem dX1_back_31 : decode cX1_back 31 = .ok (.invokevirtual 105, 3) := dk_182 0 105 (dk_at dksX1_back_1 8 rfl rfl)
theorem dX1_back_34 : decode cX1_back 34 = .ok (.pop, 1) := dk_87 (dk_at dksX1_back_1 11 rfl rfl)
theorem dX1_back_35 : decode cX1_back 35 = .ok (.aload_n 0, 1) := dk_42 (dk_at dksX1_back_1 12 rfl rfl)
theorem dX1_back_36 : decode cX1_back 36 = .ok (.getfield 19, 3) := dk_180 0 19 (dk_at dksX1_back_1 13 rfl rfl)
theorem dX1_back_39 : decode cX1_back 39 = .ok (.invokevirtual 102, 3) := dk_182 0 102 (dk_at dksX1_back_1 16 rfl rfl)
theorem dX1_back_42 : decode cX1_back 42 = .ok (.ireturn, 1) := dk_172 (dk_at dksX1_back_1 19 rfl rfl)
abbrev cX1_makeProject : ByteArray := prog_1_method_18_code
def yX1_makeProject : MethodName := ⟨RX1, "makeProject", "()I"⟩
def dkwX1_makeProject_3 : List UInt8 := [180, 0, 19, 182, 0, 175, 183, 0, 56, 182, 0, 59, 87, 42, 180, 0, 37, 182, 0, 67, 4, 100, 172]
abbrev dktX1_makeProject_3 : List UInt8 := dkwX1_makeProject_3 ++ []
def dkwX1_makeProject_2 : List UInt8 := [167, 0, 4, 3, 184, 0, 161, 42, 180, 0, 37, 187, 0, 52, 89, 42, 180, 0, 37, 182, 0, 67, 42]
abbrev dktX1_makeProject_2 : List UInt8 := dkwX1_makeProject_2 ++ dktX1_makeProject_3
def dkwX1_makeProject_1 : List UInt8 := [4, 100, 182, 0, 171, 182, 0, 98, 198, 0, 19, 42, 180, 0, 37, 182, 0, 67, 16, 20, 163, 0, 7, 4]
abbrev dktX1_makeProject_1 : List UInt8 := dkwX1_makeProject_1 ++ dktX1_makeProject_2
def dkwX1_makeProject_0 : List UInt8 := [42, 42, 180, 0, 19, 182, 0, 98, 199, 0, 43, 42, 42, 180, 0, 19, 3, 42, 180, 0, 19, 182, 0, 102]
abbrev dktX1_makeProject_0 : List UInt8 := dkwX1_makeProject_0 ++ dktX1_makeProject_1
theorem dksX1_makeProject_0 : cX1_makeProject.data.toList.drop 0 = dktX1_makeProject_0 := by decide +kernel
theorem dksX1_makeProject_1 : cX1_makeProject.data.toList.drop 24 = dktX1_makeProject_1 := dk_seg dksX1_makeProject_0 24 rfl rfl
theorem dksX1_makeProject_2 : cX1_makeProject.data.toList.drop 48 = dktX1_makeProject_2 := dk_seg dksX1_makeProject_1 24 rfl rfl
theorem dksX1_makeProject_3 : cX1_makeProject.data.toList.drop 71 = dktX1_makeProject_3 := dk_seg dksX1_makeProject_2 23 rfl rfl
theorem dX1_makeProject_0 : decode cX1_makeProject 0 = .ok (.aload_n 0, 1) := dk_42 (dk_at dksX1_makeProject_0 0 rfl rfl)
theorem dX1_makeProject_1 : decode cX1_makeProject 1 = .ok (.aload_n 0, 1) := dk_42 (dk_at dksX1_makeProject_0 1 rfl rfl)
theorem dX1_makeProject_2 : decode cX1_makeProject 2 = .ok (.getfield 19, 3) := dk_180 0 19 (dk_at dksX1_makeProject_0 2 rfl rfl)
theorem dX1_makeProject_5 : decode cX1_makeProject 5 = .ok (.invokevirtual 98, 3) := dk_182 0 98 (dk_at dksX1_makeProject_0 5 rfl rfl)
theorem dX1_makeProject_8 : decode cX1_makeProject 8 = .ok (.ifnonnull 43, 3) := dk_199 0 43 (dk_at dksX1_makeProject_0 8 rfl rfl)
theorem dX1_makeProject_11 : decode cX1_makeProject 11 = .ok (.aload_n 0, 1) := dk_42 (dk_at dksX1_makeProject_0 11 rfl rfl)
theorem dX1_makeProject_12 : decode cX1_makeProject 12 = .ok (.aload_n 0, 1) := dk_42 (dk_at dksX1_makeProject_0 12 rfl rfl)
theorem dX1_makeProject_13 : decode cX1_makeProject 13 = .ok (.getfield 19, 3) := dk_180 0 19 (dk_at dksX1_makeProject_0 13 rfl rfl)
theorem dX1_makeProject_16 : decode cX1_makeProject 16 = .ok (.iconst 0, 1) := dk_3 (dk_at dksX1_makeProject_0 16 rfl rfl)
theorem dX1_makeProject_17 : decode cX1_makeProject 17 = .ok (.aload_n 0, 1) := dk_42 (dk_at dksX1_makeProject_0 17 rfl rfl)
theorem dX1_makeProject_18 : decode cX1_makeProject 18 = .ok (.getfield 19, 3) := dk_180 0 19 (dk_at dksX1_makeProject_0 18 rfl rfl)
theorem dX1_makeProject_21 : decode cX1_makeProject 21 = .ok (.invokevirtual 102, 3) := dk_182 0 102 (dk_at dksX1_makeProject_0 21 rfl rfl)
theorem dX1_makeProject_24 : decode cX1_makeProject 24 = .ok (.iconst 1, 1) := dk_4 (dk_at dksX1_makeProject_1 0 rfl rfl)
theorem dX1_makeProject_25 : decode cX1_makeProject 25 = .ok (.isub, 1) := dk_100 (dk_at dksX1_makeProject_1 1 rfl rfl)
theorem dX1_makeProject_26 : decode cX1_makeProject 26 = .ok (.invokevirtual 171, 3) := dk_182 0 171 (dk_at dksX1_makeProject_1 2 rfl rfl)
theorem dX1_makeProject_29 : decode cX1_makeProject 29 = .ok (.invokevirtual 98, 3) := dk_182 0 98 (dk_at dksX1_makeProject_1 5 rfl rfl)
theorem dX1_makeProject_32 : decode cX1_makeProject 32 = .ok (.ifnull 19, 3) := dk_198 0 19 (dk_at dksX1_makeProject_1 8 rfl rfl)
theorem dX1_makeProject_35 : decode cX1_makeProject 35 = .ok (.aload_n 0, 1) := dk_42 (dk_at dksX1_makeProject_1 11 rfl rfl)
theorem dX1_makeProject_36 : decode cX1_makeProject 36 = .ok (.getfield 37, 3) := dk_180 0 37 (dk_at dksX1_makeProject_1 12 rfl rfl)
theorem dX1_makeProject_39 : decode cX1_makeProject 39 = .ok (.invokevirtual 67, 3) := dk_182 0 67 (dk_at dksX1_makeProject_1 15 rfl rfl)
theorem dX1_makeProject_42 : decode cX1_makeProject 42 = .ok (.bipush 20, 2) := dk_16 20 (dk_at dksX1_makeProject_1 18 rfl rfl)
theorem dX1_makeProject_44 : decode cX1_makeProject 44 = .ok (.if_icmp .gt 7, 3) := dk_163 0 7 (dk_at dksX1_makeProject_1 20 rfl rfl)
theorem dX1_makeProject_47 : decode cX1_makeProject 47 = .ok (.iconst 1, 1) := dk_4 (dk_at dksX1_makeProject_1 23 rfl rfl)
theorem dX1_makeProject_48 : decode cX1_makeProject 48 = .ok (.goto 4, 3) := dk_167 0 4 (dk_at dksX1_makeProject_2 0 rfl rfl)
theorem dX1_makeProject_51 : decode cX1_makeProject 51 = .ok (.iconst 0, 1) := dk_3 (dk_at dksX1_makeProject_2 3 rfl rfl)
theorem dX1_makeProject_52 : decode cX1_makeProject 52 = .ok (.invokestatic 161, 3) := dk_184 0 161 (dk_at dksX1_makeProject_2 4 rfl rfl)
theorem dX1_makeProject_55 : decode cX1_makeProject 55 = .ok (.aload_n 0, 1) := dk_42 (dk_at dksX1_makeProject_2 7 rfl rfl)
theorem dX1_makeProject_56 : decode cX1_makeProject 56 = .ok (.getfield 37, 3) := dk_180 0 37 (dk_at dksX1_makeProject_2 8 rfl rfl)
theorem dX1_makeProject_59 : decode cX1_makeProject 59 = .ok (.new 52, 3) := dk_187 0 52 (dk_at dksX1_makeProject_2 11 rfl rfl)
theorem dX1_makeProject_62 : decode cX1_makeProject 62 = .ok (.dup, 1) := dk_89 (dk_at dksX1_makeProject_2 14 rfl rfl)
theorem dX1_makeProject_63 : decode cX1_makeProject 63 = .ok (.aload_n 0, 1) := dk_42 (dk_at dksX1_makeProject_2 15 rfl rfl)
theorem dX1_makeProject_64 : decode cX1_makeProject 64 = .ok (.getfield 37, 3) := dk_180 0 37 (dk_at dksX1_makeProject_2 16 rfl rfl)
theorem dX1_makeProject_67 : decode cX1_makeProject 67 = .ok (.invokevirtual 67, 3) := dk_182 0 67 (dk_at dksX1_makeProject_2 19 rfl rfl)
theorem dX1_makeProject_70 : decode cX1_makeProject 70 = .ok (.aload_n 0, 1) := dk_42 (dk_at dksX1_makeProject_2 22 rfl rfl)
theorem dX1_makeProject_71 : decode cX1_makeProject 71 = .ok (.getfield 19, 3) := dk_180 0 19 (dk_at dksX1_makeProject_3 0 rfl rfl)
theorem dX1_makeProject_74 : decode cX1_makeProject 74 = .ok (.invokevirtual 175, 3) := dk_182 0 175 (dk_at dksX1_makeProject_3 3 rfl rfl)
theorem dX1_makeProject_77 : decode cX1_makeProject 77 = .ok (.invokespecial 56, 3) := dk_183 0 56 (dk_at dksX1_makeProject_3 6 rfl rfl)
theorem dX1_makeProject_80 : decode cX1_makeProject 80 = .ok (.invokevirtual 59, 3) := dk_182 0 59 (dk_at dksX1_makeProject_3 9 rfl rfl)
theorem dX1_makeProject_83 : decode cX1_makeProject 83 = .ok (.pop, 1) := dk_87 (dk_at dksX1_makeProject_3 12 rfl rfl)
theorem dX1_makeProject_84 : decode cX1_makeProject 84 = .ok (.aload_n 0, 1) := dk_42 (dk_at dksX1_makeProject_3 13 rfl rfl)
theorem dX1_makeProject_85 : decode cX1_makeProject 85 = .ok (.getfield 37, 3) := dk_180 0 37 (dk_at dksX1_makeProject_3 14 rfl rfl)
theorem dX1_makeProject_88 : decode cX1_makeProject 88 = .ok (.invokevirtual 67, 3) := dk_182 0 67 (dk_at dksX1_makeProject_3 17 rfl rfl)
theorem dX1_makeProject_91 : decode cX1_makeProject 91 = .ok (.iconst 1, 1) := dk_4 (dk_at dksX1_makeProject_3 20 rfl rfl)
theorem dX1_makeProject_92 : decode cX1_makeProject 92 = .ok (.isub, 1) := dk_100 (dk_at dksX1_makeProject_3 21 rfl rfl)
theorem dX1_makeProject_93 : decode cX1_makeProject 93 = .ok (.ireturn, 1) := dk_172 (dk_at dksX1_makeProject_3 22 rfl rfl)
abbrev cX1_moveProject : ByteArray := prog_1_method_20_code
def yX1_moveProject : MethodName := ⟨RX1, "moveProject", "(I)I"⟩
def dkwX1_moveProject_13 : List UInt8 := [4, 182, 0, 193, 42, 182, 0, 151, 21, 8, 172]
abbrev dktX1_moveProject_13 : List UInt8 := dkwX1_moveProject_13 ++ []
def dkwX1_moveProject_12 : List UInt8 := [54, 8, 25, 6, 21, 10, 182, 0, 75, 192, 0, 52, 25, 11, 181, 0, 85, 132, 10, 1, 167, 255, 178, 42]
abbrev dktX1_moveProject_12 : List UInt8 := dkwX1_moveProject_12 ++ dktX1_moveProject_13
def dkwX1_moveProject_11 : List UInt8 := [21, 10, 182, 0, 75, 192, 0, 52, 180, 0, 85, 182, 0, 196, 153, 0, 7, 3, 167, 0, 4, 4, 96]
abbrev dktX1_moveProject_11 : List UInt8 := dkwX1_moveProject_11 ++ dktX1_moveProject_12
def dkwX1_moveProject_10 : List UInt8 := [21, 10, 182, 0, 75, 192, 0, 52, 25, 9, 21, 4, 182, 0, 189, 58, 11, 21, 8, 25, 11, 25, 6]
abbrev dktX1_moveProject_10 : List UInt8 := dkwX1_moveProject_10 ++ dktX1_moveProject_11
def dkwX1_moveProject_9 : List UInt8 := [54, 8, 45, 180, 0, 85, 58, 9, 3, 54, 10, 21, 10, 25, 6, 182, 0, 67, 162, 0, 74, 25, 6]
abbrev dktX1_moveProject_9 : List UInt8 := dkwX1_moveProject_9 ++ dktX1_moveProject_10
def dkwX1_moveProject_8 : List UInt8 := [167, 0, 4, 3, 54, 7, 132, 8, 1, 167, 255, 163, 21, 7, 184, 0, 161, 42, 2, 182, 0, 193, 3]
abbrev dktX1_moveProject_8 : List UInt8 := dkwX1_moveProject_8 ++ dktX1_moveProject_9
def dkwX1_moveProject_7 : List UInt8 := [182, 0, 75, 192, 0, 52, 45, 180, 0, 85, 21, 4, 182, 0, 189, 182, 0, 188, 16, 8, 163, 0, 7, 4]
abbrev dktX1_moveProject_7 : List UInt8 := dkwX1_moveProject_7 ++ dktX1_moveProject_8
def dkwX1_moveProject_6 : List UInt8 := [21, 8, 182, 0, 75, 192, 0, 52, 182, 0, 59, 87, 21, 7, 153, 0, 36, 42, 180, 0, 37, 21, 8]
abbrev dktX1_moveProject_6 : List UInt8 := dkwX1_moveProject_6 ++ dktX1_moveProject_7
def dkwX1_moveProject_5 : List UInt8 := [180, 0, 37, 21, 8, 182, 0, 75, 192, 0, 52, 44, 182, 0, 184, 153, 0, 62, 25, 6, 42, 180, 0, 37]
abbrev dktX1_moveProject_5 : List UInt8 := dkwX1_moveProject_5 ++ dktX1_moveProject_6
def dkwX1_moveProject_4 : List UInt8 := [183, 0, 36, 58, 6, 4, 54, 7, 3, 54, 8, 21, 8, 42, 180, 0, 37, 182, 0, 67, 162, 0, 87, 42]
abbrev dktX1_moveProject_4 : List UInt8 := dkwX1_moveProject_4 ++ dktX1_moveProject_5
def dkwX1_moveProject_3 : List UInt8 := [25, 5, 198, 0, 9, 25, 5, 44, 166, 0, 7, 4, 167, 0, 4, 3, 184, 0, 161, 187, 0, 34, 89]
abbrev dktX1_moveProject_3 : List UInt8 := dkwX1_moveProject_3 ++ dktX1_moveProject_4
def dkwX1_moveProject_2 : List UInt8 := [182, 0, 188, 4, 100, 54, 4, 42, 44, 45, 180, 0, 85, 21, 4, 182, 0, 189, 182, 0, 98, 58, 5]
abbrev dktX1_moveProject_2 : List UInt8 := dkwX1_moveProject_2 ++ dktX1_moveProject_3
def dkwX1_moveProject_1 : List UInt8 := [198, 0, 15, 45, 44, 182, 0, 184, 154, 0, 7, 4, 167, 0, 4, 3, 184, 0, 161, 44, 180, 0, 85]
abbrev dktX1_moveProject_1 : List UInt8 := dkwX1_moveProject_1 ++ dktX1_moveProject_2
def dkwX1_moveProject_0 : List UInt8 := [42, 27, 182, 0, 180, 77, 42, 42, 180, 0, 19, 182, 0, 98, 78, 44, 180, 0, 179, 153, 0, 19, 45]
abbrev dktX1_moveProject_0 : List UInt8 := dkwX1_moveProject_0 ++ dktX1_moveProject_1
theorem dksX1_moveProject_0 : cX1_moveProject.data.toList.drop 0 = dktX1_moveProject_0 := by decide +kernel
theorem dksX1_moveProject_1 : cX1_moveProject.data.toList.drop 23 = dktX1_moveProject_1 := dk_seg dksX1_moveProject_0 23 rfl rfl
theorem dksX1_moveProject_2 : cX1_moveProject.data.toList.drop 46 = dktX1_moveProject_2 := dk_seg dksX1_moveProject_1 23 rfl rfl
theorem dksX1_moveProject_3 : cX1_moveProject.data.toList.drop 69 = dktX1_moveProject_3 := dk_seg dksX1_moveProject_2 23 rfl rfl
theorem dksX1_moveProject_4 : cX1_moveProject.data.toList.drop 92 = dktX1_moveProject_4 := dk_seg dksX1_moveProject_3 23 rfl rfl
theorem dksX1_moveProject_5 : cX1_moveProject.data.toList.drop 116 = dktX1_moveProject_5 := dk_seg dksX1_moveProject_4 24 rfl rfl
theorem dksX1_moveProject_6 : cX1_moveProject.data.toList.drop 140 = dktX1_moveProject_6 := dk_seg dksX1_moveProject_5 24 rfl rfl
theorem dksX1_moveProject_7 : cX1_moveProject.data.toList.drop 163 = dktX1_moveProject_7 := dk_seg dksX1_moveProject_6 23 rfl rfl
theorem dksX1_moveProject_8 : cX1_moveProject.data.toList.drop 187 = dktX1_moveProject_8 := dk_seg dksX1_moveProject_7 24 rfl rfl
theorem dksX1_moveProject_9 : cX1_moveProject.data.toList.drop 210 = dktX1_moveProject_9 := dk_seg dksX1_moveProject_8 23 rfl rfl
theorem dksX1_moveProject_10 : cX1_moveProject.data.toList.drop 233 = dktX1_moveProject_10 := dk_seg dksX1_moveProject_9 23 rfl rfl
theorem dksX1_moveProject_11 : cX1_moveProject.data.toList.drop 256 = dktX1_moveProject_11 := dk_seg dksX1_moveProject_10 23 rfl rfl
theorem dksX1_moveProject_12 : cX1_moveProject.data.toList.drop 279 = dktX1_moveProject_12 := dk_seg dksX1_moveProject_11 23 rfl rfl
theorem dksX1_moveProject_13 : cX1_moveProject.data.toList.drop 303 = dktX1_moveProject_13 := dk_seg dksX1_moveProject_12 24 rfl rfl
theorem dX1_moveProject_0 : decode cX1_moveProject 0 = .ok (.aload_n 0, 1) := dk_42 (dk_at dksX1_moveProject_0 0 rfl rfl)
theorem dX1_moveProject_1 : decode cX1_moveProject 1 = .ok (.iload_n 1, 1) := dk_27 (dk_at dksX1_moveProject_0 1 rfl rfl)
theorem dX1_moveProject_2 : decode cX1_moveProject 2 = .ok (.invokevirtual 180, 3) := dk_182 0 180 (dk_at dksX1_moveProject_0 2 rfl rfl)
theorem dX1_moveProject_5 : decode cX1_moveProject 5 = .ok (.astore_n 2, 1) := dk_77 (dk_at dksX1_moveProject_0 5 rfl rfl)
theorem dX1_moveProject_6 : decode cX1_moveProject 6 = .ok (.aload_n 0, 1) := dk_42 (dk_at dksX1_moveProject_0 6 rfl rfl)
theorem dX1_moveProject_7 : decode cX1_moveProject 7 = .ok (.aload_n 0, 1) := dk_42 (dk_at dksX1_moveProject_0 7 rfl rfl)
theorem dX1_moveProject_8 : decode cX1_moveProject 8 = .ok (.getfield 19, 3) := dk_180 0 19 (dk_at dksX1_moveProject_0 8 rfl rfl)
theorem dX1_moveProject_11 : decode cX1_moveProject 11 = .ok (.invokevirtual 98, 3) := dk_182 0 98 (dk_at dksX1_moveProject_0 11 rfl rfl)
theorem dX1_moveProject_14 : decode cX1_moveProject 14 = .ok (.astore_n 3, 1) := dk_78 (dk_at dksX1_moveProject_0 14 rfl rfl)
theorem dX1_moveProject_15 : decode cX1_moveProject 15 = .ok (.aload_n 2, 1) := dk_44 (dk_at dksX1_moveProject_0 15 rfl rfl)
theorem dX1_moveProject_16 : decode cX1_moveProject 16 = .ok (.getfield 179, 3) := dk_180 0 179 (dk_at dksX1_moveProject_0 16 rfl rfl)
theorem dX1_moveProject_19 : decode cX1_moveProject 19 = .ok (.ifCond .eq 19, 3) := dk_153 0 19 (dk_at dksX1_moveProject_0 19 rfl rfl)
theorem dX1_moveProject_22 : decode cX1_moveProject 22 = .ok (.aload_n 3, 1) := dk_45 (dk_at dksX1_moveProject_0 22 rfl rfl)
theorem dX1_moveProject_23 : decode cX1_moveProject 23 = .ok (.ifnull 15, 3) := dk_198 0 15 (dk_at dksX1_moveProject_1 0 rfl rfl)
theorem dX1_moveProject_26 : decode cX1_moveProject 26 = .ok (.aload_n 3, 1) := dk_45 (dk_at dksX1_moveProject_1 3 rfl rfl)
theorem dX1_moveProject_27 : decode cX1_moveProject 27 = .ok (.aload_n 2, 1) := dk_44 (dk_at dksX1_moveProject_1 4 rfl rfl)
theorem dX1_moveProject_28 : decode cX1_moveProject 28 = .ok (.invokevirtual 184, 3) := dk_182 0 184 (dk_at dksX1_moveProject_1 5 rfl rfl)
theorem dX1_moveProject_31 : decode cX1_moveProject 31 = .ok (.ifCond .ne 7, 3) := dk_154 0 7 (dk_at dksX1_moveProject_1 8 rfl rfl)
theorem dX1_moveProject_34 : decode cX1_moveProject 34 = .ok (.iconst 1, 1) := dk_4 (dk_at dksX1_moveProject_1 11 rfl rfl)
theorem dX1_moveProject_35 : decode cX1_moveProject 35 = .ok (.goto 4, 3) := dk_167 0 4 (dk_at dksX1_moveProject_1 12 rfl rfl)
theorem dX1_moveProject_38 : decode cX1_moveProject 38 = .ok (.iconst 0, 1) := dk_3 (dk_at dksX1_moveProject_1 15 rfl rfl)
theorem dX1_moveProject_39 : decode cX1_moveProject 39 = .ok (.invokestatic 161, 3) := dk_184 0 161 (dk_at dksX1_moveProject_1 16 rfl rfl)
theorem dX1_moveProject_42 : decode cX1_moveProject 42 = .ok (.aload_n 2, 1) := dk_44 (dk_at dksX1_moveProject_1 19 rfl rfl)
theorem dX1_moveProject_43 : decode cX1_moveProject 43 = .ok (.getfield 85, 3) := dk_180 0 85 (dk_at dksX1_moveProject_1 20 rfl rfl)
theorem dX1_moveProject_46 : decode cX1_moveProject 46 = .ok (.invokevirtual 188, 3) := dk_182 0 188 (dk_at dksX1_moveProject_2 0 rfl rfl)
theorem dX1_moveProject_49 : decode cX1_moveProject 49 = .ok (.iconst 1, 1) := dk_4 (dk_at dksX1_moveProject_2 3 rfl rfl)
theorem dX1_moveProject_50 : decode cX1_moveProject 50 = .ok (.isub, 1) := dk_100 (dk_at dksX1_moveProject_2 4 rfl rfl)
theorem dX1_moveProject_51 : decode cX1_moveProject 51 = .ok (.istore 4, 2) := dk_54 4 (dk_at dksX1_moveProject_2 5 rfl rfl)
theorem dX1_moveProject_53 : decode cX1_moveProject 53 = .ok (.aload_n 0, 1) := dk_42 (dk_at dksX1_moveProject_2 7 rfl rfl)
theorem dX1_moveProject_54 : decode cX1_moveProject 54 = .ok (.aload_n 2, 1) := dk_44 (dk_at dksX1_moveProject_2 8 rfl rfl)
theorem dX1_moveProject_55 : decode cX1_moveProject 55 = .ok (.aload_n 3, 1) := dk_45 (dk_at dksX1_moveProject_2 9 rfl rfl)
theorem dX1_moveProject_56 : decode cX1_moveProject 56 = .ok (.getfield 85, 3) := dk_180 0 85 (dk_at dksX1_moveProject_2 10 rfl rfl)
theorem dX1_moveProject_59 : decode cX1_moveProject 59 = .ok (.iload 4, 2) := dk_21 4 (dk_at dksX1_moveProject_2 13 rfl rfl)
theorem dX1_moveProject_61 : decode cX1_moveProject 61 = .ok (.invokevirtual 189, 3) := dk_182 0 189 (dk_at dksX1_moveProject_2 15 rfl rfl)
theorem dX1_moveProject_64 : decode cX1_moveProject 64 = .ok (.invokevirtual 98, 3) := dk_182 0 98 (dk_at dksX1_moveProject_2 18 rfl rfl)
theorem dX1_moveProject_67 : decode cX1_moveProject 67 = .ok (.astore 5, 2) := dk_58 5 (dk_at dksX1_moveProject_2 21 rfl rfl)
theorem dX1_moveProject_69 : decode cX1_moveProject 69 = .ok (.aload 5, 2) := dk_25 5 (dk_at dksX1_moveProject_3 0 rfl rfl)
theorem dX1_moveProject_71 : decode cX1_moveProject 71 = .ok (.ifnull 9, 3) := dk_198 0 9 (dk_at dksX1_moveProject_3 2 rfl rfl)
theorem dX1_moveProject_74 : decode cX1_moveProject 74 = .ok (.aload 5, 2) := dk_25 5 (dk_at dksX1_moveProject_3 5 rfl rfl)
theorem dX1_moveProject_76 : decode cX1_moveProject 76 = .ok (.aload_n 2, 1) := dk_44 (dk_at dksX1_moveProject_3 7 rfl rfl)
theorem dX1_moveProject_77 : decode cX1_moveProject 77 = .ok (.if_acmp .ne 7, 3) := dk_166 0 7 (dk_at dksX1_moveProject_3 8 rfl rfl)
theorem dX1_moveProject_80 : decode cX1_moveProject 80 = .ok (.iconst 1, 1) := dk_4 (dk_at dksX1_moveProject_3 11 rfl rfl)
theorem dX1_moveProject_81 : decode cX1_moveProject 81 = .ok (.goto 4, 3) := dk_167 0 4 (dk_at dksX1_moveProject_3 12 rfl rfl)
theorem dX1_moveProject_84 : decode cX1_moveProject 84 = .ok (.iconst 0, 1) := dk_3 (dk_at dksX1_moveProject_3 15 rfl rfl)
theorem dX1_moveProject_85 : decode cX1_moveProject 85 = .ok (.invokestatic 161, 3) := dk_184 0 161 (dk_at dksX1_moveProject_3 16 rfl rfl)
theorem dX1_moveProject_88 : decode cX1_moveProject 88 = .ok (.new 34, 3) := dk_187 0 34 (dk_at dksX1_moveProject_3 19 rfl rfl)
theorem dX1_moveProject_91 : decode cX1_moveProject 91 = .ok (.dup, 1) := dk_89 (dk_at dksX1_moveProject_3 22 rfl rfl)
theorem dX1_moveProject_92 : decode cX1_moveProject 92 = .ok (.invokespecial 36, 3) := dk_183 0 36 (dk_at dksX1_moveProject_4 0 rfl rfl)
theorem dX1_moveProject_95 : decode cX1_moveProject 95 = .ok (.astore 6, 2) := dk_58 6 (dk_at dksX1_moveProject_4 3 rfl rfl)
theorem dX1_moveProject_97 : decode cX1_moveProject 97 = .ok (.iconst 1, 1) := dk_4 (dk_at dksX1_moveProject_4 5 rfl rfl)
theorem dX1_moveProject_98 : decode cX1_moveProject 98 = .ok (.istore 7, 2) := dk_54 7 (dk_at dksX1_moveProject_4 6 rfl rfl)
theorem dX1_moveProject_100 : decode cX1_moveProject 100 = .ok (.iconst 0, 1) := dk_3 (dk_at dksX1_moveProject_4 8 rfl rfl)
theorem dX1_moveProject_101 : decode cX1_moveProject 101 = .ok (.istore 8, 2) := dk_54 8 (dk_at dksX1_moveProject_4 9 rfl rfl)
theorem dX1_moveProject_103 : decode cX1_moveProject 103 = .ok (.iload 8, 2) := dk_21 8 (dk_at dksX1_moveProject_4 11 rfl rfl)
theorem dX1_moveProject_105 : decode cX1_moveProject 105 = .ok (.aload_n 0, 1) := dk_42 (dk_at dksX1_moveProject_4 13 rfl rfl)
theorem dX1_moveProject_106 : decode cX1_moveProject 106 = .ok (.getfield 37, 3) := dk_180 0 37 (dk_at dksX1_moveProject_4 14 rfl rfl)
theorem dX1_moveProject_109 : decode cX1_moveProject 109 = .ok (.invokevirtual 67, 3) := dk_182 0 67 (dk_at dksX1_moveProject_4 17 rfl rfl)
theorem dX1_moveProject_112 : decode cX1_moveProject 112 = .ok (.if_icmp .ge 87, 3) := dk_162 0 87 (dk_at dksX1_moveProject_4 20 rfl rfl)
theorem dX1_moveProject_115 : decode cX1_moveProject 115 = .ok (.aload_n 0, 1) := dk_42 (dk_at dksX1_moveProject_4 23 rfl rfl)
theorem dX1_moveProject_116 : decode cX1_moveProject 116 = .ok (.getfield 37, 3) := dk_180 0 37 (dk_at dksX1_moveProject_5 0 rfl rfl)
theorem dX1_moveProject_119 : decode cX1_moveProject 119 = .ok (.iload 8, 2) := dk_21 8 (dk_at dksX1_moveProject_5 3 rfl rfl)
theorem dX1_moveProject_121 : decode cX1_moveProject 121 = .ok (.invokevirtual 75, 3) := dk_182 0 75 (dk_at dksX1_moveProject_5 5 rfl rfl)
theorem dX1_moveProject_124 : decode cX1_moveProject 124 = .ok (.checkcast 52, 3) := dk_192 0 52 (dk_at dksX1_moveProject_5 8 rfl rfl)
theorem dX1_moveProject_127 : decode cX1_moveProject 127 = .ok (.aload_n 2, 1) := dk_44 (dk_at dksX1_moveProject_5 11 rfl rfl)
theorem dX1_moveProject_128 : decode cX1_moveProject 128 = .ok (.invokevirtual 184, 3) := dk_182 0 184 (dk_at dksX1_moveProject_5 12 rfl rfl)
theorem dX1_moveProject_131 : decode cX1_moveProject 131 = .ok (.ifCond .eq 62, 3) := dk_153 0 62 (dk_at dksX1_moveProject_5 15 rfl rfl)
theorem dX1_moveProject_134 : decode cX1_moveProject 134 = .ok (.aload 6, 2) := dk_25 6 (dk_at dksX1_moveProject_5 18 rfl rfl)
theorem dX1_moveProject_136 : decode cX1_moveProject 136 = .ok (.aload_n 0, 1) := dk_42 (dk_at dksX1_moveProject_5 20 rfl rfl)
theorem dX1_moveProject_137 : decode cX1_moveProject 137 = .ok (.getfield 37, 3) := dk_180 0 37 (dk_at dksX1_moveProject_5 21 rfl rfl)
theorem dX1_moveProject_140 : decode cX1_moveProject 140 = .ok (.iload 8, 2) := dk_21 8 (dk_at dksX1_moveProject_6 0 rfl rfl)
theorem dX1_moveProject_142 : decode cX1_moveProject 142 = .ok (.invokevirtual 75, 3) := dk_182 0 75 (dk_at dksX1_moveProject_6 2 rfl rfl)
theorem dX1_moveProject_145 : decode cX1_moveProject 145 = .ok (.checkcast 52, 3) := dk_192 0 52 (dk_at dksX1_moveProject_6 5 rfl rfl)
theorem dX1_moveProject_148 : decode cX1_moveProject 148 = .ok (.invokevirtual 59, 3) := dk_182 0 59 (dk_at dksX1_moveProject_6 8 rfl rfl)
theorem dX1_moveProject_151 : decode cX1_moveProject 151 = .ok (.pop, 1) := dk_87 (dk_at dksX1_moveProject_6 11 rfl rfl)
theorem dX1_moveProject_152 : decode cX1_moveProject 152 = .ok (.iload 7, 2) := dk_21 7 (dk_at dksX1_moveProject_6 12 rfl rfl)
theorem dX1_moveProject_154 : decode cX1_moveProject 154 = .ok (.ifCond .eq 36, 3) := dk_153 0 36 (dk_at dksX1_moveProject_6 14 rfl rfl)
theorem dX1_moveProject_157 : decode cX1_moveProject 157 = .ok (.aload_n 0, 1) := dk_42 (dk_at dksX1_moveProject_6 17 rfl rfl)
theorem dX1_moveProject_158 : decode cX1_moveProject 158 = .ok (.getfield 37, 3) := dk_180 0 37 (dk_at dksX1_moveProject_6 18 rfl rfl)
theorem dX1_moveProject_161 : decode cX1_moveProject 161 = .ok (.iload 8, 2) := dk_21 8 (dk_at dksX1_moveProject_6 21 rfl rfl)
theorem dX1_moveProject_163 : decode cX1_moveProject 163 = .ok (.invokevirtual 75, 3) := dk_182 0 75 (dk_at dksX1_moveProject_7 0 rfl rfl)
theorem dX1_moveProject_166 : decode cX1_moveProject 166 = .ok (.checkcast 52, 3) := dk_192 0 52 (dk_at dksX1_moveProject_7 3 rfl rfl)
theorem dX1_moveProject_169 : decode cX1_moveProject 169 = .ok (.aload_n 3, 1) := dk_45 (dk_at dksX1_moveProject_7 6 rfl rfl)
theorem dX1_moveProject_170 : decode cX1_moveProject 170 = .ok (.getfield 85, 3) := dk_180 0 85 (dk_at dksX1_moveProject_7 7 rfl rfl)
theorem dX1_moveProject_173 : decode cX1_moveProject 173 = .ok (.iload 4, 2) := dk_21 4 (dk_at dksX1_moveProject_7 10 rfl rfl)
theorem dX1_moveProject_175 : decode cX1_moveProject 175 = .ok (.invokevirtual 189, 3) := dk_182 0 189 (dk_at dksX1_moveProject_7 12 rfl rfl)
theorem dX1_moveProject_178 : decode cX1_moveProject 178 = .ok (.invokevirtual 188, 3) := dk_182 0 188 (dk_at dksX1_moveProject_7 15 rfl rfl)
theorem dX1_moveProject_181 : decode cX1_moveProject 181 = .ok (.bipush 8, 2) := dk_16 8 (dk_at dksX1_moveProject_7 18 rfl rfl)
theorem dX1_moveProject_183 : decode cX1_moveProject 183 = .ok (.if_icmp .gt 7, 3) := dk_163 0 7 (dk_at dksX1_moveProject_7 20 rfl rfl)
theorem dX1_moveProject_186 : decode cX1_moveProject 186 = .ok (.iconst 1, 1) := dk_4 (dk_at dksX1_moveProject_7 23 rfl rfl)
theorem dX1_moveProject_187 : decode cX1_moveProject 187 = .ok (.goto 4, 3) := dk_167 0 4 (dk_at dksX1_moveProject_8 0 rfl rfl)
theorem dX1_moveProject_190 : decode cX1_moveProject 190 = .ok (.iconst 0, 1) := dk_3 (dk_at dksX1_moveProject_8 3 rfl rfl)
theorem dX1_moveProject_191 : decode cX1_moveProject 191 = .ok (.istore 7, 2) := dk_54 7 (dk_at dksX1_moveProject_8 4 rfl rfl)
theorem dX1_moveProject_193 : decode cX1_moveProject 193 = .ok (.iinc 8 1, 3) := dk_132 8 1 (dk_at dksX1_moveProject_8 6 rfl rfl)
theorem dX1_moveProject_196 : decode cX1_moveProject 196 = .ok (.goto (-93), 3) := dk_167 255 163 (dk_at dksX1_moveProject_8 9 rfl rfl)
theorem dX1_moveProject_199 : decode cX1_moveProject 199 = .ok (.iload 7, 2) := dk_21 7 (dk_at dksX1_moveProject_8 12 rfl rfl)
theorem dX1_moveProject_201 : decode cX1_moveProject 201 = .ok (.invokestatic 161, 3) := dk_184 0 161 (dk_at dksX1_moveProject_8 14 rfl rfl)
theorem dX1_moveProject_204 : decode cX1_moveProject 204 = .ok (.aload_n 0, 1) := dk_42 (dk_at dksX1_moveProject_8 17 rfl rfl)
theorem dX1_moveProject_205 : decode cX1_moveProject 205 = .ok (.iconst (-1), 1) := dk_2 (dk_at dksX1_moveProject_8 18 rfl rfl)
theorem dX1_moveProject_206 : decode cX1_moveProject 206 = .ok (.invokevirtual 193, 3) := dk_182 0 193 (dk_at dksX1_moveProject_8 19 rfl rfl)
theorem dX1_moveProject_209 : decode cX1_moveProject 209 = .ok (.iconst 0, 1) := dk_3 (dk_at dksX1_moveProject_8 22 rfl rfl)
theorem dX1_moveProject_210 : decode cX1_moveProject 210 = .ok (.istore 8, 2) := dk_54 8 (dk_at dksX1_moveProject_9 0 rfl rfl)
theorem dX1_moveProject_212 : decode cX1_moveProject 212 = .ok (.aload_n 3, 1) := dk_45 (dk_at dksX1_moveProject_9 2 rfl rfl)
theorem dX1_moveProject_213 : decode cX1_moveProject 213 = .ok (.getfield 85, 3) := dk_180 0 85 (dk_at dksX1_moveProject_9 3 rfl rfl)
theorem dX1_moveProject_216 : decode cX1_moveProject 216 = .ok (.astore 9, 2) := dk_58 9 (dk_at dksX1_moveProject_9 6 rfl rfl)
theorem dX1_moveProject_218 : decode cX1_moveProject 218 = .ok (.iconst 0, 1) := dk_3 (dk_at dksX1_moveProject_9 8 rfl rfl)
theorem dX1_moveProject_219 : decode cX1_moveProject 219 = .ok (.istore 10, 2) := dk_54 10 (dk_at dksX1_moveProject_9 9 rfl rfl)
theorem dX1_moveProject_221 : decode cX1_moveProject 221 = .ok (.iload 10, 2) := dk_21 10 (dk_at dksX1_moveProject_9 11 rfl rfl)
theorem dX1_moveProject_223 : decode cX1_moveProject 223 = .ok (.aload 6, 2) := dk_25 6 (dk_at dksX1_moveProject_9 13 rfl rfl)
theorem dX1_moveProject_225 : decode cX1_moveProject 225 = .ok (.invokevirtual 67, 3) := dk_182 0 67 (dk_at dksX1_moveProject_9 15 rfl rfl)
theorem dX1_moveProject_228 : decode cX1_moveProject 228 = .ok (.if_icmp .ge 74, 3) := dk_162 0 74 (dk_at dksX1_moveProject_9 18 rfl rfl)
theorem dX1_moveProject_231 : decode cX1_moveProject 231 = .ok (.aload 6, 2) := dk_25 6 (dk_at dksX1_moveProject_9 21 rfl rfl)
theorem dX1_moveProject_233 : decode cX1_moveProject 233 = .ok (.iload 10, 2) := dk_21 10 (dk_at dksX1_moveProject_10 0 rfl rfl)
theorem dX1_moveProject_235 : decode cX1_moveProject 235 = .ok (.invokevirtual 75, 3) := dk_182 0 75 (dk_at dksX1_moveProject_10 2 rfl rfl)
theorem dX1_moveProject_238 : decode cX1_moveProject 238 = .ok (.checkcast 52, 3) := dk_192 0 52 (dk_at dksX1_moveProject_10 5 rfl rfl)
theorem dX1_moveProject_241 : decode cX1_moveProject 241 = .ok (.aload 9, 2) := dk_25 9 (dk_at dksX1_moveProject_10 8 rfl rfl)
theorem dX1_moveProject_243 : decode cX1_moveProject 243 = .ok (.iload 4, 2) := dk_21 4 (dk_at dksX1_moveProject_10 10 rfl rfl)
theorem dX1_moveProject_245 : decode cX1_moveProject 245 = .ok (.invokevirtual 189, 3) := dk_182 0 189 (dk_at dksX1_moveProject_10 12 rfl rfl)
theorem dX1_moveProject_248 : decode cX1_moveProject 248 = .ok (.astore 11, 2) := dk_58 11 (dk_at dksX1_moveProject_10 15 rfl rfl)
theorem dX1_moveProject_250 : decode cX1_moveProject 250 = .ok (.iload 8, 2) := dk_21 8 (dk_at dksX1_moveProject_10 17 rfl rfl)
theorem dX1_moveProject_252 : decode cX1_moveProject 252 = .ok (.aload 11, 2) := dk_25 11 (dk_at dksX1_moveProject_10 19 rfl rfl)
theorem dX1_moveProject_254 : decode cX1_moveProject 254 = .ok (.aload 6, 2) := dk_25 6 (dk_at dksX1_moveProject_10 21 rfl rfl)
theorem dX1_moveProject_256 : decode cX1_moveProject 256 = .ok (.iload 10, 2) := dk_21 10 (dk_at dksX1_moveProject_11 0 rfl rfl)
theorem dX1_moveProject_258 : decode cX1_moveProject 258 = .ok (.invokevirtual 75, 3) := dk_182 0 75 (dk_at dksX1_moveProject_11 2 rfl rfl)
theorem dX1_moveProject_261 : decode cX1_moveProject 261 = .ok (.checkcast 52, 3) := dk_192 0 52 (dk_at dksX1_moveProject_11 5 rfl rfl)
theorem dX1_moveProject_264 : decode cX1_moveProject 264 = .ok (.getfield 85, 3) := dk_180 0 85 (dk_at dksX1_moveProject_11 8 rfl rfl)
theorem dX1_moveProject_267 : decode cX1_moveProject 267 = .ok (.invokevirtual 196, 3) := dk_182 0 196 (dk_at dksX1_moveProject_11 11 rfl rfl)
theorem dX1_moveProject_270 : decode cX1_moveProject 270 = .ok (.ifCond .eq 7, 3) := dk_153 0 7 (dk_at dksX1_moveProject_11 14 rfl rfl)
theorem dX1_moveProject_273 : decode cX1_moveProject 273 = .ok (.iconst 0, 1) := dk_3 (dk_at dksX1_moveProject_11 17 rfl rfl)
theorem dX1_moveProject_274 : decode cX1_moveProject 274 = .ok (.goto 4, 3) := dk_167 0 4 (dk_at dksX1_moveProject_11 18 rfl rfl)
theorem dX1_moveProject_277 : decode cX1_moveProject 277 = .ok (.iconst 1, 1) := dk_4 (dk_at dksX1_moveProject_11 21 rfl rfl)
theorem dX1_moveProject_278 : decode cX1_moveProject 278 = .ok (.iadd, 1) := dk_96 (dk_at dksX1_moveProject_11 22 rfl rfl)
theorem dX1_moveProject_279 : decode cX1_moveProject 279 = .ok (.istore 8, 2) := dk_54 8 (dk_at dksX1_moveProject_12 0 rfl rfl)
theorem dX1_moveProject_281 : decode cX1_moveProject 281 = .ok (.aload 6, 2) := dk_25 6 (dk_at dksX1_moveProject_12 2 rfl rfl)
theorem dX1_moveProject_283 : decode cX1_moveProject 283 = .ok (.iload 10, 2) := dk_21 10 (dk_at dksX1_moveProject_12 4 rfl rfl)
theorem dX1_moveProject_285 : decode cX1_moveProject 285 = .ok (.invokevirtual 75, 3) := dk_182 0 75 (dk_at dksX1_moveProject_12 6 rfl rfl)
theorem dX1_moveProject_288 : decode cX1_moveProject 288 = .ok (.checkcast 52, 3) := dk_192 0 52 (dk_at dksX1_moveProject_12 9 rfl rfl)
theorem dX1_moveProject_291 : decode cX1_moveProject 291 = .ok (.aload 11, 2) := dk_25 11 (dk_at dksX1_moveProject_12 12 rfl rfl)
theorem dX1_moveProject_293 : decode cX1_moveProject 293 = .ok (.putfield 85, 3) := dk_181 0 85 (dk_at dksX1_moveProject_12 14 rfl rfl)
theorem dX1_moveProject_296 : decode cX1_moveProject 296 = .ok (.iinc 10 1, 3) := dk_132 10 1 (dk_at dksX1_moveProject_12 17 rfl rfl)
theorem dX1_moveProject_299 : decode cX1_moveProject 299 = .ok (.goto (-78), 3) := dk_167 255 178 (dk_at dksX1_moveProject_12 20 rfl rfl)
theorem dX1_moveProject_302 : decode cX1_moveProject 302 = .ok (.aload_n 0, 1) := dk_42 (dk_at dksX1_moveProject_12 23 rfl rfl)
theorem dX1_moveProject_303 : decode cX1_moveProject 303 = .ok (.iconst 1, 1) := dk_4 (dk_at dksX1_moveProject_13 0 rfl rfl)
theorem dX1_moveProject_304 : decode cX1_moveProject 304 = .ok (.invokevirtual 193, 3) := dk_182 0 193 (dk_at dksX1_moveProject_13 1 rfl rfl)
theorem dX1_moveProject_307 : decode cX1_moveProject 307 = .ok (.aload_n 0, 1) := dk_42 (dk_at dksX1_moveProject_13 4 rfl rfl)
theorem dX1_moveProject_308 : decode cX1_moveProject 308 = .ok (.invokevirtual 151, 3) := dk_182 0 151 (dk_at dksX1_moveProject_13 5 rfl rfl)
theorem dX1_moveProject_311 : decode cX1_moveProject 311 = .ok (.iload 8, 2) := dk_21 8 (dk_at dksX1_moveProject_13 8 rfl rfl)
theorem dX1_moveProject_313 : decode cX1_moveProject 313 = .ok (.ireturn, 1) := dk_172 (dk_at dksX1_moveProject_13 10 rfl rfl)
abbrev cX1_projectAt : ByteArray := prog_1_method_7_code
def yX1_projectAt : MethodName := ⟨RX1, "projectAt", "(I)LAllotmentLedger$Project;"⟩
def dkwX1_projectAt_1 : List UInt8 := [182, 0, 75, 192, 0, 52, 176]
abbrev dktX1_projectAt_1 : List UInt8 := dkwX1_projectAt_1 ++ []
def dkwX1_projectAt_0 : List UInt8 := [27, 3, 42, 180, 0, 37, 182, 0, 67, 4, 100, 184, 0, 63, 184, 0, 71, 42, 180, 0, 37, 27]
abbrev dktX1_projectAt_0 : List UInt8 := dkwX1_projectAt_0 ++ dktX1_projectAt_1
theorem dksX1_projectAt_0 : cX1_projectAt.data.toList.drop 0 = dktX1_projectAt_0 := by decide +kernel
theorem dksX1_projectAt_1 : cX1_projectAt.data.toList.drop 22 = dktX1_projectAt_1 := dk_seg dksX1_projectAt_0 22 rfl rfl
theorem dX1_projectAt_0 : decode cX1_projectAt 0 = .ok (.iload_n 1, 1) := dk_27 (dk_at dksX1_projectAt_0 0 rfl rfl)
theorem dX1_projectAt_1 : decode cX1_projectAt 1 = .ok (.iconst 0, 1) := dk_3 (dk_at dksX1_projectAt_0 1 rfl rfl)
theorem dX1_projectAt_2 : decode cX1_projectAt 2 = .ok (.aload_n 0, 1) := dk_42 (dk_at dksX1_projectAt_0 2 rfl rfl)
theorem dX1_projectAt_3 : decode cX1_projectAt 3 = .ok (.getfield 37, 3) := dk_180 0 37 (dk_at dksX1_projectAt_0 3 rfl rfl)
theorem dX1_projectAt_6 : decode cX1_projectAt 6 = .ok (.invokevirtual 67, 3) := dk_182 0 67 (dk_at dksX1_projectAt_0 6 rfl rfl)
theorem dX1_projectAt_9 : decode cX1_projectAt 9 = .ok (.iconst 1, 1) := dk_4 (dk_at dksX1_projectAt_0 9 rfl rfl)
theorem dX1_projectAt_10 : decode cX1_projectAt 10 = .ok (.isub, 1) := dk_100 (dk_at dksX1_projectAt_0 10 rfl rfl)
theorem dX1_projectAt_11 : decode cX1_projectAt 11 = .ok (.invokestatic 63, 3) := dk_184 0 63 (dk_at dksX1_projectAt_0 11 rfl rfl)
theorem dX1_projectAt_14 : decode cX1_projectAt 14 = .ok (.invokestatic 71, 3) := dk_184 0 71 (dk_at dksX1_projectAt_0 14 rfl rfl)
theorem dX1_projectAt_17 : decode cX1_projectAt 17 = .ok (.aload_n 0, 1) := dk_42 (dk_at dksX1_projectAt_0 17 rfl rfl)
theorem dX1_projectAt_18 : decode cX1_projectAt 18 = .ok (.getfield 37, 3) := dk_180 0 37 (dk_at dksX1_projectAt_0 18 rfl rfl)
theorem dX1_projectAt_21 : decode cX1_projectAt 21 = .ok (.iload_n 1, 1) := dk_27 (dk_at dksX1_projectAt_0 21 rfl rfl)
theorem dX1_projectAt_22 : decode cX1_projectAt 22 = .ok (.invokevirtual 75, 3) := dk_182 0 75 (dk_at dksX1_projectAt_1 0 rfl rfl)
theorem dX1_projectAt_25 : decode cX1_projectAt 25 = .ok (.checkcast 52, 3) := dk_192 0 52 (dk_at dksX1_projectAt_1 3 rfl rfl)
theorem dX1_projectAt_28 : decode cX1_projectAt 28 = .ok (.areturn, 1) := dk_176 (dk_at dksX1_projectAt_1 6 rfl rfl)
abbrev cX1_inRange : ByteArray := prog_1_method_1_code
def yX1_inRange : MethodName := ⟨RX1, "inRange", "(III)Z"⟩
def dkwX1_inRange_0 : List UInt8 := [26, 27, 161, 0, 12, 26, 28, 163, 0, 7, 4, 167, 0, 4, 3, 172]
abbrev dktX1_inRange_0 : List UInt8 := dkwX1_inRange_0 ++ []
theorem dksX1_inRange_0 : cX1_inRange.data.toList.drop 0 = dktX1_inRange_0 := by decide +kernel
theorem dX1_inRange_0 : decode cX1_inRange 0 = .ok (.iload_n 0, 1) := dk_26 (dk_at dksX1_inRange_0 0 rfl rfl)
theorem dX1_inRange_1 : decode cX1_inRange 1 = .ok (.iload_n 1, 1) := dk_27 (dk_at dksX1_inRange_0 1 rfl rfl)
theorem dX1_inRange_2 : decode cX1_inRange 2 = .ok (.if_icmp .lt 12, 3) := dk_161 0 12 (dk_at dksX1_inRange_0 2 rfl rfl)
theorem dX1_inRange_5 : decode cX1_inRange 5 = .ok (.iload_n 0, 1) := dk_26 (dk_at dksX1_inRange_0 5 rfl rfl)
theorem dX1_inRange_6 : decode cX1_inRange 6 = .ok (.iload_n 2, 1) := dk_28 (dk_at dksX1_inRange_0 6 rfl rfl)
theorem dX1_inRange_7 : decode cX1_inRange 7 = .ok (.if_icmp .gt 7, 3) := dk_163 0 7 (dk_at dksX1_inRange_0 7 rfl rfl)
theorem dX1_inRange_10 : decode cX1_inRange 10 = .ok (.iconst 1, 1) := dk_4 (dk_at dksX1_inRange_0 10 rfl rfl)
theorem dX1_inRange_11 : decode cX1_inRange 11 = .ok (.goto 4, 3) := dk_167 0 4 (dk_at dksX1_inRange_0 11 rfl rfl)
theorem dX1_inRange_14 : decode cX1_inRange 14 = .ok (.iconst 0, 1) := dk_3 (dk_at dksX1_inRange_0 14 rfl rfl)
theorem dX1_inRange_15 : decode cX1_inRange 15 = .ok (.ireturn, 1) := dk_172 (dk_at dksX1_inRange_0 15 rfl rfl)
abbrev cX1_requireIndex : ByteArray := prog_1_method_2_code
def yX1_requireIndex : MethodName := ⟨RX1, "requireIndex", "(Z)V"⟩
def dkwX1_requireIndex_0 : List UInt8 := [26, 154, 0, 11, 187, 0, 1, 89, 183, 0, 3, 191, 177]
abbrev dktX1_requireIndex_0 : List UInt8 := dkwX1_requireIndex_0 ++ []
theorem dksX1_requireIndex_0 : cX1_requireIndex.data.toList.drop 0 = dktX1_requireIndex_0 := by decide +kernel
theorem dX1_requireIndex_0 : decode cX1_requireIndex 0 = .ok (.iload_n 0, 1) := dk_26 (dk_at dksX1_requireIndex_0 0 rfl rfl)
theorem dX1_requireIndex_1 : decode cX1_requireIndex 1 = .ok (.ifCond .ne 11, 3) := dk_154 0 11 (dk_at dksX1_requireIndex_0 1 rfl rfl)
theorem dX1_requireIndex_4 : decode cX1_requireIndex 4 = .ok (.new 1, 3) := dk_187 0 1 (dk_at dksX1_requireIndex_0 4 rfl rfl)
theorem dX1_requireIndex_7 : decode cX1_requireIndex 7 = .ok (.dup, 1) := dk_89 (dk_at dksX1_requireIndex_0 7 rfl rfl)
theorem dX1_requireIndex_8 : decode cX1_requireIndex 8 = .ok (.invokespecial 3, 3) := dk_183 0 3 (dk_at dksX1_requireIndex_0 8 rfl rfl)
theorem dX1_requireIndex_11 : decode cX1_requireIndex 11 = .ok (.athrow, 1) := dk_191 (dk_at dksX1_requireIndex_0 11 rfl rfl)
theorem dX1_requireIndex_12 : decode cX1_requireIndex 12 = .ok (.return_, 1) := dk_177 (dk_at dksX1_requireIndex_0 12 rfl rfl)
abbrev cX1_countAll : ByteArray := prog_1_method_21_code
def yX1_countAll : MethodName := ⟨RX1, "countAll", "(I)V"⟩
def dkwX1_countAll_2 : List UInt8 := [132, 2, 1, 167, 255, 209, 177]
abbrev dktX1_countAll_2 : List UInt8 := dkwX1_countAll_2 ++ []
def dkwX1_countAll_1 : List UInt8 := [180, 0, 81, 154, 0, 19, 42, 42, 180, 0, 41, 28, 182, 0, 75, 192, 0, 79, 27, 182, 0, 143]
abbrev dktX1_countAll_1 : List UInt8 := dkwX1_countAll_1 ++ dktX1_countAll_2
def dkwX1_countAll_0 : List UInt8 := [3, 61, 28, 42, 180, 0, 41, 182, 0, 67, 162, 0, 42, 42, 180, 0, 41, 28, 182, 0, 75, 192, 0, 79]
abbrev dktX1_countAll_0 : List UInt8 := dkwX1_countAll_0 ++ dktX1_countAll_1
theorem dksX1_countAll_0 : cX1_countAll.data.toList.drop 0 = dktX1_countAll_0 := by decide +kernel
theorem dksX1_countAll_1 : cX1_countAll.data.toList.drop 24 = dktX1_countAll_1 := dk_seg dksX1_countAll_0 24 rfl rfl
theorem dksX1_countAll_2 : cX1_countAll.data.toList.drop 46 = dktX1_countAll_2 := dk_seg dksX1_countAll_1 22 rfl rfl
theorem dX1_countAll_0 : decode cX1_countAll 0 = .ok (.iconst 0, 1) := dk_3 (dk_at dksX1_countAll_0 0 rfl rfl)
theorem dX1_countAll_1 : decode cX1_countAll 1 = .ok (.istore_n 2, 1) := dk_61 (dk_at dksX1_countAll_0 1 rfl rfl)
theorem dX1_countAll_2 : decode cX1_countAll 2 = .ok (.iload_n 2, 1) := dk_28 (dk_at dksX1_countAll_0 2 rfl rfl)
theorem dX1_countAll_3 : decode cX1_countAll 3 = .ok (.aload_n 0, 1) := dk_42 (dk_at dksX1_countAll_0 3 rfl rfl)
theorem dX1_countAll_4 : decode cX1_countAll 4 = .ok (.getfield 41, 3) := dk_180 0 41 (dk_at dksX1_countAll_0 4 rfl rfl)
theorem dX1_countAll_7 : decode cX1_countAll 7 = .ok (.invokevirtual 67, 3) := dk_182 0 67 (dk_at dksX1_countAll_0 7 rfl rfl)
theorem dX1_countAll_10 : decode cX1_countAll 10 = .ok (.if_icmp .ge 42, 3) := dk_162 0 42 (dk_at dksX1_countAll_0 10 rfl rfl)
theorem dX1_countAll_13 : decode cX1_countAll 13 = .ok (.aload_n 0, 1) := dk_42 (dk_at dksX1_countAll_0 13 rfl rfl)
theorem dX1_countAll_14 : decode cX1_countAll 14 = .ok (.getfield 41, 3) := dk_180 0 41 (dk_at dksX1_countAll_0 14 rfl rfl)
theorem dX1_countAll_17 : decode cX1_countAll 17 = .ok (.iload_n 2, 1) := dk_28 (dk_at dksX1_countAll_0 17 rfl rfl)
theorem dX1_countAll_18 : decode cX1_countAll 18 = .ok (.invokevirtual 75, 3) := dk_182 0 75 (dk_at dksX1_countAll_0 18 rfl rfl)
theorem dX1_countAll_21 : decode cX1_countAll 21 = .ok (.checkcast 79, 3) := dk_192 0 79 (dk_at dksX1_countAll_0 21 rfl rfl)
theorem dX1_countAll_24 : decode cX1_countAll 24 = .ok (.getfield 81, 3) := dk_180 0 81 (dk_at dksX1_countAll_1 0 rfl rfl)
theorem dX1_countAll_27 : decode cX1_countAll 27 = .ok (.ifCond .ne 19, 3) := dk_154 0 19 (dk_at dksX1_countAll_1 3 rfl rfl)
theorem dX1_countAll_30 : decode cX1_countAll 30 = .ok (.aload_n 0, 1) := dk_42 (dk_at dksX1_countAll_1 6 rfl rfl)
theorem dX1_countAll_31 : decode cX1_countAll 31 = .ok (.aload_n 0, 1) := dk_42 (dk_at dksX1_countAll_1 7 rfl rfl)
theorem dX1_countAll_32 : decode cX1_countAll 32 = .ok (.getfield 41, 3) := dk_180 0 41 (dk_at dksX1_countAll_1 8 rfl rfl)
theorem dX1_countAll_35 : decode cX1_countAll 35 = .ok (.iload_n 2, 1) := dk_28 (dk_at dksX1_countAll_1 11 rfl rfl)
theorem dX1_countAll_36 : decode cX1_countAll 36 = .ok (.invokevirtual 75, 3) := dk_182 0 75 (dk_at dksX1_countAll_1 12 rfl rfl)
theorem dX1_countAll_39 : decode cX1_countAll 39 = .ok (.checkcast 79, 3) := dk_192 0 79 (dk_at dksX1_countAll_1 15 rfl rfl)
theorem dX1_countAll_42 : decode cX1_countAll 42 = .ok (.iload_n 1, 1) := dk_27 (dk_at dksX1_countAll_1 18 rfl rfl)
theorem dX1_countAll_43 : decode cX1_countAll 43 = .ok (.invokevirtual 143, 3) := dk_182 0 143 (dk_at dksX1_countAll_1 19 rfl rfl)
theorem dX1_countAll_46 : decode cX1_countAll 46 = .ok (.iinc 2 1, 3) := dk_132 2 1 (dk_at dksX1_countAll_2 0 rfl rfl)
theorem dX1_countAll_49 : decode cX1_countAll 49 = .ok (.goto (-47), 3) := dk_167 255 209 (dk_at dksX1_countAll_2 3 rfl rfl)
theorem dX1_countAll_52 : decode cX1_countAll 52 = .ok (.return_, 1) := dk_177 (dk_at dksX1_countAll_2 6 rfl rfl)
abbrev cX1_count : ByteArray := prog_1_method_11_code
def yX1_count : MethodName := ⟨RX1, "count", "(LAllotmentLedger$Entry;I)V"⟩
def dkwX1_count_4 : List UInt8 := [96, 181, 0, 129, 132, 4, 1, 167, 255, 175, 177]
abbrev dktX1_count_4 : List UInt8 := dkwX1_count_4 ++ []
def dkwX1_count_3 : List UInt8 := [180, 0, 129, 43, 180, 0, 132, 42, 180, 0, 47, 162, 0, 12, 28, 43, 182, 0, 123, 104, 167, 0, 4, 3]
abbrev dktX1_count_3 : List UInt8 := dkwX1_count_3 ++ dktX1_count_4
def dkwX1_count_2 : List UInt8 := [182, 0, 123, 104, 96, 181, 0, 120, 25, 5, 89, 180, 0, 126, 28, 96, 181, 0, 126, 25, 5, 89]
abbrev dktX1_count_2 : List UInt8 := dkwX1_count_2 ++ dktX1_count_3
def dkwX1_count_1 : List UInt8 := [162, 0, 78, 45, 21, 4, 182, 0, 75, 192, 0, 25, 58, 5, 25, 5, 89, 180, 0, 120, 28, 43]
abbrev dktX1_count_1 : List UInt8 := dkwX1_count_1 ++ dktX1_count_2
def dkwX1_count_0 : List UInt8 := [42, 43, 180, 0, 109, 43, 180, 0, 112, 182, 0, 116, 78, 3, 54, 4, 21, 4, 45, 182, 0, 67]
abbrev dktX1_count_0 : List UInt8 := dkwX1_count_0 ++ dktX1_count_1
theorem dksX1_count_0 : cX1_count.data.toList.drop 0 = dktX1_count_0 := by decide +kernel
theorem dksX1_count_1 : cX1_count.data.toList.drop 22 = dktX1_count_1 := dk_seg dksX1_count_0 22 rfl rfl
theorem dksX1_count_2 : cX1_count.data.toList.drop 44 = dktX1_count_2 := dk_seg dksX1_count_1 22 rfl rfl
theorem dksX1_count_3 : cX1_count.data.toList.drop 66 = dktX1_count_3 := dk_seg dksX1_count_2 22 rfl rfl
theorem dksX1_count_4 : cX1_count.data.toList.drop 90 = dktX1_count_4 := dk_seg dksX1_count_3 24 rfl rfl
theorem dX1_count_0 : decode cX1_count 0 = .ok (.aload_n 0, 1) := dk_42 (dk_at dksX1_count_0 0 rfl rfl)
theorem dX1_count_1 : decode cX1_count 1 = .ok (.aload_n 1, 1) := dk_43 (dk_at dksX1_count_0 1 rfl rfl)
theorem dX1_count_2 : decode cX1_count 2 = .ok (.getfield 109, 3) := dk_180 0 109 (dk_at dksX1_count_0 2 rfl rfl)
theorem dX1_count_5 : decode cX1_count 5 = .ok (.aload_n 1, 1) := dk_43 (dk_at dksX1_count_0 5 rfl rfl)
theorem dX1_count_6 : decode cX1_count 6 = .ok (.getfield 112, 3) := dk_180 0 112 (dk_at dksX1_count_0 6 rfl rfl)
theorem dX1_count_9 : decode cX1_count 9 = .ok (.invokevirtual 116, 3) := dk_182 0 116 (dk_at dksX1_count_0 9 rfl rfl)
theorem dX1_count_12 : decode cX1_count 12 = .ok (.astore_n 3, 1) := dk_78 (dk_at dksX1_count_0 12 rfl rfl)
theorem dX1_count_13 : decode cX1_count 13 = .ok (.iconst 0, 1) := dk_3 (dk_at dksX1_count_0 13 rfl rfl)
theorem dX1_count_14 : decode cX1_count 14 = .ok (.istore 4, 2) := dk_54 4 (dk_at dksX1_count_0 14 rfl rfl)
theorem dX1_count_16 : decode cX1_count 16 = .ok (.iload 4, 2) := dk_21 4 (dk_at dksX1_count_0 16 rfl rfl)
theorem dX1_count_18 : decode cX1_count 18 = .ok (.aload_n 3, 1) := dk_45 (dk_at dksX1_count_0 18 rfl rfl)
theorem dX1_count_19 : decode cX1_count 19 = .ok (.invokevirtual 67, 3) := dk_182 0 67 (dk_at dksX1_count_0 19 rfl rfl)
theorem dX1_count_22 : decode cX1_count 22 = .ok (.if_icmp .ge 78, 3) := dk_162 0 78 (dk_at dksX1_count_1 0 rfl rfl)
theorem dX1_count_25 : decode cX1_count 25 = .ok (.aload_n 3, 1) := dk_45 (dk_at dksX1_count_1 3 rfl rfl)
theorem dX1_count_26 : decode cX1_count 26 = .ok (.iload 4, 2) := dk_21 4 (dk_at dksX1_count_1 4 rfl rfl)
theorem dX1_count_28 : decode cX1_count 28 = .ok (.invokevirtual 75, 3) := dk_182 0 75 (dk_at dksX1_count_1 6 rfl rfl)
theorem dX1_count_31 : decode cX1_count 31 = .ok (.checkcast 25, 3) := dk_192 0 25 (dk_at dksX1_count_1 9 rfl rfl)
theorem dX1_count_34 : decode cX1_count 34 = .ok (.astore 5, 2) := dk_58 5 (dk_at dksX1_count_1 12 rfl rfl)
theorem dX1_count_36 : decode cX1_count 36 = .ok (.aload 5, 2) := dk_25 5 (dk_at dksX1_count_1 14 rfl rfl)
theorem dX1_count_38 : decode cX1_count 38 = .ok (.dup, 1) := dk_89 (dk_at dksX1_count_1 16 rfl rfl)
theorem dX1_count_39 : decode cX1_count 39 = .ok (.getfield 120, 3) := dk_180 0 120 (dk_at dksX1_count_1 17 rfl rfl)
theorem dX1_count_42 : decode cX1_count 42 = .ok (.iload_n 2, 1) := dk_28 (dk_at dksX1_count_1 20 rfl rfl)
theorem dX1_count_43 : decode cX1_count 43 = .ok (.aload_n 1, 1) := dk_43 (dk_at dksX1_count_1 21 rfl rfl)
theorem dX1_count_44 : decode cX1_count 44 = .ok (.invokevirtual 123, 3) := dk_182 0 123 (dk_at dksX1_count_2 0 rfl rfl)
theorem dX1_count_47 : decode cX1_count 47 = .ok (.imul, 1) := dk_104 (dk_at dksX1_count_2 3 rfl rfl)
theorem dX1_count_48 : decode cX1_count 48 = .ok (.iadd, 1) := dk_96 (dk_at dksX1_count_2 4 rfl rfl)
theorem dX1_count_49 : decode cX1_count 49 = .ok (.putfield 120, 3) := dk_181 0 120 (dk_at dksX1_count_2 5 rfl rfl)
theorem dX1_count_52 : decode cX1_count 52 = .ok (.aload 5, 2) := dk_25 5 (dk_at dksX1_count_2 8 rfl rfl)
theorem dX1_count_54 : decode cX1_count 54 = .ok (.dup, 1) := dk_89 (dk_at dksX1_count_2 10 rfl rfl)
theorem dX1_count_55 : decode cX1_count 55 = .ok (.getfield 126, 3) := dk_180 0 126 (dk_at dksX1_count_2 11 rfl rfl)
theorem dX1_count_58 : decode cX1_count 58 = .ok (.iload_n 2, 1) := dk_28 (dk_at dksX1_count_2 14 rfl rfl)
theorem dX1_count_59 : decode cX1_count 59 = .ok (.iadd, 1) := dk_96 (dk_at dksX1_count_2 15 rfl rfl)
theorem dX1_count_60 : decode cX1_count 60 = .ok (.putfield 126, 3) := dk_181 0 126 (dk_at dksX1_count_2 16 rfl rfl)
theorem dX1_count_63 : decode cX1_count 63 = .ok (.aload 5, 2) := dk_25 5 (dk_at dksX1_count_2 19 rfl rfl)
theorem dX1_count_65 : decode cX1_count 65 = .ok (.dup, 1) := dk_89 (dk_at dksX1_count_2 21 rfl rfl)
theorem dX1_count_66 : decode cX1_count 66 = .ok (.getfield 129, 3) := dk_180 0 129 (dk_at dksX1_count_3 0 rfl rfl)
theorem dX1_count_69 : decode cX1_count 69 = .ok (.aload_n 1, 1) := dk_43 (dk_at dksX1_count_3 3 rfl rfl)
theorem dX1_count_70 : decode cX1_count 70 = .ok (.getfield 132, 3) := dk_180 0 132 (dk_at dksX1_count_3 4 rfl rfl)
theorem dX1_count_73 : decode cX1_count 73 = .ok (.aload_n 0, 1) := dk_42 (dk_at dksX1_count_3 7 rfl rfl)
theorem dX1_count_74 : decode cX1_count 74 = .ok (.getfield 47, 3) := dk_180 0 47 (dk_at dksX1_count_3 8 rfl rfl)
theorem dX1_count_77 : decode cX1_count 77 = .ok (.if_icmp .ge 12, 3) := dk_162 0 12 (dk_at dksX1_count_3 11 rfl rfl)
theorem dX1_count_80 : decode cX1_count 80 = .ok (.iload_n 2, 1) := dk_28 (dk_at dksX1_count_3 14 rfl rfl)
theorem dX1_count_81 : decode cX1_count 81 = .ok (.aload_n 1, 1) := dk_43 (dk_at dksX1_count_3 15 rfl rfl)
theorem dX1_count_82 : decode cX1_count 82 = .ok (.invokevirtual 123, 3) := dk_182 0 123 (dk_at dksX1_count_3 16 rfl rfl)
theorem dX1_count_85 : decode cX1_count 85 = .ok (.imul, 1) := dk_104 (dk_at dksX1_count_3 19 rfl rfl)
theorem dX1_count_86 : decode cX1_count 86 = .ok (.goto 4, 3) := dk_167 0 4 (dk_at dksX1_count_3 20 rfl rfl)
theorem dX1_count_89 : decode cX1_count 89 = .ok (.iconst 0, 1) := dk_3 (dk_at dksX1_count_3 23 rfl rfl)
theorem dX1_count_90 : decode cX1_count 90 = .ok (.iadd, 1) := dk_96 (dk_at dksX1_count_4 0 rfl rfl)
theorem dX1_count_91 : decode cX1_count 91 = .ok (.putfield 129, 3) := dk_181 0 129 (dk_at dksX1_count_4 1 rfl rfl)
theorem dX1_count_94 : decode cX1_count 94 = .ok (.iinc 4 1, 3) := dk_132 4 1 (dk_at dksX1_count_4 4 rfl rfl)
theorem dX1_count_97 : decode cX1_count 97 = .ok (.goto (-81), 3) := dk_167 255 175 (dk_at dksX1_count_4 7 rfl rfl)
theorem dX1_count_100 : decode cX1_count 100 = .ok (.return_, 1) := dk_177 (dk_at dksX1_count_4 10 rfl rfl)
abbrev cX1_accountsOf : ByteArray := prog_1_method_10_code
def yX1_accountsOf : MethodName := ⟨RX1, "accountsOf", "(ILAllotmentLedger$Project;)Ljava/util/ArrayList;"⟩
def dkwX1_accountsOf_3 : List UInt8 := [4, 100, 182, 0, 105, 87, 45, 42, 25, 4, 182, 0, 98, 182, 0, 59, 87, 167, 255, 224, 45, 176]
abbrev dktX1_accountsOf_3 : List UInt8 := dkwX1_accountsOf_3 ++ []
def dkwX1_accountsOf_2 : List UInt8 := [25, 4, 182, 0, 98, 182, 0, 59, 87, 25, 4, 182, 0, 102, 158, 0, 30, 25, 4, 25, 4, 182, 0, 102]
abbrev dktX1_accountsOf_2 : List UInt8 := dkwX1_accountsOf_2 ++ dktX1_accountsOf_3
def dkwX1_accountsOf_1 : List UInt8 := [27, 6, 112, 50, 182, 0, 59, 87, 187, 0, 16, 89, 44, 180, 0, 85, 183, 0, 95, 58, 4, 45, 42]
abbrev dktX1_accountsOf_1 : List UInt8 := dkwX1_accountsOf_1 ++ dktX1_accountsOf_2
def dkwX1_accountsOf_0 : List UInt8 := [187, 0, 34, 89, 183, 0, 36, 78, 45, 42, 180, 0, 27, 27, 50, 182, 0, 59, 87, 45, 42, 180, 0, 31]
abbrev dktX1_accountsOf_0 : List UInt8 := dkwX1_accountsOf_0 ++ dktX1_accountsOf_1
theorem dksX1_accountsOf_0 : cX1_accountsOf.data.toList.drop 0 = dktX1_accountsOf_0 := by decide +kernel
theorem dksX1_accountsOf_1 : cX1_accountsOf.data.toList.drop 24 = dktX1_accountsOf_1 := dk_seg dksX1_accountsOf_0 24 rfl rfl
theorem dksX1_accountsOf_2 : cX1_accountsOf.data.toList.drop 47 = dktX1_accountsOf_2 := dk_seg dksX1_accountsOf_1 23 rfl rfl
theorem dksX1_accountsOf_3 : cX1_accountsOf.data.toList.drop 71 = dktX1_accountsOf_3 := dk_seg dksX1_accountsOf_2 24 rfl rfl
theorem dX1_accountsOf_0 : decode cX1_accountsOf 0 = .ok (.new 34, 3) := dk_187 0 34 (dk_at dksX1_accountsOf_0 0 rfl rfl)
theorem dX1_accountsOf_3 : decode cX1_accountsOf 3 = .ok (.dup, 1) := dk_89 (dk_at dksX1_accountsOf_0 3 rfl rfl)
theorem dX1_accountsOf_4 : decode cX1_accountsOf 4 = .ok (.invokespecial 36, 3) := dk_183 0 36 (dk_at dksX1_accountsOf_0 4 rfl rfl)
theorem dX1_accountsOf_7 : decode cX1_accountsOf 7 = .ok (.astore_n 3, 1) := dk_78 (dk_at dksX1_accountsOf_0 7 rfl rfl)
theorem dX1_accountsOf_8 : decode cX1_accountsOf 8 = .ok (.aload_n 3, 1) := dk_45 (dk_at dksX1_accountsOf_0 8 rfl rfl)
theorem dX1_accountsOf_9 : decode cX1_accountsOf 9 = .ok (.aload_n 0, 1) := dk_42 (dk_at dksX1_accountsOf_0 9 rfl rfl)
theorem dX1_accountsOf_10 : decode cX1_accountsOf 10 = .ok (.getfield 27, 3) := dk_180 0 27 (dk_at dksX1_accountsOf_0 10 rfl rfl)
theorem dX1_accountsOf_13 : decode cX1_accountsOf 13 = .ok (.iload_n 1, 1) := dk_27 (dk_at dksX1_accountsOf_0 13 rfl rfl)
theorem dX1_accountsOf_14 : decode cX1_accountsOf 14 = .ok (.aaload, 1) := dk_50 (dk_at dksX1_accountsOf_0 14 rfl rfl)
theorem dX1_accountsOf_15 : decode cX1_accountsOf 15 = .ok (.invokevirtual 59, 3) := dk_182 0 59 (dk_at dksX1_accountsOf_0 15 rfl rfl)
theorem dX1_accountsOf_18 : decode cX1_accountsOf 18 = .ok (.pop, 1) := dk_87 (dk_at dksX1_accountsOf_0 18 rfl rfl)
theorem dX1_accountsOf_19 : decode cX1_accountsOf 19 = .ok (.aload_n 3, 1) := dk_45 (dk_at dksX1_accountsOf_0 19 rfl rfl)
theorem dX1_accountsOf_20 : decode cX1_accountsOf 20 = .ok (.aload_n 0, 1) := dk_42 (dk_at dksX1_accountsOf_0 20 rfl rfl)
theorem dX1_accountsOf_21 : decode cX1_accountsOf 21 = .ok (.getfield 31, 3) := dk_180 0 31 (dk_at dksX1_accountsOf_0 21 rfl rfl)
theorem dX1_accountsOf_24 : decode cX1_accountsOf 24 = .ok (.iload_n 1, 1) := dk_27 (dk_at dksX1_accountsOf_1 0 rfl rfl)
theorem dX1_accountsOf_25 : decode cX1_accountsOf 25 = .ok (.iconst 3, 1) := dk_6 (dk_at dksX1_accountsOf_1 1 rfl rfl)
theorem dX1_accountsOf_26 : decode cX1_accountsOf 26 = .ok (.irem, 1) := dk_112 (dk_at dksX1_accountsOf_1 2 rfl rfl)
theorem dX1_accountsOf_27 : decode cX1_accountsOf 27 = .ok (.aaload, 1) := dk_50 (dk_at dksX1_accountsOf_1 3 rfl rfl)
theorem dX1_accountsOf_28 : decode cX1_accountsOf 28 = .ok (.invokevirtual 59, 3) := dk_182 0 59 (dk_at dksX1_accountsOf_1 4 rfl rfl)
theorem dX1_accountsOf_31 : decode cX1_accountsOf 31 = .ok (.pop, 1) := dk_87 (dk_at dksX1_accountsOf_1 7 rfl rfl)
theorem dX1_accountsOf_32 : decode cX1_accountsOf 32 = .ok (.new 16, 3) := dk_187 0 16 (dk_at dksX1_accountsOf_1 8 rfl rfl)
theorem dX1_accountsOf_35 : decode cX1_accountsOf 35 = .ok (.dup, 1) := dk_89 (dk_at dksX1_accountsOf_1 11 rfl rfl)
theorem dX1_accountsOf_36 : decode cX1_accountsOf 36 = .ok (.aload_n 2, 1) := dk_44 (dk_at dksX1_accountsOf_1 12 rfl rfl)
theorem dX1_accountsOf_37 : decode cX1_accountsOf 37 = .ok (.getfield 85, 3) := dk_180 0 85 (dk_at dksX1_accountsOf_1 13 rfl rfl)
theorem dX1_accountsOf_40 : decode cX1_accountsOf 40 = .ok (.invokespecial 95, 3) := dk_183 0 95 (dk_at dksX1_accountsOf_1 16 rfl rfl)
theorem dX1_accountsOf_43 : decode cX1_accountsOf 43 = .ok (.astore 4, 2) := dk_58 4 (dk_at dksX1_accountsOf_1 19 rfl rfl)
theorem dX1_accountsOf_45 : decode cX1_accountsOf 45 = .ok (.aload_n 3, 1) := dk_45 (dk_at dksX1_accountsOf_1 21 rfl rfl)
theorem dX1_accountsOf_46 : decode cX1_accountsOf 46 = .ok (.aload_n 0, 1) := dk_42 (dk_at dksX1_accountsOf_1 22 rfl rfl)
theorem dX1_accountsOf_47 : decode cX1_accountsOf 47 = .ok (.aload 4, 2) := dk_25 4 (dk_at dksX1_accountsOf_2 0 rfl rfl)
theorem dX1_accountsOf_49 : decode cX1_accountsOf 49 = .ok (.invokevirtual 98, 3) := dk_182 0 98 (dk_at dksX1_accountsOf_2 2 rfl rfl)
theorem dX1_accountsOf_52 : decode cX1_accountsOf 52 = .ok (.invokevirtual 59, 3) := dk_182 0 59 (dk_at dksX1_accountsOf_2 5 rfl rfl)
theorem dX1_accountsOf_55 : decode cX1_accountsOf 55 = .ok (.pop, 1) := dk_87 (dk_at dksX1_accountsOf_2 8 rfl rfl)
theorem dX1_accountsOf_56 : decode cX1_accountsOf 56 = .ok (.aload 4, 2) := dk_25 4 (dk_at dksX1_accountsOf_2 9 rfl rfl)
theorem dX1_accountsOf_58 : decode cX1_accountsOf 58 = .ok (.invokevirtual 102, 3) := dk_182 0 102 (dk_at dksX1_accountsOf_2 11 rfl rfl)
theorem dX1_accountsOf_61 : decode cX1_accountsOf 61 = .ok (.ifCond .le 30, 3) := dk_158 0 30 (dk_at dksX1_accountsOf_2 14 rfl rfl)
theorem dX1_accountsOf_64 : decode cX1_accountsOf 64 = .ok (.aload 4, 2) := dk_25 4 (dk_at dksX1_accountsOf_2 17 rfl rfl)
theorem dX1_accountsOf_66 : decode cX1_accountsOf 66 = .ok (.aload 4, 2) := dk_25 4 (dk_at dksX1_accountsOf_2 19 rfl rfl)
theorem dX1_accountsOf_68 : decode cX1_accountsOf 68 = .ok (.invokevirtual 102, 3) := dk_182 0 102 (dk_at dksX1_accountsOf_2 21 rfl rfl)
theorem dX1_accountsOf_71 : decode cX1_accountsOf 71 = .ok (.iconst 1, 1) := dk_4 (dk_at dksX1_accountsOf_3 0 rfl rfl)
theorem dX1_accountsOf_72 : decode cX1_accountsOf 72 = .ok (.isub, 1) := dk_100 (dk_at dksX1_accountsOf_3 1 rfl rfl)
theorem dX1_accountsOf_73 : decode cX1_accountsOf 73 = .ok (.invokevirtual 105, 3) := dk_182 0 105 (dk_at dksX1_accountsOf_3 2 rfl rfl)
theorem dX1_accountsOf_76 : decode cX1_accountsOf 76 = .ok (.pop, 1) := dk_87 (dk_at dksX1_accountsOf_3 5 rfl rfl)
theorem dX1_accountsOf_77 : decode cX1_accountsOf 77 = .ok (.aload_n 3, 1) := dk_45 (dk_at dksX1_accountsOf_3 6 rfl rfl)
theorem dX1_accountsOf_78 : decode cX1_accountsOf 78 = .ok (.aload_n 0, 1) := dk_42 (dk_at dksX1_accountsOf_3 7 rfl rfl)
theorem dX1_accountsOf_79 : decode cX1_accountsOf 79 = .ok (.aload 4, 2) := dk_25 4 (dk_at dksX1_accountsOf_3 8 rfl rfl)
theorem dX1_accountsOf_81 : decode cX1_accountsOf 81 = .ok (.invokevirtual 98, 3) := dk_182 0 98 (dk_at dksX1_accountsOf_3 10 rfl rfl)
theorem dX1_accountsOf_84 : decode cX1_accountsOf 84 = .ok (.invokevirtual 59, 3) := dk_182 0 59 (dk_at dksX1_accountsOf_3 13 rfl rfl)
theorem dX1_accountsOf_87 : decode cX1_accountsOf 87 = .ok (.pop, 1) := dk_87 (dk_at dksX1_accountsOf_3 16 rfl rfl)
theorem dX1_accountsOf_88 : decode cX1_accountsOf 88 = .ok (.goto (-32), 3) := dk_167 255 224 (dk_at dksX1_accountsOf_3 17 rfl rfl)
theorem dX1_accountsOf_91 : decode cX1_accountsOf 91 = .ok (.aload_n 3, 1) := dk_45 (dk_at dksX1_accountsOf_3 20 rfl rfl)
theorem dX1_accountsOf_92 : decode cX1_accountsOf 92 = .ok (.areturn, 1) := dk_176 (dk_at dksX1_accountsOf_3 21 rfl rfl)
abbrev cX1_lookAtAll : ByteArray := prog_1_method_12_code
def yX1_lookAtAll : MethodName := ⟨RX1, "lookAtAll", "()V"⟩
def dkwX1_lookAtAll_3 : List UInt8 := [182, 0, 75, 192, 0, 52, 42, 180, 0, 135, 182, 0, 142, 132, 1, 1, 167, 255, 224, 177]
abbrev dktX1_lookAtAll_3 : List UInt8 := dkwX1_lookAtAll_3 ++ []
def dkwX1_lookAtAll_2 : List UInt8 := [132, 1, 1, 167, 255, 235, 3, 60, 27, 42, 180, 0, 37, 182, 0, 67, 162, 0, 27, 42, 180, 0, 37, 27]
abbrev dktX1_lookAtAll_2 : List UInt8 := dkwX1_lookAtAll_2 ++ dktX1_lookAtAll_3
def dkwX1_lookAtAll_1 : List UInt8 := [167, 255, 234, 3, 60, 27, 6, 162, 0, 22, 42, 180, 0, 31, 27, 50, 42, 180, 0, 135, 182, 0, 138]
abbrev dktX1_lookAtAll_1 : List UInt8 := dkwX1_lookAtAll_1 ++ dktX1_lookAtAll_2
def dkwX1_lookAtAll_0 : List UInt8 := [3, 60, 27, 16, 6, 162, 0, 22, 42, 180, 0, 27, 27, 50, 42, 180, 0, 135, 182, 0, 138, 132, 1, 1]
abbrev dktX1_lookAtAll_0 : List UInt8 := dkwX1_lookAtAll_0 ++ dktX1_lookAtAll_1
theorem dksX1_lookAtAll_0 : cX1_lookAtAll.data.toList.drop 0 = dktX1_lookAtAll_0 := by decide +kernel
theorem dksX1_lookAtAll_1 : cX1_lookAtAll.data.toList.drop 24 = dktX1_lookAtAll_1 := dk_seg dksX1_lookAtAll_0 24 rfl rfl
theorem dksX1_lookAtAll_2 : cX1_lookAtAll.data.toList.drop 47 = dktX1_lookAtAll_2 := dk_seg dksX1_lookAtAll_1 23 rfl rfl
theorem dksX1_lookAtAll_3 : cX1_lookAtAll.data.toList.drop 71 = dktX1_lookAtAll_3 := dk_seg dksX1_lookAtAll_2 24 rfl rfl
theorem dX1_lookAtAll_0 : decode cX1_lookAtAll 0 = .ok (.iconst 0, 1) := dk_3 (dk_at dksX1_lookAtAll_0 0 rfl rfl)
theorem dX1_lookAtAll_1 : decode cX1_lookAtAll 1 = .ok (.istore_n 1, 1) := dk_60 (dk_at dksX1_lookAtAll_0 1 rfl rfl)
theorem dX1_lookAtAll_2 : decode cX1_lookAtAll 2 = .ok (.iload_n 1, 1) := dk_27 (dk_at dksX1_lookAtAll_0 2 rfl rfl)
theorem dX1_lookAtAll_3 : decode cX1_lookAtAll 3 = .ok (.bipush 6, 2) := dk_16 6 (dk_at dksX1_lookAtAll_0 3 rfl rfl)
theorem dX1_lookAtAll_5 : decode cX1_lookAtAll 5 = .ok (.if_icmp .ge 22, 3) := dk_162 0 22 (dk_at dksX1_lookAtAll_0 5 rfl rfl)
theorem dX1_lookAtAll_8 : decode cX1_lookAtAll 8 = .ok (.aload_n 0, 1) := dk_42 (dk_at dksX1_lookAtAll_0 8 rfl rfl)
theorem dX1_lookAtAll_9 : decode cX1_lookAtAll 9 = .ok (.getfield 27, 3) := dk_180 0 27 (dk_at dksX1_lookAtAll_0 9 rfl rfl)
theorem dX1_lookAtAll_12 : decode cX1_lookAtAll 12 = .ok (.iload_n 1, 1) := dk_27 (dk_at dksX1_lookAtAll_0 12 rfl rfl)
theorem dX1_lookAtAll_13 : decode cX1_lookAtAll 13 = .ok (.aaload, 1) := dk_50 (dk_at dksX1_lookAtAll_0 13 rfl rfl)
theorem dX1_lookAtAll_14 : decode cX1_lookAtAll 14 = .ok (.aload_n 0, 1) := dk_42 (dk_at dksX1_lookAtAll_0 14 rfl rfl)
theorem dX1_lookAtAll_15 : decode cX1_lookAtAll 15 = .ok (.getfield 135, 3) := dk_180 0 135 (dk_at dksX1_lookAtAll_0 15 rfl rfl)
theorem dX1_lookAtAll_18 : decode cX1_lookAtAll 18 = .ok (.invokevirtual 138, 3) := dk_182 0 138 (dk_at dksX1_lookAtAll_0 18 rfl rfl)
theorem dX1_lookAtAll_21 : decode cX1_lookAtAll 21 = .ok (.iinc 1 1, 3) := dk_132 1 1 (dk_at dksX1_lookAtAll_0 21 rfl rfl)
theorem dX1_lookAtAll_24 : decode cX1_lookAtAll 24 = .ok (.goto (-22), 3) := dk_167 255 234 (dk_at dksX1_lookAtAll_1 0 rfl rfl)
theorem dX1_lookAtAll_27 : decode cX1_lookAtAll 27 = .ok (.iconst 0, 1) := dk_3 (dk_at dksX1_lookAtAll_1 3 rfl rfl)
theorem dX1_lookAtAll_28 : decode cX1_lookAtAll 28 = .ok (.istore_n 1, 1) := dk_60 (dk_at dksX1_lookAtAll_1 4 rfl rfl)
theorem dX1_lookAtAll_29 : decode cX1_lookAtAll 29 = .ok (.iload_n 1, 1) := dk_27 (dk_at dksX1_lookAtAll_1 5 rfl rfl)
theorem dX1_lookAtAll_30 : decode cX1_lookAtAll 30 = .ok (.iconst 3, 1) := dk_6 (dk_at dksX1_lookAtAll_1 6 rfl rfl)
theorem dX1_lookAtAll_31 : decode cX1_lookAtAll 31 = .ok (.if_icmp .ge 22, 3) := dk_162 0 22 (dk_at dksX1_lookAtAll_1 7 rfl rfl)
theorem dX1_lookAtAll_34 : decode cX1_lookAtAll 34 = .ok (.aload_n 0, 1) := dk_42 (dk_at dksX1_lookAtAll_1 10 rfl rfl)
theorem dX1_lookAtAll_35 : decode cX1_lookAtAll 35 = .ok (.getfield 31, 3) := dk_180 0 31 (dk_at dksX1_lookAtAll_1 11 rfl rfl)
theorem dX1_lookAtAll_38 : decode cX1_lookAtAll 38 = .ok (.iload_n 1, 1) := dk_27 (dk_at dksX1_lookAtAll_1 14 rfl rfl)
theorem dX1_lookAtAll_39 : decode cX1_lookAtAll 39 = .ok (.aaload, 1) := dk_50 (dk_at dksX1_lookAtAll_1 15 rfl rfl)
theorem dX1_lookAtAll_40 : decode cX1_lookAtAll 40 = .ok (.aload_n 0, 1) := dk_42 (dk_at dksX1_lookAtAll_1 16 rfl rfl)
theorem dX1_lookAtAll_41 : decode cX1_lookAtAll 41 = .ok (.getfield 135, 3) := dk_180 0 135 (dk_at dksX1_lookAtAll_1 17 rfl rfl)
theorem dX1_lookAtAll_44 : decode cX1_lookAtAll 44 = .ok (.invokevirtual 138, 3) := dk_182 0 138 (dk_at dksX1_lookAtAll_1 20 rfl rfl)
theorem dX1_lookAtAll_47 : decode cX1_lookAtAll 47 = .ok (.iinc 1 1, 3) := dk_132 1 1 (dk_at dksX1_lookAtAll_2 0 rfl rfl)
theorem dX1_lookAtAll_50 : decode cX1_lookAtAll 50 = .ok (.goto (-21), 3) := dk_167 255 235 (dk_at dksX1_lookAtAll_2 3 rfl rfl)
theorem dX1_lookAtAll_53 : decode cX1_lookAtAll 53 = .ok (.iconst 0, 1) := dk_3 (dk_at dksX1_lookAtAll_2 6 rfl rfl)
theorem dX1_lookAtAll_54 : decode cX1_lookAtAll 54 = .ok (.istore_n 1, 1) := dk_60 (dk_at dksX1_lookAtAll_2 7 rfl rfl)
theorem dX1_lookAtAll_55 : decode cX1_lookAtAll 55 = .ok (.iload_n 1, 1) := dk_27 (dk_at dksX1_lookAtAll_2 8 rfl rfl)
theorem dX1_lookAtAll_56 : decode cX1_lookAtAll 56 = .ok (.aload_n 0, 1) := dk_42 (dk_at dksX1_lookAtAll_2 9 rfl rfl)
theorem dX1_lookAtAll_57 : decode cX1_lookAtAll 57 = .ok (.getfield 37, 3) := dk_180 0 37 (dk_at dksX1_lookAtAll_2 10 rfl rfl)
theorem dX1_lookAtAll_60 : decode cX1_lookAtAll 60 = .ok (.invokevirtual 67, 3) := dk_182 0 67 (dk_at dksX1_lookAtAll_2 13 rfl rfl)
theorem dX1_lookAtAll_63 : decode cX1_lookAtAll 63 = .ok (.if_icmp .ge 27, 3) := dk_162 0 27 (dk_at dksX1_lookAtAll_2 16 rfl rfl)
theorem dX1_lookAtAll_66 : decode cX1_lookAtAll 66 = .ok (.aload_n 0, 1) := dk_42 (dk_at dksX1_lookAtAll_2 19 rfl rfl)
theorem dX1_lookAtAll_67 : decode cX1_lookAtAll 67 = .ok (.getfield 37, 3) := dk_180 0 37 (dk_at dksX1_lookAtAll_2 20 rfl rfl)
theorem dX1_lookAtAll_70 : decode cX1_lookAtAll 70 = .ok (.iload_n 1, 1) := dk_27 (dk_at dksX1_lookAtAll_2 23 rfl rfl)
theorem dX1_lookAtAll_71 : decode cX1_lookAtAll 71 = .ok (.invokevirtual 75, 3) := dk_182 0 75 (dk_at dksX1_lookAtAll_3 0 rfl rfl)
theorem dX1_lookAtAll_74 : decode cX1_lookAtAll 74 = .ok (.checkcast 52, 3) := dk_192 0 52 (dk_at dksX1_lookAtAll_3 3 rfl rfl)
theorem dX1_lookAtAll_77 : decode cX1_lookAtAll 77 = .ok (.aload_n 0, 1) := dk_42 (dk_at dksX1_lookAtAll_3 6 rfl rfl)
theorem dX1_lookAtAll_78 : decode cX1_lookAtAll 78 = .ok (.getfield 135, 3) := dk_180 0 135 (dk_at dksX1_lookAtAll_3 7 rfl rfl)
theorem dX1_lookAtAll_81 : decode cX1_lookAtAll 81 = .ok (.invokevirtual 142, 3) := dk_182 0 142 (dk_at dksX1_lookAtAll_3 10 rfl rfl)
theorem dX1_lookAtAll_84 : decode cX1_lookAtAll 84 = .ok (.iinc 1 1, 3) := dk_132 1 1 (dk_at dksX1_lookAtAll_3 13 rfl rfl)
theorem dX1_lookAtAll_87 : decode cX1_lookAtAll 87 = .ok (.goto (-32), 3) := dk_167 255 224 (dk_at dksX1_lookAtAll_3 16 rfl rfl)
theorem dX1_lookAtAll_90 : decode cX1_lookAtAll 90 = .ok (.return_, 1) := dk_177 (dk_at dksX1_lookAtAll_3 19 rfl rfl)
abbrev cX1_letterAt : ByteArray := prog_1_method_22_code
def yX1_letterAt : MethodName := ⟨RX1, "letterAt", "(II)C"⟩
def dkwX1_letterAt_1 : List UInt8 := [182, 0, 188, 162, 0, 14, 45, 180, 0, 85, 28, 182, 0, 199, 167, 0, 5, 16, 32, 172]
abbrev dktX1_letterAt_1 : List UInt8 := dkwX1_letterAt_1 ++ []
def dkwX1_letterAt_0 : List UInt8 := [42, 27, 182, 0, 180, 78, 28, 155, 0, 7, 4, 167, 0, 4, 3, 184, 0, 71, 28, 45, 180, 0, 85]
abbrev dktX1_letterAt_0 : List UInt8 := dkwX1_letterAt_0 ++ dktX1_letterAt_1
theorem dksX1_letterAt_0 : cX1_letterAt.data.toList.drop 0 = dktX1_letterAt_0 := by decide +kernel
theorem dksX1_letterAt_1 : cX1_letterAt.data.toList.drop 23 = dktX1_letterAt_1 := dk_seg dksX1_letterAt_0 23 rfl rfl
theorem dX1_letterAt_0 : decode cX1_letterAt 0 = .ok (.aload_n 0, 1) := dk_42 (dk_at dksX1_letterAt_0 0 rfl rfl)
theorem dX1_letterAt_1 : decode cX1_letterAt 1 = .ok (.iload_n 1, 1) := dk_27 (dk_at dksX1_letterAt_0 1 rfl rfl)
theorem dX1_letterAt_2 : decode cX1_letterAt 2 = .ok (.invokevirtual 180, 3) := dk_182 0 180 (dk_at dksX1_letterAt_0 2 rfl rfl)
theorem dX1_letterAt_5 : decode cX1_letterAt 5 = .ok (.astore_n 3, 1) := dk_78 (dk_at dksX1_letterAt_0 5 rfl rfl)
theorem dX1_letterAt_6 : decode cX1_letterAt 6 = .ok (.iload_n 2, 1) := dk_28 (dk_at dksX1_letterAt_0 6 rfl rfl)
theorem dX1_letterAt_7 : decode cX1_letterAt 7 = .ok (.ifCond .lt 7, 3) := dk_155 0 7 (dk_at dksX1_letterAt_0 7 rfl rfl)
theorem dX1_letterAt_10 : decode cX1_letterAt 10 = .ok (.iconst 1, 1) := dk_4 (dk_at dksX1_letterAt_0 10 rfl rfl)
theorem dX1_letterAt_11 : decode cX1_letterAt 11 = .ok (.goto 4, 3) := dk_167 0 4 (dk_at dksX1_letterAt_0 11 rfl rfl)
theorem dX1_letterAt_14 : decode cX1_letterAt 14 = .ok (.iconst 0, 1) := dk_3 (dk_at dksX1_letterAt_0 14 rfl rfl)
theorem dX1_letterAt_15 : decode cX1_letterAt 15 = .ok (.invokestatic 71, 3) := dk_184 0 71 (dk_at dksX1_letterAt_0 15 rfl rfl)
theorem dX1_letterAt_18 : decode cX1_letterAt 18 = .ok (.iload_n 2, 1) := dk_28 (dk_at dksX1_letterAt_0 18 rfl rfl)
theorem dX1_letterAt_19 : decode cX1_letterAt 19 = .ok (.aload_n 3, 1) := dk_45 (dk_at dksX1_letterAt_0 19 rfl rfl)
theorem dX1_letterAt_20 : decode cX1_letterAt 20 = .ok (.getfield 85, 3) := dk_180 0 85 (dk_at dksX1_letterAt_0 20 rfl rfl)
theorem dX1_letterAt_23 : decode cX1_letterAt 23 = .ok (.invokevirtual 188, 3) := dk_182 0 188 (dk_at dksX1_letterAt_1 0 rfl rfl)
theorem dX1_letterAt_26 : decode cX1_letterAt 26 = .ok (.if_icmp .ge 14, 3) := dk_162 0 14 (dk_at dksX1_letterAt_1 3 rfl rfl)
theorem dX1_letterAt_29 : decode cX1_letterAt 29 = .ok (.aload_n 3, 1) := dk_45 (dk_at dksX1_letterAt_1 6 rfl rfl)
theorem dX1_letterAt_30 : decode cX1_letterAt 30 = .ok (.getfield 85, 3) := dk_180 0 85 (dk_at dksX1_letterAt_1 7 rfl rfl)
theorem dX1_letterAt_33 : decode cX1_letterAt 33 = .ok (.iload_n 2, 1) := dk_28 (dk_at dksX1_letterAt_1 10 rfl rfl)
theorem dX1_letterAt_34 : decode cX1_letterAt 34 = .ok (.invokevirtual 199, 3) := dk_182 0 199 (dk_at dksX1_letterAt_1 11 rfl rfl)
theorem dX1_letterAt_37 : decode cX1_letterAt 37 = .ok (.goto 5, 3) := dk_167 0 5 (dk_at dksX1_letterAt_1 14 rfl rfl)
theorem dX1_letterAt_40 : decode cX1_letterAt 40 = .ok (.bipush 32, 2) := dk_16 32 (dk_at dksX1_letterAt_1 17 rfl rfl)
theorem dX1_letterAt_42 : decode cX1_letterAt 42 = .ok (.ireturn, 1) := dk_172 (dk_at dksX1_letterAt_1 19 rfl rfl)
abbrev cX1_makeFile : ByteArray := prog_1_method_24_code
def yX1_makeFile : MethodName := ⟨RX1, "makeFile", "(II)I"⟩
def dkwX1_makeFile_5 : List UInt8 := [25, 5, 180, 0, 132, 172]
abbrev dktX1_makeFile_5 : List UInt8 := dkwX1_makeFile_5 ++ []
def dkwX1_makeFile_4 : List UInt8 := [45, 183, 0, 207, 58, 5, 42, 180, 0, 41, 25, 5, 182, 0, 59, 87, 42, 25, 5, 4, 182, 0, 143]
abbrev dktX1_makeFile_4 : List UInt8 := dkwX1_makeFile_4 ++ dktX1_makeFile_5
def dkwX1_makeFile_3 : List UInt8 := [16, 254, 21, 5, 100, 172, 132, 5, 1, 167, 255, 221, 187, 0, 79, 89, 42, 180, 0, 41, 182, 0, 67, 27]
abbrev dktX1_makeFile_3 : List UInt8 := dkwX1_makeFile_3 ++ dktX1_makeFile_4
def dkwX1_makeFile_2 : List UInt8 := [25, 4, 182, 0, 67, 162, 0, 31, 25, 4, 21, 5, 182, 0, 75, 192, 0, 25, 182, 0, 203, 153, 0, 9]
abbrev dktX1_makeFile_2 : List UInt8 := dkwX1_makeFile_2 ++ dktX1_makeFile_3
def dkwX1_makeFile_1 : List UInt8 := [162, 0, 7, 4, 167, 0, 4, 3, 184, 0, 161, 42, 27, 45, 182, 0, 116, 58, 4, 3, 54, 5, 21, 5]
abbrev dktX1_makeFile_1 : List UInt8 := dkwX1_makeFile_1 ++ dktX1_makeFile_2
def dkwX1_makeFile_0 : List UInt8 := [27, 3, 8, 184, 0, 63, 184, 0, 71, 42, 28, 182, 0, 180, 78, 42, 180, 0, 41, 182, 0, 67, 16, 40]
abbrev dktX1_makeFile_0 : List UInt8 := dkwX1_makeFile_0 ++ dktX1_makeFile_1
theorem dksX1_makeFile_0 : cX1_makeFile.data.toList.drop 0 = dktX1_makeFile_0 := by decide +kernel
theorem dksX1_makeFile_1 : cX1_makeFile.data.toList.drop 24 = dktX1_makeFile_1 := dk_seg dksX1_makeFile_0 24 rfl rfl
theorem dksX1_makeFile_2 : cX1_makeFile.data.toList.drop 48 = dktX1_makeFile_2 := dk_seg dksX1_makeFile_1 24 rfl rfl
theorem dksX1_makeFile_3 : cX1_makeFile.data.toList.drop 72 = dktX1_makeFile_3 := dk_seg dksX1_makeFile_2 24 rfl rfl
theorem dksX1_makeFile_4 : cX1_makeFile.data.toList.drop 96 = dktX1_makeFile_4 := dk_seg dksX1_makeFile_3 24 rfl rfl
theorem dksX1_makeFile_5 : cX1_makeFile.data.toList.drop 119 = dktX1_makeFile_5 := dk_seg dksX1_makeFile_4 23 rfl rfl
theorem dX1_makeFile_0 : decode cX1_makeFile 0 = .ok (.iload_n 1, 1) := dk_27 (dk_at dksX1_makeFile_0 0 rfl rfl)
theorem dX1_makeFile_1 : decode cX1_makeFile 1 = .ok (.iconst 0, 1) := dk_3 (dk_at dksX1_makeFile_0 1 rfl rfl)
theorem dX1_makeFile_2 : decode cX1_makeFile 2 = .ok (.iconst 5, 1) := dk_8 (dk_at dksX1_makeFile_0 2 rfl rfl)
theorem dX1_makeFile_3 : decode cX1_makeFile 3 = .ok (.invokestatic 63, 3) := dk_184 0 63 (dk_at dksX1_makeFile_0 3 rfl rfl)
theorem dX1_makeFile_6 : decode cX1_makeFile 6 = .ok (.invokestatic 71, 3) := dk_184 0 71 (dk_at dksX1_makeFile_0 6 rfl rfl)
theorem dX1_makeFile_9 : decode cX1_makeFile 9 = .ok (.aload_n 0, 1) := dk_42 (dk_at dksX1_makeFile_0 9 rfl rfl)
theorem dX1_makeFile_10 : decode cX1_makeFile 10 = .ok (.iload_n 2, 1) := dk_28 (dk_at dksX1_makeFile_0 10 rfl rfl)
theorem dX1_makeFile_11 : decode cX1_makeFile 11 = .ok (.invokevirtual 180, 3) := dk_182 0 180 (dk_at dksX1_makeFile_0 11 rfl rfl)
theorem dX1_makeFile_14 : decode cX1_makeFile 14 = .ok (.astore_n 3, 1) := dk_78 (dk_at dksX1_makeFile_0 14 rfl rfl)
theorem dX1_makeFile_15 : decode cX1_makeFile 15 = .ok (.aload_n 0, 1) := dk_42 (dk_at dksX1_makeFile_0 15 rfl rfl)
theorem dX1_makeFile_16 : decode cX1_makeFile 16 = .ok (.getfield 41, 3) := dk_180 0 41 (dk_at dksX1_makeFile_0 16 rfl rfl)
theorem dX1_makeFile_19 : decode cX1_makeFile 19 = .ok (.invokevirtual 67, 3) := dk_182 0 67 (dk_at dksX1_makeFile_0 19 rfl rfl)
theorem dX1_makeFile_22 : decode cX1_makeFile 22 = .ok (.bipush 40, 2) := dk_16 40 (dk_at dksX1_makeFile_0 22 rfl rfl)
theorem dX1_makeFile_24 : decode cX1_makeFile 24 = .ok (.if_icmp .ge 7, 3) := dk_162 0 7 (dk_at dksX1_makeFile_1 0 rfl rfl)
theorem dX1_makeFile_27 : decode cX1_makeFile 27 = .ok (.iconst 1, 1) := dk_4 (dk_at dksX1_makeFile_1 3 rfl rfl)
theorem dX1_makeFile_28 : decode cX1_makeFile 28 = .ok (.goto 4, 3) := dk_167 0 4 (dk_at dksX1_makeFile_1 4 rfl rfl)
theorem dX1_makeFile_31 : decode cX1_makeFile 31 = .ok (.iconst 0, 1) := dk_3 (dk_at dksX1_makeFile_1 7 rfl rfl)
theorem dX1_makeFile_32 : decode cX1_makeFile 32 = .ok (.invokestatic 161, 3) := dk_184 0 161 (dk_at dksX1_makeFile_1 8 rfl rfl)
theorem dX1_makeFile_35 : decode cX1_makeFile 35 = .ok (.aload_n 0, 1) := dk_42 (dk_at dksX1_makeFile_1 11 rfl rfl)
theorem dX1_makeFile_36 : decode cX1_makeFile 36 = .ok (.iload_n 1, 1) := dk_27 (dk_at dksX1_makeFile_1 12 rfl rfl)
theorem dX1_makeFile_37 : decode cX1_makeFile 37 = .ok (.aload_n 3, 1) := dk_45 (dk_at dksX1_makeFile_1 13 rfl rfl)
theorem dX1_makeFile_38 : decode cX1_makeFile 38 = .ok (.invokevirtual 116, 3) := dk_182 0 116 (dk_at dksX1_makeFile_1 14 rfl rfl)
theorem dX1_makeFile_41 : decode cX1_makeFile 41 = .ok (.astore 4, 2) := dk_58 4 (dk_at dksX1_makeFile_1 17 rfl rfl)
theorem dX1_makeFile_43 : decode cX1_makeFile 43 = .ok (.iconst 0, 1) := dk_3 (dk_at dksX1_makeFile_1 19 rfl rfl)
theorem dX1_makeFile_44 : decode cX1_makeFile 44 = .ok (.istore 5, 2) := dk_54 5 (dk_at dksX1_makeFile_1 20 rfl rfl)
theorem dX1_makeFile_46 : decode cX1_makeFile 46 = .ok (.iload 5, 2) := dk_21 5 (dk_at dksX1_makeFile_1 22 rfl rfl)
theorem dX1_makeFile_48 : decode cX1_makeFile 48 = .ok (.aload 4, 2) := dk_25 4 (dk_at dksX1_makeFile_2 0 rfl rfl)
theorem dX1_makeFile_50 : decode cX1_makeFile 50 = .ok (.invokevirtual 67, 3) := dk_182 0 67 (dk_at dksX1_makeFile_2 2 rfl rfl)
theorem dX1_makeFile_53 : decode cX1_makeFile 53 = .ok (.if_icmp .ge 31, 3) := dk_162 0 31 (dk_at dksX1_makeFile_2 5 rfl rfl)
theorem dX1_makeFile_56 : decode cX1_makeFile 56 = .ok (.aload 4, 2) := dk_25 4 (dk_at dksX1_makeFile_2 8 rfl rfl)
theorem dX1_makeFile_58 : decode cX1_makeFile 58 = .ok (.iload 5, 2) := dk_21 5 (dk_at dksX1_makeFile_2 10 rfl rfl)
theorem dX1_makeFile_60 : decode cX1_makeFile 60 = .ok (.invokevirtual 75, 3) := dk_182 0 75 (dk_at dksX1_makeFile_2 12 rfl rfl)
theorem dX1_makeFile_63 : decode cX1_makeFile 63 = .ok (.checkcast 25, 3) := dk_192 0 25 (dk_at dksX1_makeFile_2 15 rfl rfl)
theorem dX1_makeFile_66 : decode cX1_makeFile 66 = .ok (.invokevirtual 203, 3) := dk_182 0 203 (dk_at dksX1_makeFile_2 18 rfl rfl)
theorem dX1_makeFile_69 : decode cX1_makeFile 69 = .ok (.ifCond .eq 9, 3) := dk_153 0 9 (dk_at dksX1_makeFile_2 21 rfl rfl)
theorem dX1_makeFile_72 : decode cX1_makeFile 72 = .ok (.bipush (-2), 2) := dk_16 254 (dk_at dksX1_makeFile_3 0 rfl rfl)
theorem dX1_makeFile_74 : decode cX1_makeFile 74 = .ok (.iload 5, 2) := dk_21 5 (dk_at dksX1_makeFile_3 2 rfl rfl)
theorem dX1_makeFile_76 : decode cX1_makeFile 76 = .ok (.isub, 1) := dk_100 (dk_at dksX1_makeFile_3 4 rfl rfl)
theorem dX1_makeFile_77 : decode cX1_makeFile 77 = .ok (.ireturn, 1) := dk_172 (dk_at dksX1_makeFile_3 5 rfl rfl)
theorem dX1_makeFile_78 : decode cX1_makeFile 78 = .ok (.iinc 5 1, 3) := dk_132 5 1 (dk_at dksX1_makeFile_3 6 rfl rfl)
theorem dX1_makeFile_81 : decode cX1_makeFile 81 = .ok (.goto (-35), 3) := dk_167 255 221 (dk_at dksX1_makeFile_3 9 rfl rfl)
theorem dX1_makeFile_84 : decode cX1_makeFile 84 = .ok (.new 79, 3) := dk_187 0 79 (dk_at dksX1_makeFile_3 12 rfl rfl)
theorem dX1_makeFile_87 : decode cX1_makeFile 87 = .ok (.dup, 1) := dk_89 (dk_at dksX1_makeFile_3 15 rfl rfl)
theorem dX1_makeFile_88 : decode cX1_makeFile 88 = .ok (.aload_n 0, 1) := dk_42 (dk_at dksX1_makeFile_3 16 rfl rfl)
theorem dX1_makeFile_89 : decode cX1_makeFile 89 = .ok (.getfield 41, 3) := dk_180 0 41 (dk_at dksX1_makeFile_3 17 rfl rfl)
theorem dX1_makeFile_92 : decode cX1_makeFile 92 = .ok (.invokevirtual 67, 3) := dk_182 0 67 (dk_at dksX1_makeFile_3 20 rfl rfl)
theorem dX1_makeFile_95 : decode cX1_makeFile 95 = .ok (.iload_n 1, 1) := dk_27 (dk_at dksX1_makeFile_3 23 rfl rfl)
theorem dX1_makeFile_96 : decode cX1_makeFile 96 = .ok (.aload_n 3, 1) := dk_45 (dk_at dksX1_makeFile_4 0 rfl rfl)
theorem dX1_makeFile_97 : decode cX1_makeFile 97 = .ok (.invokespecial 207, 3) := dk_183 0 207 (dk_at dksX1_makeFile_4 1 rfl rfl)
theorem dX1_makeFile_100 : decode cX1_makeFile 100 = .ok (.astore 5, 2) := dk_58 5 (dk_at dksX1_makeFile_4 4 rfl rfl)
theorem dX1_makeFile_102 : decode cX1_makeFile 102 = .ok (.aload_n 0, 1) := dk_42 (dk_at dksX1_makeFile_4 6 rfl rfl)
theorem dX1_makeFile_103 : decode cX1_makeFile 103 = .ok (.getfield 41, 3) := dk_180 0 41 (dk_at dksX1_makeFile_4 7 rfl rfl)
theorem dX1_makeFile_106 : decode cX1_makeFile 106 = .ok (.aload 5, 2) := dk_25 5 (dk_at dksX1_makeFile_4 10 rfl rfl)
theorem dX1_makeFile_108 : decode cX1_makeFile 108 = .ok (.invokevirtual 59, 3) := dk_182 0 59 (dk_at dksX1_makeFile_4 12 rfl rfl)
theorem dX1_makeFile_111 : decode cX1_makeFile 111 = .ok (.pop, 1) := dk_87 (dk_at dksX1_makeFile_4 15 rfl rfl)
theorem dX1_makeFile_112 : decode cX1_makeFile 112 = .ok (.aload_n 0, 1) := dk_42 (dk_at dksX1_makeFile_4 16 rfl rfl)
theorem dX1_makeFile_113 : decode cX1_makeFile 113 = .ok (.aload 5, 2) := dk_25 5 (dk_at dksX1_makeFile_4 17 rfl rfl)
theorem dX1_makeFile_115 : decode cX1_makeFile 115 = .ok (.iconst 1, 1) := dk_4 (dk_at dksX1_makeFile_4 19 rfl rfl)
theorem dX1_makeFile_116 : decode cX1_makeFile 116 = .ok (.invokevirtual 143, 3) := dk_182 0 143 (dk_at dksX1_makeFile_4 20 rfl rfl)
theorem dX1_makeFile_119 : decode cX1_makeFile 119 = .ok (.aload 5, 2) := dk_25 5 (dk_at dksX1_makeFile_5 0 rfl rfl)
theorem dX1_makeFile_121 : decode cX1_makeFile 121 = .ok (.getfield 132, 3) := dk_180 0 132 (dk_at dksX1_makeFile_5 2 rfl rfl)
theorem dX1_makeFile_124 : decode cX1_makeFile 124 = .ok (.ireturn, 1) := dk_172 (dk_at dksX1_makeFile_5 5 rfl rfl)
abbrev cX1_write : ByteArray := prog_1_method_25_code
def yX1_write : MethodName := ⟨RX1, "write", "(II)I"⟩
def dkwX1_write_3 : List UInt8 := [182, 0, 218, 45, 180, 0, 147, 172]
abbrev dktX1_write_3 : List UInt8 := dkwX1_write_3 ++ []
def dkwX1_write_2 : List UInt8 := [167, 0, 4, 2, 54, 4, 21, 4, 2, 159, 0, 9, 16, 254, 21, 4, 100, 172, 42, 45, 28, 3]
abbrev dktX1_write_2 : List UInt8 := dkwX1_write_2 ++ dktX1_write_3
def dkwX1_write_1 : List UInt8 := [96, 155, 0, 7, 4, 167, 0, 4, 3, 184, 0, 158, 28, 158, 0, 12, 42, 45, 28, 182, 0, 214]
abbrev dktX1_write_1 : List UInt8 := dkwX1_write_1 ++ dktX1_write_2
def dkwX1_write_0 : List UInt8 := [42, 27, 182, 0, 210, 78, 28, 17, 252, 24, 17, 3, 232, 184, 0, 63, 153, 0, 16, 45, 180, 0, 147, 28]
abbrev dktX1_write_0 : List UInt8 := dkwX1_write_0 ++ dktX1_write_1
theorem dksX1_write_0 : cX1_write.data.toList.drop 0 = dktX1_write_0 := by decide +kernel
theorem dksX1_write_1 : cX1_write.data.toList.drop 24 = dktX1_write_1 := dk_seg dksX1_write_0 24 rfl rfl
theorem dksX1_write_2 : cX1_write.data.toList.drop 46 = dktX1_write_2 := dk_seg dksX1_write_1 22 rfl rfl
theorem dksX1_write_3 : cX1_write.data.toList.drop 68 = dktX1_write_3 := dk_seg dksX1_write_2 22 rfl rfl
theorem dX1_write_0 : decode cX1_write 0 = .ok (.aload_n 0, 1) := dk_42 (dk_at dksX1_write_0 0 rfl rfl)
theorem dX1_write_1 : decode cX1_write 1 = .ok (.iload_n 1, 1) := dk_27 (dk_at dksX1_write_0 1 rfl rfl)
theorem dX1_write_2 : decode cX1_write 2 = .ok (.invokevirtual 210, 3) := dk_182 0 210 (dk_at dksX1_write_0 2 rfl rfl)
theorem dX1_write_5 : decode cX1_write 5 = .ok (.astore_n 3, 1) := dk_78 (dk_at dksX1_write_0 5 rfl rfl)
theorem dX1_write_6 : decode cX1_write 6 = .ok (.iload_n 2, 1) := dk_28 (dk_at dksX1_write_0 6 rfl rfl)
theorem dX1_write_7 : decode cX1_write 7 = .ok (.sipush (-1000), 3) := dk_17 252 24 (dk_at dksX1_write_0 7 rfl rfl)
theorem dX1_write_10 : decode cX1_write 10 = .ok (.sipush 1000, 3) := dk_17 3 232 (dk_at dksX1_write_0 10 rfl rfl)
theorem dX1_write_13 : decode cX1_write 13 = .ok (.invokestatic 63, 3) := dk_184 0 63 (dk_at dksX1_write_0 13 rfl rfl)
theorem dX1_write_16 : decode cX1_write 16 = .ok (.ifCond .eq 16, 3) := dk_153 0 16 (dk_at dksX1_write_0 16 rfl rfl)
theorem dX1_write_19 : decode cX1_write 19 = .ok (.aload_n 3, 1) := dk_45 (dk_at dksX1_write_0 19 rfl rfl)
theorem dX1_write_20 : decode cX1_write 20 = .ok (.getfield 147, 3) := dk_180 0 147 (dk_at dksX1_write_0 20 rfl rfl)
theorem dX1_write_23 : decode cX1_write 23 = .ok (.iload_n 2, 1) := dk_28 (dk_at dksX1_write_0 23 rfl rfl)
theorem dX1_write_24 : decode cX1_write 24 = .ok (.iadd, 1) := dk_96 (dk_at dksX1_write_1 0 rfl rfl)
theorem dX1_write_25 : decode cX1_write 25 = .ok (.ifCond .lt 7, 3) := dk_155 0 7 (dk_at dksX1_write_1 1 rfl rfl)
theorem dX1_write_28 : decode cX1_write 28 = .ok (.iconst 1, 1) := dk_4 (dk_at dksX1_write_1 4 rfl rfl)
theorem dX1_write_29 : decode cX1_write 29 = .ok (.goto 4, 3) := dk_167 0 4 (dk_at dksX1_write_1 5 rfl rfl)
theorem dX1_write_32 : decode cX1_write 32 = .ok (.iconst 0, 1) := dk_3 (dk_at dksX1_write_1 8 rfl rfl)
theorem dX1_write_33 : decode cX1_write 33 = .ok (.invokestatic 158, 3) := dk_184 0 158 (dk_at dksX1_write_1 9 rfl rfl)
theorem dX1_write_36 : decode cX1_write 36 = .ok (.iload_n 2, 1) := dk_28 (dk_at dksX1_write_1 12 rfl rfl)
theorem dX1_write_37 : decode cX1_write 37 = .ok (.ifCond .le 12, 3) := dk_158 0 12 (dk_at dksX1_write_1 13 rfl rfl)
theorem dX1_write_40 : decode cX1_write 40 = .ok (.aload_n 0, 1) := dk_42 (dk_at dksX1_write_1 16 rfl rfl)
theorem dX1_write_41 : decode cX1_write 41 = .ok (.aload_n 3, 1) := dk_45 (dk_at dksX1_write_1 17 rfl rfl)
theorem dX1_write_42 : decode cX1_write 42 = .ok (.iload_n 2, 1) := dk_28 (dk_at dksX1_write_1 18 rfl rfl)
theorem dX1_write_43 : decode cX1_write 43 = .ok (.invokevirtual 214, 3) := dk_182 0 214 (dk_at dksX1_write_1 19 rfl rfl)
theorem dX1_write_46 : decode cX1_write 46 = .ok (.goto 4, 3) := dk_167 0 4 (dk_at dksX1_write_2 0 rfl rfl)
theorem dX1_write_49 : decode cX1_write 49 = .ok (.iconst (-1), 1) := dk_2 (dk_at dksX1_write_2 3 rfl rfl)
theorem dX1_write_50 : decode cX1_write 50 = .ok (.istore 4, 2) := dk_54 4 (dk_at dksX1_write_2 4 rfl rfl)
theorem dX1_write_52 : decode cX1_write 52 = .ok (.iload 4, 2) := dk_21 4 (dk_at dksX1_write_2 6 rfl rfl)
theorem dX1_write_54 : decode cX1_write 54 = .ok (.iconst (-1), 1) := dk_2 (dk_at dksX1_write_2 8 rfl rfl)
theorem dX1_write_55 : decode cX1_write 55 = .ok (.if_icmp .eq 9, 3) := dk_159 0 9 (dk_at dksX1_write_2 9 rfl rfl)
theorem dX1_write_58 : decode cX1_write 58 = .ok (.bipush (-2), 2) := dk_16 254 (dk_at dksX1_write_2 12 rfl rfl)
theorem dX1_write_60 : decode cX1_write 60 = .ok (.iload 4, 2) := dk_21 4 (dk_at dksX1_write_2 14 rfl rfl)
theorem dX1_write_62 : decode cX1_write 62 = .ok (.isub, 1) := dk_100 (dk_at dksX1_write_2 16 rfl rfl)
theorem dX1_write_63 : decode cX1_write 63 = .ok (.ireturn, 1) := dk_172 (dk_at dksX1_write_2 17 rfl rfl)
theorem dX1_write_64 : decode cX1_write 64 = .ok (.aload_n 0, 1) := dk_42 (dk_at dksX1_write_2 18 rfl rfl)
theorem dX1_write_65 : decode cX1_write 65 = .ok (.aload_n 3, 1) := dk_45 (dk_at dksX1_write_2 19 rfl rfl)
theorem dX1_write_66 : decode cX1_write 66 = .ok (.iload_n 2, 1) := dk_28 (dk_at dksX1_write_2 20 rfl rfl)
theorem dX1_write_67 : decode cX1_write 67 = .ok (.iconst 0, 1) := dk_3 (dk_at dksX1_write_2 21 rfl rfl)
theorem dX1_write_68 : decode cX1_write 68 = .ok (.invokevirtual 218, 3) := dk_182 0 218 (dk_at dksX1_write_3 0 rfl rfl)
theorem dX1_write_71 : decode cX1_write 71 = .ok (.aload_n 3, 1) := dk_45 (dk_at dksX1_write_3 3 rfl rfl)
theorem dX1_write_72 : decode cX1_write 72 = .ok (.getfield 147, 3) := dk_180 0 147 (dk_at dksX1_write_3 4 rfl rfl)
theorem dX1_write_75 : decode cX1_write 75 = .ok (.ireturn, 1) := dk_172 (dk_at dksX1_write_3 7 rfl rfl)
abbrev cX1_entryAt : ByteArray := prog_1_method_8_code
def yX1_entryAt : MethodName := ⟨RX1, "entryAt", "(I)LAllotmentLedger$Entry;"⟩
def dkwX1_entryAt_2 : List UInt8 := [27, 182, 0, 75, 192, 0, 79, 176]
abbrev dktX1_entryAt_2 : List UInt8 := dkwX1_entryAt_2 ++ []
def dkwX1_entryAt_1 : List UInt8 := [182, 0, 75, 192, 0, 79, 180, 0, 81, 154, 0, 7, 4, 167, 0, 4, 3, 184, 0, 71, 42, 180, 0, 41]
abbrev dktX1_entryAt_1 : List UInt8 := dkwX1_entryAt_1 ++ dktX1_entryAt_2
def dkwX1_entryAt_0 : List UInt8 := [27, 3, 42, 180, 0, 41, 182, 0, 67, 4, 100, 184, 0, 63, 184, 0, 71, 42, 180, 0, 41, 27]
abbrev dktX1_entryAt_0 : List UInt8 := dkwX1_entryAt_0 ++ dktX1_entryAt_1
theorem dksX1_entryAt_0 : cX1_entryAt.data.toList.drop 0 = dktX1_entryAt_0 := by decide +kernel
theorem dksX1_entryAt_1 : cX1_entryAt.data.toList.drop 22 = dktX1_entryAt_1 := dk_seg dksX1_entryAt_0 22 rfl rfl
theorem dksX1_entryAt_2 : cX1_entryAt.data.toList.drop 46 = dktX1_entryAt_2 := dk_seg dksX1_entryAt_1 24 rfl rfl
theorem dX1_entryAt_0 : decode cX1_entryAt 0 = .ok (.iload_n 1, 1) := dk_27 (dk_at dksX1_entryAt_0 0 rfl rfl)
theorem dX1_entryAt_1 : decode cX1_entryAt 1 = .ok (.iconst 0, 1) := dk_3 (dk_at dksX1_entryAt_0 1 rfl rfl)
theorem dX1_entryAt_2 : decode cX1_entryAt 2 = .ok (.aload_n 0, 1) := dk_42 (dk_at dksX1_entryAt_0 2 rfl rfl)
theorem dX1_entryAt_3 : decode cX1_entryAt 3 = .ok (.getfield 41, 3) := dk_180 0 41 (dk_at dksX1_entryAt_0 3 rfl rfl)
theorem dX1_entryAt_6 : decode cX1_entryAt 6 = .ok (.invokevirtual 67, 3) := dk_182 0 67 (dk_at dksX1_entryAt_0 6 rfl rfl)
theorem dX1_entryAt_9 : decode cX1_entryAt 9 = .ok (.iconst 1, 1) := dk_4 (dk_at dksX1_entryAt_0 9 rfl rfl)
theorem dX1_entryAt_10 : decode cX1_entryAt 10 = .ok (.isub, 1) := dk_100 (dk_at dksX1_entryAt_0 10 rfl rfl)
theorem dX1_entryAt_11 : decode cX1_entryAt 11 = .ok (.invokestatic 63, 3) := dk_184 0 63 (dk_at dksX1_entryAt_0 11 rfl rfl)
theorem dX1_entryAt_14 : decode cX1_entryAt 14 = .ok (.invokestatic 71, 3) := dk_184 0 71 (dk_at dksX1_entryAt_0 14 rfl rfl)
theorem dX1_entryAt_17 : decode cX1_entryAt 17 = .ok (.aload_n 0, 1) := dk_42 (dk_at dksX1_entryAt_0 17 rfl rfl)
theorem dX1_entryAt_18 : decode cX1_entryAt 18 = .ok (.getfield 41, 3) := dk_180 0 41 (dk_at dksX1_entryAt_0 18 rfl rfl)
theorem dX1_entryAt_21 : decode cX1_entryAt 21 = .ok (.iload_n 1, 1) := dk_27 (dk_at dksX1_entryAt_0 21 rfl rfl)
theorem dX1_entryAt_22 : decode cX1_entryAt 22 = .ok (.invokevirtual 75, 3) := dk_182 0 75 (dk_at dksX1_entryAt_1 0 rfl rfl)
theorem dX1_entryAt_25 : decode cX1_entryAt 25 = .ok (.checkcast 79, 3) := dk_192 0 79 (dk_at dksX1_entryAt_1 3 rfl rfl)
theorem dX1_entryAt_28 : decode cX1_entryAt 28 = .ok (.getfield 81, 3) := dk_180 0 81 (dk_at dksX1_entryAt_1 6 rfl rfl)
theorem dX1_entryAt_31 : decode cX1_entryAt 31 = .ok (.ifCond .ne 7, 3) := dk_154 0 7 (dk_at dksX1_entryAt_1 9 rfl rfl)
theorem dX1_entryAt_34 : decode cX1_entryAt 34 = .ok (.iconst 1, 1) := dk_4 (dk_at dksX1_entryAt_1 12 rfl rfl)
theorem dX1_entryAt_35 : decode cX1_entryAt 35 = .ok (.goto 4, 3) := dk_167 0 4 (dk_at dksX1_entryAt_1 13 rfl rfl)
theorem dX1_entryAt_38 : decode cX1_entryAt 38 = .ok (.iconst 0, 1) := dk_3 (dk_at dksX1_entryAt_1 16 rfl rfl)
theorem dX1_entryAt_39 : decode cX1_entryAt 39 = .ok (.invokestatic 71, 3) := dk_184 0 71 (dk_at dksX1_entryAt_1 17 rfl rfl)
theorem dX1_entryAt_42 : decode cX1_entryAt 42 = .ok (.aload_n 0, 1) := dk_42 (dk_at dksX1_entryAt_1 20 rfl rfl)
theorem dX1_entryAt_43 : decode cX1_entryAt 43 = .ok (.getfield 41, 3) := dk_180 0 41 (dk_at dksX1_entryAt_1 21 rfl rfl)
theorem dX1_entryAt_46 : decode cX1_entryAt 46 = .ok (.iload_n 1, 1) := dk_27 (dk_at dksX1_entryAt_2 0 rfl rfl)
theorem dX1_entryAt_47 : decode cX1_entryAt 47 = .ok (.invokevirtual 75, 3) := dk_182 0 75 (dk_at dksX1_entryAt_2 1 rfl rfl)
theorem dX1_entryAt_50 : decode cX1_entryAt 50 = .ok (.checkcast 79, 3) := dk_192 0 79 (dk_at dksX1_entryAt_2 4 rfl rfl)
theorem dX1_entryAt_53 : decode cX1_entryAt 53 = .ok (.areturn, 1) := dk_176 (dk_at dksX1_entryAt_2 7 rfl rfl)
abbrev cX1_barring : ByteArray := prog_1_method_14_code
def yX1_barring : MethodName := ⟨RX1, "barring", "(LAllotmentLedger$Entry;I)I"⟩
def dkwX1_barring_2 : List UInt8 := [21, 4, 172, 132, 4, 1, 167, 255, 221, 2, 172]
abbrev dktX1_barring_2 : List UInt8 := dkwX1_barring_2 ++ []
def dkwX1_barring_1 : List UInt8 := [162, 0, 32, 45, 21, 4, 182, 0, 75, 192, 0, 25, 28, 42, 180, 0, 135, 182, 0, 154, 153, 0, 6]
abbrev dktX1_barring_1 : List UInt8 := dkwX1_barring_1 ++ dktX1_barring_2
def dkwX1_barring_0 : List UInt8 := [42, 43, 180, 0, 109, 43, 180, 0, 112, 182, 0, 116, 78, 3, 54, 4, 21, 4, 45, 182, 0, 67]
abbrev dktX1_barring_0 : List UInt8 := dkwX1_barring_0 ++ dktX1_barring_1
theorem dksX1_barring_0 : cX1_barring.data.toList.drop 0 = dktX1_barring_0 := by decide +kernel
theorem dksX1_barring_1 : cX1_barring.data.toList.drop 22 = dktX1_barring_1 := dk_seg dksX1_barring_0 22 rfl rfl
theorem dksX1_barring_2 : cX1_barring.data.toList.drop 45 = dktX1_barring_2 := dk_seg dksX1_barring_1 23 rfl rfl
theorem dX1_barring_0 : decode cX1_barring 0 = .ok (.aload_n 0, 1) := dk_42 (dk_at dksX1_barring_0 0 rfl rfl)
theorem dX1_barring_1 : decode cX1_barring 1 = .ok (.aload_n 1, 1) := dk_43 (dk_at dksX1_barring_0 1 rfl rfl)
theorem dX1_barring_2 : decode cX1_barring 2 = .ok (.getfield 109, 3) := dk_180 0 109 (dk_at dksX1_barring_0 2 rfl rfl)
theorem dX1_barring_5 : decode cX1_barring 5 = .ok (.aload_n 1, 1) := dk_43 (dk_at dksX1_barring_0 5 rfl rfl)
theorem dX1_barring_6 : decode cX1_barring 6 = .ok (.getfield 112, 3) := dk_180 0 112 (dk_at dksX1_barring_0 6 rfl rfl)
theorem dX1_barring_9 : decode cX1_barring 9 = .ok (.invokevirtual 116, 3) := dk_182 0 116 (dk_at dksX1_barring_0 9 rfl rfl)
theorem dX1_barring_12 : decode cX1_barring 12 = .ok (.astore_n 3, 1) := dk_78 (dk_at dksX1_barring_0 12 rfl rfl)
theorem dX1_barring_13 : decode cX1_barring 13 = .ok (.iconst 0, 1) := dk_3 (dk_at dksX1_barring_0 13 rfl rfl)
theorem dX1_barring_14 : decode cX1_barring 14 = .ok (.istore 4, 2) := dk_54 4 (dk_at dksX1_barring_0 14 rfl rfl)
theorem dX1_barring_16 : decode cX1_barring 16 = .ok (.iload 4, 2) := dk_21 4 (dk_at dksX1_barring_0 16 rfl rfl)
theorem dX1_barring_18 : decode cX1_barring 18 = .ok (.aload_n 3, 1) := dk_45 (dk_at dksX1_barring_0 18 rfl rfl)
theorem dX1_barring_19 : decode cX1_barring 19 = .ok (.invokevirtual 67, 3) := dk_182 0 67 (dk_at dksX1_barring_0 19 rfl rfl)
theorem dX1_barring_22 : decode cX1_barring 22 = .ok (.if_icmp .ge 32, 3) := dk_162 0 32 (dk_at dksX1_barring_1 0 rfl rfl)
theorem dX1_barring_25 : decode cX1_barring 25 = .ok (.aload_n 3, 1) := dk_45 (dk_at dksX1_barring_1 3 rfl rfl)
theorem dX1_barring_26 : decode cX1_barring 26 = .ok (.iload 4, 2) := dk_21 4 (dk_at dksX1_barring_1 4 rfl rfl)
theorem dX1_barring_28 : decode cX1_barring 28 = .ok (.invokevirtual 75, 3) := dk_182 0 75 (dk_at dksX1_barring_1 6 rfl rfl)
theorem dX1_barring_31 : decode cX1_barring 31 = .ok (.checkcast 25, 3) := dk_192 0 25 (dk_at dksX1_barring_1 9 rfl rfl)
theorem dX1_barring_34 : decode cX1_barring 34 = .ok (.iload_n 2, 1) := dk_28 (dk_at dksX1_barring_1 12 rfl rfl)
theorem dX1_barring_35 : decode cX1_barring 35 = .ok (.aload_n 0, 1) := dk_42 (dk_at dksX1_barring_1 13 rfl rfl)
theorem dX1_barring_36 : decode cX1_barring 36 = .ok (.getfield 135, 3) := dk_180 0 135 (dk_at dksX1_barring_1 14 rfl rfl)
theorem dX1_barring_39 : decode cX1_barring 39 = .ok (.invokevirtual 154, 3) := dk_182 0 154 (dk_at dksX1_barring_1 17 rfl rfl)
theorem dX1_barring_42 : decode cX1_barring 42 = .ok (.ifCond .eq 6, 3) := dk_153 0 6 (dk_at dksX1_barring_1 20 rfl rfl)
theorem dX1_barring_45 : decode cX1_barring 45 = .ok (.iload 4, 2) := dk_21 4 (dk_at dksX1_barring_2 0 rfl rfl)
theorem dX1_barring_47 : decode cX1_barring 47 = .ok (.ireturn, 1) := dk_172 (dk_at dksX1_barring_2 2 rfl rfl)
theorem dX1_barring_48 : decode cX1_barring 48 = .ok (.iinc 4 1, 3) := dk_132 4 1 (dk_at dksX1_barring_2 3 rfl rfl)
theorem dX1_barring_51 : decode cX1_barring 51 = .ok (.goto (-35), 3) := dk_167 255 221 (dk_at dksX1_barring_2 6 rfl rfl)
theorem dX1_barring_54 : decode cX1_barring 54 = .ok (.iconst (-1), 1) := dk_2 (dk_at dksX1_barring_2 9 rfl rfl)
theorem dX1_barring_55 : decode cX1_barring 55 = .ok (.ireturn, 1) := dk_172 (dk_at dksX1_barring_2 10 rfl rfl)
abbrev cX1_change : ByteArray := prog_1_method_13_code
def yX1_change : MethodName := ⟨RX1, "change", "(LAllotmentLedger$Entry;II)V"⟩
def dkwX1_change_1 : List UInt8 := [181, 0, 148, 42, 43, 4, 182, 0, 143, 42, 182, 0, 151, 177]
abbrev dktX1_change_1 : List UInt8 := dkwX1_change_1 ++ []
def dkwX1_change_0 : List UInt8 := [42, 43, 2, 182, 0, 143, 43, 89, 180, 0, 147, 28, 96, 181, 0, 147, 43, 89, 180, 0, 148, 29, 96]
abbrev dktX1_change_0 : List UInt8 := dkwX1_change_0 ++ dktX1_change_1
theorem dksX1_change_0 : cX1_change.data.toList.drop 0 = dktX1_change_0 := by decide +kernel
theorem dksX1_change_1 : cX1_change.data.toList.drop 23 = dktX1_change_1 := dk_seg dksX1_change_0 23 rfl rfl
theorem dX1_change_0 : decode cX1_change 0 = .ok (.aload_n 0, 1) := dk_42 (dk_at dksX1_change_0 0 rfl rfl)
theorem dX1_change_1 : decode cX1_change 1 = .ok (.aload_n 1, 1) := dk_43 (dk_at dksX1_change_0 1 rfl rfl)
theorem dX1_change_2 : decode cX1_change 2 = .ok (.iconst (-1), 1) := dk_2 (dk_at dksX1_change_0 2 rfl rfl)
theorem dX1_change_3 : decode cX1_change 3 = .ok (.invokevirtual 143, 3) := dk_182 0 143 (dk_at dksX1_change_0 3 rfl rfl)
theorem dX1_change_6 : decode cX1_change 6 = .ok (.aload_n 1, 1) := dk_43 (dk_at dksX1_change_0 6 rfl rfl)
theorem dX1_change_7 : decode cX1_change 7 = .ok (.dup, 1) := dk_89 (dk_at dksX1_change_0 7 rfl rfl)
theorem dX1_change_8 : decode cX1_change 8 = .ok (.getfield 147, 3) := dk_180 0 147 (dk_at dksX1_change_0 8 rfl rfl)
theorem dX1_change_11 : decode cX1_change 11 = .ok (.iload_n 2, 1) := dk_28 (dk_at dksX1_change_0 11 rfl rfl)
theorem dX1_change_12 : decode cX1_change 12 = .ok (.iadd, 1) := dk_96 (dk_at dksX1_change_0 12 rfl rfl)
theorem dX1_change_13 : decode cX1_change 13 = .ok (.putfield 147, 3) := dk_181 0 147 (dk_at dksX1_change_0 13 rfl rfl)
theorem dX1_change_16 : decode cX1_change 16 = .ok (.aload_n 1, 1) := dk_43 (dk_at dksX1_change_0 16 rfl rfl)
theorem dX1_change_17 : decode cX1_change 17 = .ok (.dup, 1) := dk_89 (dk_at dksX1_change_0 17 rfl rfl)
theorem dX1_change_18 : decode cX1_change 18 = .ok (.getfield 148, 3) := dk_180 0 148 (dk_at dksX1_change_0 18 rfl rfl)
theorem dX1_change_21 : decode cX1_change 21 = .ok (.iload_n 3, 1) := dk_29 (dk_at dksX1_change_0 21 rfl rfl)
theorem dX1_change_22 : decode cX1_change 22 = .ok (.iadd, 1) := dk_96 (dk_at dksX1_change_0 22 rfl rfl)
theorem dX1_change_23 : decode cX1_change 23 = .ok (.putfield 148, 3) := dk_181 0 148 (dk_at dksX1_change_1 0 rfl rfl)
theorem dX1_change_26 : decode cX1_change 26 = .ok (.aload_n 0, 1) := dk_42 (dk_at dksX1_change_1 3 rfl rfl)
theorem dX1_change_27 : decode cX1_change 27 = .ok (.aload_n 1, 1) := dk_43 (dk_at dksX1_change_1 4 rfl rfl)
theorem dX1_change_28 : decode cX1_change 28 = .ok (.iconst 1, 1) := dk_4 (dk_at dksX1_change_1 5 rfl rfl)
theorem dX1_change_29 : decode cX1_change 29 = .ok (.invokevirtual 143, 3) := dk_182 0 143 (dk_at dksX1_change_1 6 rfl rfl)
theorem dX1_change_32 : decode cX1_change 32 = .ok (.aload_n 0, 1) := dk_42 (dk_at dksX1_change_1 9 rfl rfl)
theorem dX1_change_33 : decode cX1_change 33 = .ok (.invokevirtual 151, 3) := dk_182 0 151 (dk_at dksX1_change_1 10 rfl rfl)
theorem dX1_change_36 : decode cX1_change 36 = .ok (.return_, 1) := dk_177 (dk_at dksX1_change_1 13 rfl rfl)
abbrev cX1_delete : ByteArray := prog_1_method_26_code
def yX1_delete : MethodName := ⟨RX1, "delete", "(I)I"⟩
def dkwX1_delete_3 : List UInt8 := [167, 255, 200, 42, 44, 2, 182, 0, 143, 44, 4, 181, 0, 81, 42, 182, 0, 151, 29, 172]
abbrev dktX1_delete_3 : List UInt8 := dkwX1_delete_3 ++ []
def dkwX1_delete_2 : List UInt8 := [154, 0, 12, 25, 5, 180, 0, 227, 44, 166, 0, 7, 4, 167, 0, 4, 3, 181, 0, 224, 132, 4, 1]
abbrev dktX1_delete_2 : List UInt8 := dkwX1_delete_2 ++ dktX1_delete_3
def dkwX1_delete_1 : List UInt8 := [162, 0, 50, 42, 180, 0, 44, 21, 4, 182, 0, 75, 192, 0, 222, 58, 5, 25, 5, 25, 5, 180, 0, 224]
abbrev dktX1_delete_1 : List UInt8 := dkwX1_delete_1 ++ dktX1_delete_2
def dkwX1_delete_0 : List UInt8 := [42, 27, 182, 0, 210, 77, 44, 182, 0, 123, 62, 3, 54, 4, 21, 4, 42, 180, 0, 44, 182, 0, 67]
abbrev dktX1_delete_0 : List UInt8 := dkwX1_delete_0 ++ dktX1_delete_1
theorem dksX1_delete_0 : cX1_delete.data.toList.drop 0 = dktX1_delete_0 := by decide +kernel
theorem dksX1_delete_1 : cX1_delete.data.toList.drop 23 = dktX1_delete_1 := dk_seg dksX1_delete_0 23 rfl rfl
theorem dksX1_delete_2 : cX1_delete.data.toList.drop 47 = dktX1_delete_2 := dk_seg dksX1_delete_1 24 rfl rfl
theorem dksX1_delete_3 : cX1_delete.data.toList.drop 70 = dktX1_delete_3 := dk_seg dksX1_delete_2 23 rfl rfl
theorem dX1_delete_0 : decode cX1_delete 0 = .ok (.aload_n 0, 1) := dk_42 (dk_at dksX1_delete_0 0 rfl rfl)
theorem dX1_delete_1 : decode cX1_delete 1 = .ok (.iload_n 1, 1) := dk_27 (dk_at dksX1_delete_0 1 rfl rfl)
theorem dX1_delete_2 : decode cX1_delete 2 = .ok (.invokevirtual 210, 3) := dk_182 0 210 (dk_at dksX1_delete_0 2 rfl rfl)
theorem dX1_delete_5 : decode cX1_delete 5 = .ok (.astore_n 2, 1) := dk_77 (dk_at dksX1_delete_0 5 rfl rfl)
theorem dX1_delete_6 : decode cX1_delete 6 = .ok (.aload_n 2, 1) := dk_44 (dk_at dksX1_delete_0 6 rfl rfl)
theorem dX1_delete_7 : decode cX1_delete 7 = .ok (.invokevirtual 123, 3) := dk_182 0 123 (dk_at dksX1_delete_0 7 rfl rfl)
theorem dX1_delete_10 : decode cX1_delete 10 = .ok (.istore_n 3, 1) := dk_62 (dk_at dksX1_delete_0 10 rfl rfl)
theorem dX1_delete_11 : decode cX1_delete 11 = .ok (.iconst 0, 1) := dk_3 (dk_at dksX1_delete_0 11 rfl rfl)
theorem dX1_delete_12 : decode cX1_delete 12 = .ok (.istore 4, 2) := dk_54 4 (dk_at dksX1_delete_0 12 rfl rfl)
theorem dX1_delete_14 : decode cX1_delete 14 = .ok (.iload 4, 2) := dk_21 4 (dk_at dksX1_delete_0 14 rfl rfl)
theorem dX1_delete_16 : decode cX1_delete 16 = .ok (.aload_n 0, 1) := dk_42 (dk_at dksX1_delete_0 16 rfl rfl)
theorem dX1_delete_17 : decode cX1_delete 17 = .ok (.getfield 44, 3) := dk_180 0 44 (dk_at dksX1_delete_0 17 rfl rfl)
theorem dX1_delete_20 : decode cX1_delete 20 = .ok (.invokevirtual 67, 3) := dk_182 0 67 (dk_at dksX1_delete_0 20 rfl rfl)
theorem dX1_delete_23 : decode cX1_delete 23 = .ok (.if_icmp .ge 50, 3) := dk_162 0 50 (dk_at dksX1_delete_1 0 rfl rfl)
theorem dX1_delete_26 : decode cX1_delete 26 = .ok (.aload_n 0, 1) := dk_42 (dk_at dksX1_delete_1 3 rfl rfl)
theorem dX1_delete_27 : decode cX1_delete 27 = .ok (.getfield 44, 3) := dk_180 0 44 (dk_at dksX1_delete_1 4 rfl rfl)
theorem dX1_delete_30 : decode cX1_delete 30 = .ok (.iload 4, 2) := dk_21 4 (dk_at dksX1_delete_1 7 rfl rfl)
theorem dX1_delete_32 : decode cX1_delete 32 = .ok (.invokevirtual 75, 3) := dk_182 0 75 (dk_at dksX1_delete_1 9 rfl rfl)
theorem dX1_delete_35 : decode cX1_delete 35 = .ok (.checkcast 222, 3) := dk_192 0 222 (dk_at dksX1_delete_1 12 rfl rfl)
theorem dX1_delete_38 : decode cX1_delete 38 = .ok (.astore 5, 2) := dk_58 5 (dk_at dksX1_delete_1 15 rfl rfl)
theorem dX1_delete_40 : decode cX1_delete 40 = .ok (.aload 5, 2) := dk_25 5 (dk_at dksX1_delete_1 17 rfl rfl)
theorem dX1_delete_42 : decode cX1_delete 42 = .ok (.aload 5, 2) := dk_25 5 (dk_at dksX1_delete_1 19 rfl rfl)
theorem dX1_delete_44 : decode cX1_delete 44 = .ok (.getfield 224, 3) := dk_180 0 224 (dk_at dksX1_delete_1 21 rfl rfl)
theorem dX1_delete_47 : decode cX1_delete 47 = .ok (.ifCond .ne 12, 3) := dk_154 0 12 (dk_at dksX1_delete_2 0 rfl rfl)
theorem dX1_delete_50 : decode cX1_delete 50 = .ok (.aload 5, 2) := dk_25 5 (dk_at dksX1_delete_2 3 rfl rfl)
theorem dX1_delete_52 : decode cX1_delete 52 = .ok (.getfield 227, 3) := dk_180 0 227 (dk_at dksX1_delete_2 5 rfl rfl)
theorem dX1_delete_55 : decode cX1_delete 55 = .ok (.aload_n 2, 1) := dk_44 (dk_at dksX1_delete_2 8 rfl rfl)
theorem dX1_delete_56 : decode cX1_delete 56 = .ok (.if_acmp .ne 7, 3) := dk_166 0 7 (dk_at dksX1_delete_2 9 rfl rfl)
theorem dX1_delete_59 : decode cX1_delete 59 = .ok (.iconst 1, 1) := dk_4 (dk_at dksX1_delete_2 12 rfl rfl)
theorem dX1_delete_60 : decode cX1_delete 60 = .ok (.goto 4, 3) := dk_167 0 4 (dk_at dksX1_delete_2 13 rfl rfl)
theorem dX1_delete_63 : decode cX1_delete 63 = .ok (.iconst 0, 1) := dk_3 (dk_at dksX1_delete_2 16 rfl rfl)
theorem dX1_delete_64 : decode cX1_delete 64 = .ok (.putfield 224, 3) := dk_181 0 224 (dk_at dksX1_delete_2 17 rfl rfl)
theorem dX1_delete_67 : decode cX1_delete 67 = .ok (.iinc 4 1, 3) := dk_132 4 1 (dk_at dksX1_delete_2 20 rfl rfl)
theorem dX1_delete_70 : decode cX1_delete 70 = .ok (.goto (-56), 3) := dk_167 255 200 (dk_at dksX1_delete_3 0 rfl rfl)
theorem dX1_delete_73 : decode cX1_delete 73 = .ok (.aload_n 0, 1) := dk_42 (dk_at dksX1_delete_3 3 rfl rfl)
theorem dX1_delete_74 : decode cX1_delete 74 = .ok (.aload_n 2, 1) := dk_44 (dk_at dksX1_delete_3 4 rfl rfl)
theorem dX1_delete_75 : decode cX1_delete 75 = .ok (.iconst (-1), 1) := dk_2 (dk_at dksX1_delete_3 5 rfl rfl)
theorem dX1_delete_76 : decode cX1_delete 76 = .ok (.invokevirtual 143, 3) := dk_182 0 143 (dk_at dksX1_delete_3 6 rfl rfl)
theorem dX1_delete_79 : decode cX1_delete 79 = .ok (.aload_n 2, 1) := dk_44 (dk_at dksX1_delete_3 9 rfl rfl)
theorem dX1_delete_80 : decode cX1_delete 80 = .ok (.iconst 1, 1) := dk_4 (dk_at dksX1_delete_3 10 rfl rfl)
theorem dX1_delete_81 : decode cX1_delete 81 = .ok (.putfield 81, 3) := dk_181 0 81 (dk_at dksX1_delete_3 11 rfl rfl)
theorem dX1_delete_84 : decode cX1_delete 84 = .ok (.aload_n 0, 1) := dk_42 (dk_at dksX1_delete_3 14 rfl rfl)
theorem dX1_delete_85 : decode cX1_delete 85 = .ok (.invokevirtual 151, 3) := dk_182 0 151 (dk_at dksX1_delete_3 15 rfl rfl)
theorem dX1_delete_88 : decode cX1_delete 88 = .ok (.iload_n 3, 1) := dk_29 (dk_at dksX1_delete_3 18 rfl rfl)
theorem dX1_delete_89 : decode cX1_delete 89 = .ok (.ireturn, 1) := dk_172 (dk_at dksX1_delete_3 19 rfl rfl)
abbrev cX1_moveFile : ByteArray := prog_1_method_27_code
def yX1_moveFile : MethodName := ⟨RX1, "moveFile", "(II)I"⟩
def dkwX1_moveFile_1 : List UInt8 := [2, 182, 0, 143, 45, 25, 4, 181, 0, 112, 42, 45, 4, 182, 0, 143, 42, 182, 0, 151, 21, 5, 172]
abbrev dktX1_moveFile_1 : List UInt8 := dkwX1_moveFile_1 ++ []
def dkwX1_moveFile_0 : List UInt8 := [42, 27, 182, 0, 210, 78, 42, 28, 182, 0, 180, 58, 4, 45, 180, 0, 112, 180, 0, 179, 54, 5, 42, 45]
abbrev dktX1_moveFile_0 : List UInt8 := dkwX1_moveFile_0 ++ dktX1_moveFile_1
theorem dksX1_moveFile_0 : cX1_moveFile.data.toList.drop 0 = dktX1_moveFile_0 := by decide +kernel
theorem dksX1_moveFile_1 : cX1_moveFile.data.toList.drop 24 = dktX1_moveFile_1 := dk_seg dksX1_moveFile_0 24 rfl rfl
theorem dX1_moveFile_0 : decode cX1_moveFile 0 = .ok (.aload_n 0, 1) := dk_42 (dk_at dksX1_moveFile_0 0 rfl rfl)
theorem dX1_moveFile_1 : decode cX1_moveFile 1 = .ok (.iload_n 1, 1) := dk_27 (dk_at dksX1_moveFile_0 1 rfl rfl)
theorem dX1_moveFile_2 : decode cX1_moveFile 2 = .ok (.invokevirtual 210, 3) := dk_182 0 210 (dk_at dksX1_moveFile_0 2 rfl rfl)
theorem dX1_moveFile_5 : decode cX1_moveFile 5 = .ok (.astore_n 3, 1) := dk_78 (dk_at dksX1_moveFile_0 5 rfl rfl)
theorem dX1_moveFile_6 : decode cX1_moveFile 6 = .ok (.aload_n 0, 1) := dk_42 (dk_at dksX1_moveFile_0 6 rfl rfl)
theorem dX1_moveFile_7 : decode cX1_moveFile 7 = .ok (.iload_n 2, 1) := dk_28 (dk_at dksX1_moveFile_0 7 rfl rfl)
theorem dX1_moveFile_8 : decode cX1_moveFile 8 = .ok (.invokevirtual 180, 3) := dk_182 0 180 (dk_at dksX1_moveFile_0 8 rfl rfl)
theorem dX1_moveFile_11 : decode cX1_moveFile 11 = .ok (.astore 4, 2) := dk_58 4 (dk_at dksX1_moveFile_0 11 rfl rfl)
theorem dX1_moveFile_13 : decode cX1_moveFile 13 = .ok (.aload_n 3, 1) := dk_45 (dk_at dksX1_moveFile_0 13 rfl rfl)
theorem dX1_moveFile_14 : decode cX1_moveFile 14 = .ok (.getfield 112, 3) := dk_180 0 112 (dk_at dksX1_moveFile_0 14 rfl rfl)
theorem dX1_moveFile_17 : decode cX1_moveFile 17 = .ok (.getfield 179, 3) := dk_180 0 179 (dk_at dksX1_moveFile_0 17 rfl rfl)
theorem dX1_moveFile_20 : decode cX1_moveFile 20 = .ok (.istore 5, 2) := dk_54 5 (dk_at dksX1_moveFile_0 20 rfl rfl)
theorem dX1_moveFile_22 : decode cX1_moveFile 22 = .ok (.aload_n 0, 1) := dk_42 (dk_at dksX1_moveFile_0 22 rfl rfl)
theorem dX1_moveFile_23 : decode cX1_moveFile 23 = .ok (.aload_n 3, 1) := dk_45 (dk_at dksX1_moveFile_0 23 rfl rfl)
theorem dX1_moveFile_24 : decode cX1_moveFile 24 = .ok (.iconst (-1), 1) := dk_2 (dk_at dksX1_moveFile_1 0 rfl rfl)
theorem dX1_moveFile_25 : decode cX1_moveFile 25 = .ok (.invokevirtual 143, 3) := dk_182 0 143 (dk_at dksX1_moveFile_1 1 rfl rfl)
theorem dX1_moveFile_28 : decode cX1_moveFile 28 = .ok (.aload_n 3, 1) := dk_45 (dk_at dksX1_moveFile_1 4 rfl rfl)
theorem dX1_moveFile_29 : decode cX1_moveFile 29 = .ok (.aload 4, 2) := dk_25 4 (dk_at dksX1_moveFile_1 5 rfl rfl)
theorem dX1_moveFile_31 : decode cX1_moveFile 31 = .ok (.putfield 112, 3) := dk_181 0 112 (dk_at dksX1_moveFile_1 7 rfl rfl)
theorem dX1_moveFile_34 : decode cX1_moveFile 34 = .ok (.aload_n 0, 1) := dk_42 (dk_at dksX1_moveFile_1 10 rfl rfl)
theorem dX1_moveFile_35 : decode cX1_moveFile 35 = .ok (.aload_n 3, 1) := dk_45 (dk_at dksX1_moveFile_1 11 rfl rfl)
theorem dX1_moveFile_36 : decode cX1_moveFile 36 = .ok (.iconst 1, 1) := dk_4 (dk_at dksX1_moveFile_1 12 rfl rfl)
theorem dX1_moveFile_37 : decode cX1_moveFile 37 = .ok (.invokevirtual 143, 3) := dk_182 0 143 (dk_at dksX1_moveFile_1 13 rfl rfl)
theorem dX1_moveFile_40 : decode cX1_moveFile 40 = .ok (.aload_n 0, 1) := dk_42 (dk_at dksX1_moveFile_1 16 rfl rfl)
theorem dX1_moveFile_41 : decode cX1_moveFile 41 = .ok (.invokevirtual 151, 3) := dk_182 0 151 (dk_at dksX1_moveFile_1 17 rfl rfl)
theorem dX1_moveFile_44 : decode cX1_moveFile 44 = .ok (.iload 5, 2) := dk_21 5 (dk_at dksX1_moveFile_1 20 rfl rfl)
theorem dX1_moveFile_46 : decode cX1_moveFile 46 = .ok (.ireturn, 1) := dk_172 (dk_at dksX1_moveFile_1 22 rfl rfl)
abbrev cX1_reserve : ByteArray := prog_1_method_28_code
def yX1_reserve : MethodName := ⟨RX1, "reserve", "(II)I"⟩
def dkwX1_reserve_3 : List UInt8 := [182, 0, 59, 87, 42, 45, 3, 28, 182, 0, 218, 42, 180, 0, 44, 182, 0, 67, 4, 100, 172]
abbrev dktX1_reserve_3 : List UInt8 := dkwX1_reserve_3 ++ []
def dkwX1_reserve_2 : List UInt8 := [159, 0, 9, 16, 254, 21, 4, 100, 172, 42, 180, 0, 44, 187, 0, 222, 89, 45, 28, 183, 0, 231]
abbrev dktX1_reserve_2 : List UInt8 := dkwX1_reserve_2 ++ dktX1_reserve_3
def dkwX1_reserve_1 : List UInt8 := [16, 30, 162, 0, 7, 4, 167, 0, 4, 3, 184, 0, 161, 42, 45, 28, 182, 0, 214, 54, 4, 21, 4, 2]
abbrev dktX1_reserve_1 : List UInt8 := dkwX1_reserve_1 ++ dktX1_reserve_2
def dkwX1_reserve_0 : List UInt8 := [42, 27, 182, 0, 210, 78, 28, 4, 17, 3, 232, 184, 0, 63, 184, 0, 158, 42, 180, 0, 44, 182, 0, 67]
abbrev dktX1_reserve_0 : List UInt8 := dkwX1_reserve_0 ++ dktX1_reserve_1
theorem dksX1_reserve_0 : cX1_reserve.data.toList.drop 0 = dktX1_reserve_0 := by decide +kernel
theorem dksX1_reserve_1 : cX1_reserve.data.toList.drop 24 = dktX1_reserve_1 := dk_seg dksX1_reserve_0 24 rfl rfl
theorem dksX1_reserve_2 : cX1_reserve.data.toList.drop 48 = dktX1_reserve_2 := dk_seg dksX1_reserve_1 24 rfl rfl
theorem dksX1_reserve_3 : cX1_reserve.data.toList.drop 70 = dktX1_reserve_3 := dk_seg dksX1_reserve_2 22 rfl rfl
theorem dX1_reserve_0 : decode cX1_reserve 0 = .ok (.aload_n 0, 1) := dk_42 (dk_at dksX1_reserve_0 0 rfl rfl)
theorem dX1_reserve_1 : decode cX1_reserve 1 = .ok (.iload_n 1, 1) := dk_27 (dk_at dksX1_reserve_0 1 rfl rfl)
theorem dX1_reserve_2 : decode cX1_reserve 2 = .ok (.invokevirtual 210, 3) := dk_182 0 210 (dk_at dksX1_reserve_0 2 rfl rfl)
theorem dX1_reserve_5 : decode cX1_reserve 5 = .ok (.astore_n 3, 1) := dk_78 (dk_at dksX1_reserve_0 5 rfl rfl)
theorem dX1_reserve_6 : decode cX1_reserve 6 = .ok (.iload_n 2, 1) := dk_28 (dk_at dksX1_reserve_0 6 rfl rfl)
theorem dX1_reserve_7 : decode cX1_reserve 7 = .ok (.iconst 1, 1) := dk_4 (dk_at dksX1_reserve_0 7 rfl rfl)
theorem dX1_reserve_8 : decode cX1_reserve 8 = .ok (.sipush 1000, 3) := dk_17 3 232 (dk_at dksX1_reserve_0 8 rfl rfl)
theorem dX1_reserve_11 : decode cX1_reserve 11 = .ok (.invokestatic 63, 3) := dk_184 0 63 (dk_at dksX1_reserve_0 11 rfl rfl)
theorem dX1_reserve_14 : decode cX1_reserve 14 = .ok (.invokestatic 158, 3) := dk_184 0 158 (dk_at dksX1_reserve_0 14 rfl rfl)
theorem dX1_reserve_17 : decode cX1_reserve 17 = .ok (.aload_n 0, 1) := dk_42 (dk_at dksX1_reserve_0 17 rfl rfl)
theorem dX1_reserve_18 : decode cX1_reserve 18 = .ok (.getfield 44, 3) := dk_180 0 44 (dk_at dksX1_reserve_0 18 rfl rfl)
theorem dX1_reserve_21 : decode cX1_reserve 21 = .ok (.invokevirtual 67, 3) := dk_182 0 67 (dk_at dksX1_reserve_0 21 rfl rfl)
theorem dX1_reserve_24 : decode cX1_reserve 24 = .ok (.bipush 30, 2) := dk_16 30 (dk_at dksX1_reserve_1 0 rfl rfl)
theorem dX1_reserve_26 : decode cX1_reserve 26 = .ok (.if_icmp .ge 7, 3) := dk_162 0 7 (dk_at dksX1_reserve_1 2 rfl rfl)
theorem dX1_reserve_29 : decode cX1_reserve 29 = .ok (.iconst 1, 1) := dk_4 (dk_at dksX1_reserve_1 5 rfl rfl)
theorem dX1_reserve_30 : decode cX1_reserve 30 = .ok (.goto 4, 3) := dk_167 0 4 (dk_at dksX1_reserve_1 6 rfl rfl)
theorem dX1_reserve_33 : decode cX1_reserve 33 = .ok (.iconst 0, 1) := dk_3 (dk_at dksX1_reserve_1 9 rfl rfl)
theorem dX1_reserve_34 : decode cX1_reserve 34 = .ok (.invokestatic 161, 3) := dk_184 0 161 (dk_at dksX1_reserve_1 10 rfl rfl)
theorem dX1_reserve_37 : decode cX1_reserve 37 = .ok (.aload_n 0, 1) := dk_42 (dk_at dksX1_reserve_1 13 rfl rfl)
theorem dX1_reserve_38 : decode cX1_reserve 38 = .ok (.aload_n 3, 1) := dk_45 (dk_at dksX1_reserve_1 14 rfl rfl)
theorem dX1_reserve_39 : decode cX1_reserve 39 = .ok (.iload_n 2, 1) := dk_28 (dk_at dksX1_reserve_1 15 rfl rfl)
theorem dX1_reserve_40 : decode cX1_reserve 40 = .ok (.invokevirtual 214, 3) := dk_182 0 214 (dk_at dksX1_reserve_1 16 rfl rfl)
theorem dX1_reserve_43 : decode cX1_reserve 43 = .ok (.istore 4, 2) := dk_54 4 (dk_at dksX1_reserve_1 19 rfl rfl)
theorem dX1_reserve_45 : decode cX1_reserve 45 = .ok (.iload 4, 2) := dk_21 4 (dk_at dksX1_reserve_1 21 rfl rfl)
theorem dX1_reserve_47 : decode cX1_reserve 47 = .ok (.iconst (-1), 1) := dk_2 (dk_at dksX1_reserve_1 23 rfl rfl)
theorem dX1_reserve_48 : decode cX1_reserve 48 = .ok (.if_icmp .eq 9, 3) := dk_159 0 9 (dk_at dksX1_reserve_2 0 rfl rfl)
theorem dX1_reserve_51 : decode cX1_reserve 51 = .ok (.bipush (-2), 2) := dk_16 254 (dk_at dksX1_reserve_2 3 rfl rfl)
theorem dX1_reserve_53 : decode cX1_reserve 53 = .ok (.iload 4, 2) := dk_21 4 (dk_at dksX1_reserve_2 5 rfl rfl)
theorem dX1_reserve_55 : decode cX1_reserve 55 = .ok (.isub, 1) := dk_100 (dk_at dksX1_reserve_2 7 rfl rfl)
theorem dX1_reserve_56 : decode cX1_reserve 56 = .ok (.ireturn, 1) := dk_172 (dk_at dksX1_reserve_2 8 rfl rfl)
theorem dX1_reserve_57 : decode cX1_reserve 57 = .ok (.aload_n 0, 1) := dk_42 (dk_at dksX1_reserve_2 9 rfl rfl)
theorem dX1_reserve_58 : decode cX1_reserve 58 = .ok (.getfield 44, 3) := dk_180 0 44 (dk_at dksX1_reserve_2 10 rfl rfl)
theorem dX1_reserve_61 : decode cX1_reserve 61 = .ok (.new 222, 3) := dk_187 0 222 (dk_at dksX1_reserve_2 13 rfl rfl)
theorem dX1_reserve_64 : decode cX1_reserve 64 = .ok (.dup, 1) := dk_89 (dk_at dksX1_reserve_2 16 rfl rfl)
theorem dX1_reserve_65 : decode cX1_reserve 65 = .ok (.aload_n 3, 1) := dk_45 (dk_at dksX1_reserve_2 17 rfl rfl)
theorem dX1_reserve_66 : decode cX1_reserve 66 = .ok (.iload_n 2, 1) := dk_28 (dk_at dksX1_reserve_2 18 rfl rfl)
theorem dX1_reserve_67 : decode cX1_reserve 67 = .ok (.invokespecial 231, 3) := dk_183 0 231 (dk_at dksX1_reserve_2 19 rfl rfl)
theorem dX1_reserve_70 : decode cX1_reserve 70 = .ok (.invokevirtual 59, 3) := dk_182 0 59 (dk_at dksX1_reserve_3 0 rfl rfl)
theorem dX1_reserve_73 : decode cX1_reserve 73 = .ok (.pop, 1) := dk_87 (dk_at dksX1_reserve_3 3 rfl rfl)
theorem dX1_reserve_74 : decode cX1_reserve 74 = .ok (.aload_n 0, 1) := dk_42 (dk_at dksX1_reserve_3 4 rfl rfl)
theorem dX1_reserve_75 : decode cX1_reserve 75 = .ok (.aload_n 3, 1) := dk_45 (dk_at dksX1_reserve_3 5 rfl rfl)
theorem dX1_reserve_76 : decode cX1_reserve 76 = .ok (.iconst 0, 1) := dk_3 (dk_at dksX1_reserve_3 6 rfl rfl)
theorem dX1_reserve_77 : decode cX1_reserve 77 = .ok (.iload_n 2, 1) := dk_28 (dk_at dksX1_reserve_3 7 rfl rfl)
theorem dX1_reserve_78 : decode cX1_reserve 78 = .ok (.invokevirtual 218, 3) := dk_182 0 218 (dk_at dksX1_reserve_3 8 rfl rfl)
theorem dX1_reserve_81 : decode cX1_reserve 81 = .ok (.aload_n 0, 1) := dk_42 (dk_at dksX1_reserve_3 11 rfl rfl)
theorem dX1_reserve_82 : decode cX1_reserve 82 = .ok (.getfield 44, 3) := dk_180 0 44 (dk_at dksX1_reserve_3 12 rfl rfl)
theorem dX1_reserve_85 : decode cX1_reserve 85 = .ok (.invokevirtual 67, 3) := dk_182 0 67 (dk_at dksX1_reserve_3 15 rfl rfl)
theorem dX1_reserve_88 : decode cX1_reserve 88 = .ok (.iconst 1, 1) := dk_4 (dk_at dksX1_reserve_3 18 rfl rfl)
theorem dX1_reserve_89 : decode cX1_reserve 89 = .ok (.isub, 1) := dk_100 (dk_at dksX1_reserve_3 19 rfl rfl)
theorem dX1_reserve_90 : decode cX1_reserve 90 = .ok (.ireturn, 1) := dk_172 (dk_at dksX1_reserve_3 20 rfl rfl)
abbrev cX1_settle : ByteArray := prog_1_method_29_code
def yX1_settle : MethodName := ⟨RX1, "settle", "(II)I"⟩
def dkwX1_settle_3 : List UInt8 := [180, 0, 233, 116, 182, 0, 218, 45, 180, 0, 227, 180, 0, 147, 172]
abbrev dktX1_settle_3 : List UInt8 := dkwX1_settle_3 ++ []
def dkwX1_settle_2 : List UInt8 := [45, 180, 0, 233, 184, 0, 63, 184, 0, 158, 45, 4, 181, 0, 224, 42, 45, 180, 0, 227, 28, 45]
abbrev dktX1_settle_2 : List UInt8 := dkwX1_settle_2 ++ dktX1_settle_3
def dkwX1_settle_1 : List UInt8 := [182, 0, 75, 192, 0, 222, 78, 45, 180, 0, 224, 154, 0, 7, 4, 167, 0, 4, 3, 184, 0, 71, 28, 3]
abbrev dktX1_settle_1 : List UInt8 := dkwX1_settle_1 ++ dktX1_settle_2
def dkwX1_settle_0 : List UInt8 := [27, 3, 42, 180, 0, 44, 182, 0, 67, 4, 100, 184, 0, 63, 184, 0, 71, 42, 180, 0, 44, 27]
abbrev dktX1_settle_0 : List UInt8 := dkwX1_settle_0 ++ dktX1_settle_1
theorem dksX1_settle_0 : cX1_settle.data.toList.drop 0 = dktX1_settle_0 := by decide +kernel
theorem dksX1_settle_1 : cX1_settle.data.toList.drop 22 = dktX1_settle_1 := dk_seg dksX1_settle_0 22 rfl rfl
theorem dksX1_settle_2 : cX1_settle.data.toList.drop 46 = dktX1_settle_2 := dk_seg dksX1_settle_1 24 rfl rfl
theorem dksX1_settle_3 : cX1_settle.data.toList.drop 68 = dktX1_settle_3 := dk_seg dksX1_settle_2 22 rfl rfl
theorem dX1_settle_0 : decode cX1_settle 0 = .ok (.iload_n 1, 1) := dk_27 (dk_at dksX1_settle_0 0 rfl rfl)
theorem dX1_settle_1 : decode cX1_settle 1 = .ok (.iconst 0, 1) := dk_3 (dk_at dksX1_settle_0 1 rfl rfl)
theorem dX1_settle_2 : decode cX1_settle 2 = .ok (.aload_n 0, 1) := dk_42 (dk_at dksX1_settle_0 2 rfl rfl)
theorem dX1_settle_3 : decode cX1_settle 3 = .ok (.getfield 44, 3) := dk_180 0 44 (dk_at dksX1_settle_0 3 rfl rfl)
theorem dX1_settle_6 : decode cX1_settle 6 = .ok (.invokevirtual 67, 3) := dk_182 0 67 (dk_at dksX1_settle_0 6 rfl rfl)
theorem dX1_settle_9 : decode cX1_settle 9 = .ok (.iconst 1, 1) := dk_4 (dk_at dksX1_settle_0 9 rfl rfl)
theorem dX1_settle_10 : decode cX1_settle 10 = .ok (.isub, 1) := dk_100 (dk_at dksX1_settle_0 10 rfl rfl)
theorem dX1_settle_11 : decode cX1_settle 11 = .ok (.invokestatic 63, 3) := dk_184 0 63 (dk_at dksX1_settle_0 11 rfl rfl)
theorem dX1_settle_14 : decode cX1_settle 14 = .ok (.invokestatic 71, 3) := dk_184 0 71 (dk_at dksX1_settle_0 14 rfl rfl)
theorem dX1_settle_17 : decode cX1_settle 17 = .ok (.aload_n 0, 1) := dk_42 (dk_at dksX1_settle_0 17 rfl rfl)
theorem dX1_settle_18 : decode cX1_settle 18 = .ok (.getfield 44, 3) := dk_180 0 44 (dk_at dksX1_settle_0 18 rfl rfl)
theorem dX1_settle_21 : decode cX1_settle 21 = .ok (.iload_n 1, 1) := dk_27 (dk_at dksX1_settle_0 21 rfl rfl)
theorem dX1_settle_22 : decode cX1_settle 22 = .ok (.invokevirtual 75, 3) := dk_182 0 75 (dk_at dksX1_settle_1 0 rfl rfl)
theorem dX1_settle_25 : decode cX1_settle 25 = .ok (.checkcast 222, 3) := dk_192 0 222 (dk_at dksX1_settle_1 3 rfl rfl)
theorem dX1_settle_28 : decode cX1_settle 28 = .ok (.astore_n 3, 1) := dk_78 (dk_at dksX1_settle_1 6 rfl rfl)
theorem dX1_settle_29 : decode cX1_settle 29 = .ok (.aload_n 3, 1) := dk_45 (dk_at dksX1_settle_1 7 rfl rfl)
theorem dX1_settle_30 : decode cX1_settle 30 = .ok (.getfield 224, 3) := dk_180 0 224 (dk_at dksX1_settle_1 8 rfl rfl)
theorem dX1_settle_33 : decode cX1_settle 33 = .ok (.ifCond .ne 7, 3) := dk_154 0 7 (dk_at dksX1_settle_1 11 rfl rfl)
theorem dX1_settle_36 : decode cX1_settle 36 = .ok (.iconst 1, 1) := dk_4 (dk_at dksX1_settle_1 14 rfl rfl)
theorem dX1_settle_37 : decode cX1_settle 37 = .ok (.goto 4, 3) := dk_167 0 4 (dk_at dksX1_settle_1 15 rfl rfl)
theorem dX1_settle_40 : decode cX1_settle 40 = .ok (.iconst 0, 1) := dk_3 (dk_at dksX1_settle_1 18 rfl rfl)
theorem dX1_settle_41 : decode cX1_settle 41 = .ok (.invokestatic 71, 3) := dk_184 0 71 (dk_at dksX1_settle_1 19 rfl rfl)
theorem dX1_settle_44 : decode cX1_settle 44 = .ok (.iload_n 2, 1) := dk_28 (dk_at dksX1_settle_1 22 rfl rfl)
theorem dX1_settle_45 : decode cX1_settle 45 = .ok (.iconst 0, 1) := dk_3 (dk_at dksX1_settle_1 23 rfl rfl)
theorem dX1_settle_46 : decode cX1_settle 46 = .ok (.aload_n 3, 1) := dk_45 (dk_at dksX1_settle_2 0 rfl rfl)
theorem dX1_settle_47 : decode cX1_settle 47 = .ok (.getfield 233, 3) := dk_180 0 233 (dk_at dksX1_settle_2 1 rfl rfl)
theorem dX1_settle_50 : decode cX1_settle 50 = .ok (.invokestatic 63, 3) := dk_184 0 63 (dk_at dksX1_settle_2 4 rfl rfl)
theorem dX1_settle_53 : decode cX1_settle 53 = .ok (.invokestatic 158, 3) := dk_184 0 158 (dk_at dksX1_settle_2 7 rfl rfl)
theorem dX1_settle_56 : decode cX1_settle 56 = .ok (.aload_n 3, 1) := dk_45 (dk_at dksX1_settle_2 10 rfl rfl)
theorem dX1_settle_57 : decode cX1_settle 57 = .ok (.iconst 1, 1) := dk_4 (dk_at dksX1_settle_2 11 rfl rfl)
theorem dX1_settle_58 : decode cX1_settle 58 = .ok (.putfield 224, 3) := dk_181 0 224 (dk_at dksX1_settle_2 12 rfl rfl)
theorem dX1_settle_61 : decode cX1_settle 61 = .ok (.aload_n 0, 1) := dk_42 (dk_at dksX1_settle_2 15 rfl rfl)
theorem dX1_settle_62 : decode cX1_settle 62 = .ok (.aload_n 3, 1) := dk_45 (dk_at dksX1_settle_2 16 rfl rfl)
theorem dX1_settle_63 : decode cX1_settle 63 = .ok (.getfield 227, 3) := dk_180 0 227 (dk_at dksX1_settle_2 17 rfl rfl)
theorem dX1_settle_66 : decode cX1_settle 66 = .ok (.iload_n 2, 1) := dk_28 (dk_at dksX1_settle_2 20 rfl rfl)
theorem dX1_settle_67 : decode cX1_settle 67 = .ok (.aload_n 3, 1) := dk_45 (dk_at dksX1_settle_2 21 rfl rfl)
theorem dX1_settle_68 : decode cX1_settle 68 = .ok (.getfield 233, 3) := dk_180 0 233 (dk_at dksX1_settle_3 0 rfl rfl)
theorem dX1_settle_71 : decode cX1_settle 71 = .ok (.ineg, 1) := dk_116 (dk_at dksX1_settle_3 3 rfl rfl)
theorem dX1_settle_72 : decode cX1_settle 72 = .ok (.invokevirtual 218, 3) := dk_182 0 218 (dk_at dksX1_settle_3 4 rfl rfl)
theorem dX1_settle_75 : decode cX1_settle 75 = .ok (.aload_n 3, 1) := dk_45 (dk_at dksX1_settle_3 7 rfl rfl)
theorem dX1_settle_76 : decode cX1_settle 76 = .ok (.getfield 227, 3) := dk_180 0 227 (dk_at dksX1_settle_3 8 rfl rfl)
theorem dX1_settle_79 : decode cX1_settle 79 = .ok (.getfield 147, 3) := dk_180 0 147 (dk_at dksX1_settle_3 11 rfl rfl)
theorem dX1_settle_82 : decode cX1_settle 82 = .ok (.ireturn, 1) := dk_172 (dk_at dksX1_settle_3 14 rfl rfl)
abbrev cX1_setLimits : ByteArray := prog_1_method_30_code
def yX1_setLimits : MethodName := ⟨RX1, "setLimits", "(IIIII)V"⟩
def dkwX1_setLimits_3 : List UInt8 := [25, 6, 42, 180, 0, 135, 182, 0, 138, 177]
abbrev dktX1_setLimits_3 : List UInt8 := dkwX1_setLimits_3 ++ []
def dkwX1_setLimits_2 : List UInt8 := [184, 0, 158, 25, 6, 29, 181, 0, 239, 25, 6, 21, 4, 181, 0, 242, 25, 6, 21, 5, 181, 0, 245]
abbrev dktX1_setLimits_2 : List UInt8 := dkwX1_setLimits_2 ++ dktX1_setLimits_3
def dkwX1_setLimits_1 : List UInt8 := [184, 0, 63, 153, 0, 18, 21, 5, 2, 16, 100, 184, 0, 63, 153, 0, 7, 4, 167, 0, 4, 3]
abbrev dktX1_setLimits_1 : List UInt8 := dkwX1_setLimits_1 ++ dktX1_setLimits_2
def dkwX1_setLimits_0 : List UInt8 := [42, 27, 28, 182, 0, 234, 58, 6, 29, 2, 18, 238, 184, 0, 63, 153, 0, 29, 21, 4, 2, 18, 238]
abbrev dktX1_setLimits_0 : List UInt8 := dkwX1_setLimits_0 ++ dktX1_setLimits_1
theorem dksX1_setLimits_0 : cX1_setLimits.data.toList.drop 0 = dktX1_setLimits_0 := by decide +kernel
theorem dksX1_setLimits_1 : cX1_setLimits.data.toList.drop 23 = dktX1_setLimits_1 := dk_seg dksX1_setLimits_0 23 rfl rfl
theorem dksX1_setLimits_2 : cX1_setLimits.data.toList.drop 45 = dktX1_setLimits_2 := dk_seg dksX1_setLimits_1 22 rfl rfl
theorem dksX1_setLimits_3 : cX1_setLimits.data.toList.drop 68 = dktX1_setLimits_3 := dk_seg dksX1_setLimits_2 23 rfl rfl
theorem dX1_setLimits_0 : decode cX1_setLimits 0 = .ok (.aload_n 0, 1) := dk_42 (dk_at dksX1_setLimits_0 0 rfl rfl)
theorem dX1_setLimits_1 : decode cX1_setLimits 1 = .ok (.iload_n 1, 1) := dk_27 (dk_at dksX1_setLimits_0 1 rfl rfl)
theorem dX1_setLimits_2 : decode cX1_setLimits 2 = .ok (.iload_n 2, 1) := dk_28 (dk_at dksX1_setLimits_0 2 rfl rfl)
theorem dX1_setLimits_3 : decode cX1_setLimits 3 = .ok (.invokevirtual 234, 3) := dk_182 0 234 (dk_at dksX1_setLimits_0 3 rfl rfl)
theorem dX1_setLimits_6 : decode cX1_setLimits 6 = .ok (.astore 6, 2) := dk_58 6 (dk_at dksX1_setLimits_0 6 rfl rfl)
theorem dX1_setLimits_8 : decode cX1_setLimits 8 = .ok (.iload_n 3, 1) := dk_29 (dk_at dksX1_setLimits_0 8 rfl rfl)
theorem dX1_setLimits_9 : decode cX1_setLimits 9 = .ok (.iconst (-1), 1) := dk_2 (dk_at dksX1_setLimits_0 9 rfl rfl)
theorem dX1_setLimits_10 : decode cX1_setLimits 10 = .ok (.ldc 238, 2) := dk_18 238 (dk_at dksX1_setLimits_0 10 rfl rfl)
theorem dX1_setLimits_12 : decode cX1_setLimits 12 = .ok (.invokestatic 63, 3) := dk_184 0 63 (dk_at dksX1_setLimits_0 12 rfl rfl)
theorem dX1_setLimits_15 : decode cX1_setLimits 15 = .ok (.ifCond .eq 29, 3) := dk_153 0 29 (dk_at dksX1_setLimits_0 15 rfl rfl)
theorem dX1_setLimits_18 : decode cX1_setLimits 18 = .ok (.iload 4, 2) := dk_21 4 (dk_at dksX1_setLimits_0 18 rfl rfl)
theorem dX1_setLimits_20 : decode cX1_setLimits 20 = .ok (.iconst (-1), 1) := dk_2 (dk_at dksX1_setLimits_0 20 rfl rfl)
theorem dX1_setLimits_21 : decode cX1_setLimits 21 = .ok (.ldc 238, 2) := dk_18 238 (dk_at dksX1_setLimits_0 21 rfl rfl)
theorem dX1_setLimits_23 : decode cX1_setLimits 23 = .ok (.invokestatic 63, 3) := dk_184 0 63 (dk_at dksX1_setLimits_1 0 rfl rfl)
theorem dX1_setLimits_26 : decode cX1_setLimits 26 = .ok (.ifCond .eq 18, 3) := dk_153 0 18 (dk_at dksX1_setLimits_1 3 rfl rfl)
theorem dX1_setLimits_29 : decode cX1_setLimits 29 = .ok (.iload 5, 2) := dk_21 5 (dk_at dksX1_setLimits_1 6 rfl rfl)
theorem dX1_setLimits_31 : decode cX1_setLimits 31 = .ok (.iconst (-1), 1) := dk_2 (dk_at dksX1_setLimits_1 8 rfl rfl)
theorem dX1_setLimits_32 : decode cX1_setLimits 32 = .ok (.bipush 100, 2) := dk_16 100 (dk_at dksX1_setLimits_1 9 rfl rfl)
theorem dX1_setLimits_34 : decode cX1_setLimits 34 = .ok (.invokestatic 63, 3) := dk_184 0 63 (dk_at dksX1_setLimits_1 11 rfl rfl)
theorem dX1_setLimits_37 : decode cX1_setLimits 37 = .ok (.ifCond .eq 7, 3) := dk_153 0 7 (dk_at dksX1_setLimits_1 14 rfl rfl)
theorem dX1_setLimits_40 : decode cX1_setLimits 40 = .ok (.iconst 1, 1) := dk_4 (dk_at dksX1_setLimits_1 17 rfl rfl)
theorem dX1_setLimits_41 : decode cX1_setLimits 41 = .ok (.goto 4, 3) := dk_167 0 4 (dk_at dksX1_setLimits_1 18 rfl rfl)
theorem dX1_setLimits_44 : decode cX1_setLimits 44 = .ok (.iconst 0, 1) := dk_3 (dk_at dksX1_setLimits_1 21 rfl rfl)
theorem dX1_setLimits_45 : decode cX1_setLimits 45 = .ok (.invokestatic 158, 3) := dk_184 0 158 (dk_at dksX1_setLimits_2 0 rfl rfl)
theorem dX1_setLimits_48 : decode cX1_setLimits 48 = .ok (.aload 6, 2) := dk_25 6 (dk_at dksX1_setLimits_2 3 rfl rfl)
theorem dX1_setLimits_50 : decode cX1_setLimits 50 = .ok (.iload_n 3, 1) := dk_29 (dk_at dksX1_setLimits_2 5 rfl rfl)
theorem dX1_setLimits_51 : decode cX1_setLimits 51 = .ok (.putfield 239, 3) := dk_181 0 239 (dk_at dksX1_setLimits_2 6 rfl rfl)
theorem dX1_setLimits_54 : decode cX1_setLimits 54 = .ok (.aload 6, 2) := dk_25 6 (dk_at dksX1_setLimits_2 9 rfl rfl)
theorem dX1_setLimits_56 : decode cX1_setLimits 56 = .ok (.iload 4, 2) := dk_21 4 (dk_at dksX1_setLimits_2 11 rfl rfl)
theorem dX1_setLimits_58 : decode cX1_setLimits 58 = .ok (.putfield 242, 3) := dk_181 0 242 (dk_at dksX1_setLimits_2 13 rfl rfl)
theorem dX1_setLimits_61 : decode cX1_setLimits 61 = .ok (.aload 6, 2) := dk_25 6 (dk_at dksX1_setLimits_2 16 rfl rfl)
theorem dX1_setLimits_63 : decode cX1_setLimits 63 = .ok (.iload 5, 2) := dk_21 5 (dk_at dksX1_setLimits_2 18 rfl rfl)
theorem dX1_setLimits_65 : decode cX1_setLimits 65 = .ok (.putfield 245, 3) := dk_181 0 245 (dk_at dksX1_setLimits_2 20 rfl rfl)
theorem dX1_setLimits_68 : decode cX1_setLimits 68 = .ok (.aload 6, 2) := dk_25 6 (dk_at dksX1_setLimits_3 0 rfl rfl)
theorem dX1_setLimits_70 : decode cX1_setLimits 70 = .ok (.aload_n 0, 1) := dk_42 (dk_at dksX1_setLimits_3 2 rfl rfl)
theorem dX1_setLimits_71 : decode cX1_setLimits 71 = .ok (.getfield 135, 3) := dk_180 0 135 (dk_at dksX1_setLimits_3 3 rfl rfl)
theorem dX1_setLimits_74 : decode cX1_setLimits 74 = .ok (.invokevirtual 138, 3) := dk_182 0 138 (dk_at dksX1_setLimits_3 6 rfl rfl)
theorem dX1_setLimits_77 : decode cX1_setLimits 77 = .ok (.return_, 1) := dk_177 (dk_at dksX1_setLimits_3 9 rfl rfl)
abbrev cX1_accountAt : ByteArray := prog_1_method_6_code
def yX1_accountAt : MethodName := ⟨RX1, "accountAt", "(II)LAllotmentLedger$Account;"⟩
def dkwX1_accountAt_3 : List UInt8 := [160, 0, 12, 42, 180, 0, 31, 28, 50, 167, 0, 14, 42, 180, 0, 37, 28, 182, 0, 75, 192, 0, 25, 176]
abbrev dktX1_accountAt_3 : List UInt8 := dkwX1_accountAt_3 ++ []
def dkwX1_accountAt_2 : List UInt8 := [167, 0, 4, 3, 184, 0, 71, 27, 154, 0, 12, 42, 180, 0, 27, 28, 50, 167, 0, 28, 27, 4]
abbrev dktX1_accountAt_2 : List UInt8 := dkwX1_accountAt_2 ++ dktX1_accountAt_3
def dkwX1_accountAt_1 : List UInt8 := [160, 0, 7, 6, 167, 0, 10, 42, 180, 0, 37, 182, 0, 67, 4, 100, 184, 0, 63, 153, 0, 7, 4]
abbrev dktX1_accountAt_1 : List UInt8 := dkwX1_accountAt_1 ++ dktX1_accountAt_2
def dkwX1_accountAt_0 : List UInt8 := [27, 3, 5, 184, 0, 63, 153, 0, 42, 28, 3, 27, 154, 0, 8, 16, 6, 167, 0, 19, 27, 4]
abbrev dktX1_accountAt_0 : List UInt8 := dkwX1_accountAt_0 ++ dktX1_accountAt_1
theorem dksX1_accountAt_0 : cX1_accountAt.data.toList.drop 0 = dktX1_accountAt_0 := by decide +kernel
theorem dksX1_accountAt_1 : cX1_accountAt.data.toList.drop 22 = dktX1_accountAt_1 := dk_seg dksX1_accountAt_0 22 rfl rfl
theorem dksX1_accountAt_2 : cX1_accountAt.data.toList.drop 45 = dktX1_accountAt_2 := dk_seg dksX1_accountAt_1 23 rfl rfl
theorem dksX1_accountAt_3 : cX1_accountAt.data.toList.drop 67 = dktX1_accountAt_3 := dk_seg dksX1_accountAt_2 22 rfl rfl
theorem dX1_accountAt_0 : decode cX1_accountAt 0 = .ok (.iload_n 1, 1) := dk_27 (dk_at dksX1_accountAt_0 0 rfl rfl)
theorem dX1_accountAt_1 : decode cX1_accountAt 1 = .ok (.iconst 0, 1) := dk_3 (dk_at dksX1_accountAt_0 1 rfl rfl)
theorem dX1_accountAt_2 : decode cX1_accountAt 2 = .ok (.iconst 2, 1) := dk_5 (dk_at dksX1_accountAt_0 2 rfl rfl)
theorem dX1_accountAt_3 : decode cX1_accountAt 3 = .ok (.invokestatic 63, 3) := dk_184 0 63 (dk_at dksX1_accountAt_0 3 rfl rfl)
theorem dX1_accountAt_6 : decode cX1_accountAt 6 = .ok (.ifCond .eq 42, 3) := dk_153 0 42 (dk_at dksX1_accountAt_0 6 rfl rfl)
theorem dX1_accountAt_9 : decode cX1_accountAt 9 = .ok (.iload_n 2, 1) := dk_28 (dk_at dksX1_accountAt_0 9 rfl rfl)
theorem dX1_accountAt_10 : decode cX1_accountAt 10 = .ok (.iconst 0, 1) := dk_3 (dk_at dksX1_accountAt_0 10 rfl rfl)
theorem dX1_accountAt_11 : decode cX1_accountAt 11 = .ok (.iload_n 1, 1) := dk_27 (dk_at dksX1_accountAt_0 11 rfl rfl)
theorem dX1_accountAt_12 : decode cX1_accountAt 12 = .ok (.ifCond .ne 8, 3) := dk_154 0 8 (dk_at dksX1_accountAt_0 12 rfl rfl)
theorem dX1_accountAt_15 : decode cX1_accountAt 15 = .ok (.bipush 6, 2) := dk_16 6 (dk_at dksX1_accountAt_0 15 rfl rfl)
theorem dX1_accountAt_17 : decode cX1_accountAt 17 = .ok (.goto 19, 3) := dk_167 0 19 (dk_at dksX1_accountAt_0 17 rfl rfl)
theorem dX1_accountAt_20 : decode cX1_accountAt 20 = .ok (.iload_n 1, 1) := dk_27 (dk_at dksX1_accountAt_0 20 rfl rfl)
theorem dX1_accountAt_21 : decode cX1_accountAt 21 = .ok (.iconst 1, 1) := dk_4 (dk_at dksX1_accountAt_0 21 rfl rfl)
theorem dX1_accountAt_22 : decode cX1_accountAt 22 = .ok (.if_icmp .ne 7, 3) := dk_160 0 7 (dk_at dksX1_accountAt_1 0 rfl rfl)
theorem dX1_accountAt_25 : decode cX1_accountAt 25 = .ok (.iconst 3, 1) := dk_6 (dk_at dksX1_accountAt_1 3 rfl rfl)
theorem dX1_accountAt_26 : decode cX1_accountAt 26 = .ok (.goto 10, 3) := dk_167 0 10 (dk_at dksX1_accountAt_1 4 rfl rfl)
theorem dX1_accountAt_29 : decode cX1_accountAt 29 = .ok (.aload_n 0, 1) := dk_42 (dk_at dksX1_accountAt_1 7 rfl rfl)
theorem dX1_accountAt_30 : decode cX1_accountAt 30 = .ok (.getfield 37, 3) := dk_180 0 37 (dk_at dksX1_accountAt_1 8 rfl rfl)
theorem dX1_accountAt_33 : decode cX1_accountAt 33 = .ok (.invokevirtual 67, 3) := dk_182 0 67 (dk_at dksX1_accountAt_1 11 rfl rfl)
theorem dX1_accountAt_36 : decode cX1_accountAt 36 = .ok (.iconst 1, 1) := dk_4 (dk_at dksX1_accountAt_1 14 rfl rfl)
theorem dX1_accountAt_37 : decode cX1_accountAt 37 = .ok (.isub, 1) := dk_100 (dk_at dksX1_accountAt_1 15 rfl rfl)
theorem dX1_accountAt_38 : decode cX1_accountAt 38 = .ok (.invokestatic 63, 3) := dk_184 0 63 (dk_at dksX1_accountAt_1 16 rfl rfl)
theorem dX1_accountAt_41 : decode cX1_accountAt 41 = .ok (.ifCond .eq 7, 3) := dk_153 0 7 (dk_at dksX1_accountAt_1 19 rfl rfl)
theorem dX1_accountAt_44 : decode cX1_accountAt 44 = .ok (.iconst 1, 1) := dk_4 (dk_at dksX1_accountAt_1 22 rfl rfl)
theorem dX1_accountAt_45 : decode cX1_accountAt 45 = .ok (.goto 4, 3) := dk_167 0 4 (dk_at dksX1_accountAt_2 0 rfl rfl)
theorem dX1_accountAt_48 : decode cX1_accountAt 48 = .ok (.iconst 0, 1) := dk_3 (dk_at dksX1_accountAt_2 3 rfl rfl)
theorem dX1_accountAt_49 : decode cX1_accountAt 49 = .ok (.invokestatic 71, 3) := dk_184 0 71 (dk_at dksX1_accountAt_2 4 rfl rfl)
theorem dX1_accountAt_52 : decode cX1_accountAt 52 = .ok (.iload_n 1, 1) := dk_27 (dk_at dksX1_accountAt_2 7 rfl rfl)
theorem dX1_accountAt_53 : decode cX1_accountAt 53 = .ok (.ifCond .ne 12, 3) := dk_154 0 12 (dk_at dksX1_accountAt_2 8 rfl rfl)
theorem dX1_accountAt_56 : decode cX1_accountAt 56 = .ok (.aload_n 0, 1) := dk_42 (dk_at dksX1_accountAt_2 11 rfl rfl)
theorem dX1_accountAt_57 : decode cX1_accountAt 57 = .ok (.getfield 27, 3) := dk_180 0 27 (dk_at dksX1_accountAt_2 12 rfl rfl)
theorem dX1_accountAt_60 : decode cX1_accountAt 60 = .ok (.iload_n 2, 1) := dk_28 (dk_at dksX1_accountAt_2 15 rfl rfl)
theorem dX1_accountAt_61 : decode cX1_accountAt 61 = .ok (.aaload, 1) := dk_50 (dk_at dksX1_accountAt_2 16 rfl rfl)
theorem dX1_accountAt_62 : decode cX1_accountAt 62 = .ok (.goto 28, 3) := dk_167 0 28 (dk_at dksX1_accountAt_2 17 rfl rfl)
theorem dX1_accountAt_65 : decode cX1_accountAt 65 = .ok (.iload_n 1, 1) := dk_27 (dk_at dksX1_accountAt_2 20 rfl rfl)
theorem dX1_accountAt_66 : decode cX1_accountAt 66 = .ok (.iconst 1, 1) := dk_4 (dk_at dksX1_accountAt_2 21 rfl rfl)
theorem dX1_accountAt_67 : decode cX1_accountAt 67 = .ok (.if_icmp .ne 12, 3) := dk_160 0 12 (dk_at dksX1_accountAt_3 0 rfl rfl)
theorem dX1_accountAt_70 : decode cX1_accountAt 70 = .ok (.aload_n 0, 1) := dk_42 (dk_at dksX1_accountAt_3 3 rfl rfl)
theorem dX1_accountAt_71 : decode cX1_accountAt 71 = .ok (.getfield 31, 3) := dk_180 0 31 (dk_at dksX1_accountAt_3 4 rfl rfl)
theorem dX1_accountAt_74 : decode cX1_accountAt 74 = .ok (.iload_n 2, 1) := dk_28 (dk_at dksX1_accountAt_3 7 rfl rfl)
theorem dX1_accountAt_75 : decode cX1_accountAt 75 = .ok (.aaload, 1) := dk_50 (dk_at dksX1_accountAt_3 8 rfl rfl)
theorem dX1_accountAt_76 : decode cX1_accountAt 76 = .ok (.goto 14, 3) := dk_167 0 14 (dk_at dksX1_accountAt_3 9 rfl rfl)
theorem dX1_accountAt_79 : decode cX1_accountAt 79 = .ok (.aload_n 0, 1) := dk_42 (dk_at dksX1_accountAt_3 12 rfl rfl)
theorem dX1_accountAt_80 : decode cX1_accountAt 80 = .ok (.getfield 37, 3) := dk_180 0 37 (dk_at dksX1_accountAt_3 13 rfl rfl)
theorem dX1_accountAt_83 : decode cX1_accountAt 83 = .ok (.iload_n 2, 1) := dk_28 (dk_at dksX1_accountAt_3 16 rfl rfl)
theorem dX1_accountAt_84 : decode cX1_accountAt 84 = .ok (.invokevirtual 75, 3) := dk_182 0 75 (dk_at dksX1_accountAt_3 17 rfl rfl)
theorem dX1_accountAt_87 : decode cX1_accountAt 87 = .ok (.checkcast 25, 3) := dk_192 0 25 (dk_at dksX1_accountAt_3 20 rfl rfl)
theorem dX1_accountAt_90 : decode cX1_accountAt 90 = .ok (.areturn, 1) := dk_176 (dk_at dksX1_accountAt_3 23 rfl rfl)
abbrev cX1_pass : ByteArray := prog_1_method_31_code
def yX1_pass : MethodName := ⟨RX1, "pass", "(I)I"⟩
def dkwX1_pass_1 : List UInt8 := [167, 0, 4, 3, 184, 0, 161, 42, 89, 180, 0, 135, 27, 96, 181, 0, 135, 42, 180, 0, 135, 172]
abbrev dktX1_pass_1 : List UInt8 := dkwX1_pass_1 ++ []
def dkwX1_pass_0 : List UInt8 := [27, 4, 17, 3, 232, 184, 0, 63, 184, 0, 158, 42, 180, 0, 135, 27, 96, 18, 238, 163, 0, 7, 4]
abbrev dktX1_pass_0 : List UInt8 := dkwX1_pass_0 ++ dktX1_pass_1
theorem dksX1_pass_0 : cX1_pass.data.toList.drop 0 = dktX1_pass_0 := by decide +kernel
theorem dksX1_pass_1 : cX1_pass.data.toList.drop 23 = dktX1_pass_1 := dk_seg dksX1_pass_0 23 rfl rfl
theorem dX1_pass_0 : decode cX1_pass 0 = .ok (.iload_n 1, 1) := dk_27 (dk_at dksX1_pass_0 0 rfl rfl)
theorem dX1_pass_1 : decode cX1_pass 1 = .ok (.iconst 1, 1) := dk_4 (dk_at dksX1_pass_0 1 rfl rfl)
theorem dX1_pass_2 : decode cX1_pass 2 = .ok (.sipush 1000, 3) := dk_17 3 232 (dk_at dksX1_pass_0 2 rfl rfl)
theorem dX1_pass_5 : decode cX1_pass 5 = .ok (.invokestatic 63, 3) := dk_184 0 63 (dk_at dksX1_pass_0 5 rfl rfl)
theorem dX1_pass_8 : decode cX1_pass 8 = .ok (.invokestatic 158, 3) := dk_184 0 158 (dk_at dksX1_pass_0 8 rfl rfl)
theorem dX1_pass_11 : decode cX1_pass 11 = .ok (.aload_n 0, 1) := dk_42 (dk_at dksX1_pass_0 11 rfl rfl)
theorem dX1_pass_12 : decode cX1_pass 12 = .ok (.getfield 135, 3) := dk_180 0 135 (dk_at dksX1_pass_0 12 rfl rfl)
theorem dX1_pass_15 : decode cX1_pass 15 = .ok (.iload_n 1, 1) := dk_27 (dk_at dksX1_pass_0 15 rfl rfl)
theorem dX1_pass_16 : decode cX1_pass 16 = .ok (.iadd, 1) := dk_96 (dk_at dksX1_pass_0 16 rfl rfl)
theorem dX1_pass_17 : decode cX1_pass 17 = .ok (.ldc 238, 2) := dk_18 238 (dk_at dksX1_pass_0 17 rfl rfl)
theorem dX1_pass_19 : decode cX1_pass 19 = .ok (.if_icmp .gt 7, 3) := dk_163 0 7 (dk_at dksX1_pass_0 19 rfl rfl)
theorem dX1_pass_22 : decode cX1_pass 22 = .ok (.iconst 1, 1) := dk_4 (dk_at dksX1_pass_0 22 rfl rfl)
theorem dX1_pass_23 : decode cX1_pass 23 = .ok (.goto 4, 3) := dk_167 0 4 (dk_at dksX1_pass_1 0 rfl rfl)
theorem dX1_pass_26 : decode cX1_pass 26 = .ok (.iconst 0, 1) := dk_3 (dk_at dksX1_pass_1 3 rfl rfl)
theorem dX1_pass_27 : decode cX1_pass 27 = .ok (.invokestatic 161, 3) := dk_184 0 161 (dk_at dksX1_pass_1 4 rfl rfl)
theorem dX1_pass_30 : decode cX1_pass 30 = .ok (.aload_n 0, 1) := dk_42 (dk_at dksX1_pass_1 7 rfl rfl)
theorem dX1_pass_31 : decode cX1_pass 31 = .ok (.dup, 1) := dk_89 (dk_at dksX1_pass_1 8 rfl rfl)
theorem dX1_pass_32 : decode cX1_pass 32 = .ok (.getfield 135, 3) := dk_180 0 135 (dk_at dksX1_pass_1 9 rfl rfl)
theorem dX1_pass_35 : decode cX1_pass 35 = .ok (.iload_n 1, 1) := dk_27 (dk_at dksX1_pass_1 12 rfl rfl)
theorem dX1_pass_36 : decode cX1_pass 36 = .ok (.iadd, 1) := dk_96 (dk_at dksX1_pass_1 13 rfl rfl)
theorem dX1_pass_37 : decode cX1_pass 37 = .ok (.putfield 135, 3) := dk_181 0 135 (dk_at dksX1_pass_1 14 rfl rfl)
theorem dX1_pass_40 : decode cX1_pass 40 = .ok (.aload_n 0, 1) := dk_42 (dk_at dksX1_pass_1 17 rfl rfl)
theorem dX1_pass_41 : decode cX1_pass 41 = .ok (.getfield 135, 3) := dk_180 0 135 (dk_at dksX1_pass_1 18 rfl rfl)
theorem dX1_pass_44 : decode cX1_pass 44 = .ok (.ireturn, 1) := dk_172 (dk_at dksX1_pass_1 21 rfl rfl)
abbrev cX1_used : ByteArray := prog_1_method_32_code
def yX1_used : MethodName := ⟨RX1, "used", "(II)I"⟩
def dkwX1_used_0 : List UInt8 := [42, 27, 28, 182, 0, 234, 180, 0, 120, 172]
abbrev dktX1_used_0 : List UInt8 := dkwX1_used_0 ++ []
theorem dksX1_used_0 : cX1_used.data.toList.drop 0 = dktX1_used_0 := by decide +kernel
theorem dX1_used_0 : decode cX1_used 0 = .ok (.aload_n 0, 1) := dk_42 (dk_at dksX1_used_0 0 rfl rfl)
theorem dX1_used_1 : decode cX1_used 1 = .ok (.iload_n 1, 1) := dk_27 (dk_at dksX1_used_0 1 rfl rfl)
theorem dX1_used_2 : decode cX1_used 2 = .ok (.iload_n 2, 1) := dk_28 (dk_at dksX1_used_0 2 rfl rfl)
theorem dX1_used_3 : decode cX1_used 3 = .ok (.invokevirtual 234, 3) := dk_182 0 234 (dk_at dksX1_used_0 3 rfl rfl)
theorem dX1_used_6 : decode cX1_used 6 = .ok (.getfield 120, 3) := dk_180 0 120 (dk_at dksX1_used_0 6 rfl rfl)
theorem dX1_used_9 : decode cX1_used 9 = .ok (.ireturn, 1) := dk_172 (dk_at dksX1_used_0 9 rfl rfl)
abbrev cX1_filesOf : ByteArray := prog_1_method_33_code
def yX1_filesOf : MethodName := ⟨RX1, "filesOf", "(II)I"⟩
def dkwX1_filesOf_0 : List UInt8 := [42, 27, 28, 182, 0, 234, 180, 0, 126, 172]
abbrev dktX1_filesOf_0 : List UInt8 := dkwX1_filesOf_0 ++ []
theorem dksX1_filesOf_0 : cX1_filesOf.data.toList.drop 0 = dktX1_filesOf_0 := by decide +kernel
theorem dX1_filesOf_0 : decode cX1_filesOf 0 = .ok (.aload_n 0, 1) := dk_42 (dk_at dksX1_filesOf_0 0 rfl rfl)
theorem dX1_filesOf_1 : decode cX1_filesOf 1 = .ok (.iload_n 1, 1) := dk_27 (dk_at dksX1_filesOf_0 1 rfl rfl)
theorem dX1_filesOf_2 : decode cX1_filesOf 2 = .ok (.iload_n 2, 1) := dk_28 (dk_at dksX1_filesOf_0 2 rfl rfl)
theorem dX1_filesOf_3 : decode cX1_filesOf 3 = .ok (.invokevirtual 234, 3) := dk_182 0 234 (dk_at dksX1_filesOf_0 3 rfl rfl)
theorem dX1_filesOf_6 : decode cX1_filesOf 6 = .ok (.getfield 126, 3) := dk_180 0 126 (dk_at dksX1_filesOf_0 6 rfl rfl)
theorem dX1_filesOf_9 : decode cX1_filesOf 9 = .ok (.ireturn, 1) := dk_172 (dk_at dksX1_filesOf_0 9 rfl rfl)
abbrev cX1_usedByFiles : ByteArray := prog_1_method_34_code
def yX1_usedByFiles : MethodName := ⟨RX1, "usedByFiles", "(II)I"⟩
def dkwX1_usedByFiles_9 : List UInt8 := [132, 8, 1, 167, 255, 190, 132, 5, 1, 167, 255, 52, 21, 4, 172]
abbrev dktX1_usedByFiles_9 : List UInt8 := dkwX1_usedByFiles_9 ++ []
def dkwX1_usedByFiles_8 : List UInt8 := [166, 0, 19, 25, 9, 180, 0, 224, 154, 0, 11, 25, 9, 180, 0, 233, 167, 0, 4, 3, 96, 54, 4]
abbrev dktX1_usedByFiles_8 : List UInt8 := dkwX1_usedByFiles_8 ++ dktX1_usedByFiles_9
def dkwX1_usedByFiles_7 : List UInt8 := [182, 0, 75, 192, 0, 222, 58, 9, 21, 4, 21, 7, 153, 0, 29, 25, 9, 180, 0, 227, 25, 6]
abbrev dktX1_usedByFiles_7 : List UInt8 := dkwX1_usedByFiles_7 ++ dktX1_usedByFiles_8
def dkwX1_usedByFiles_6 : List UInt8 := [96, 54, 4, 3, 54, 8, 21, 8, 42, 180, 0, 44, 182, 0, 67, 162, 0, 60, 42, 180, 0, 44, 21, 8]
abbrev dktX1_usedByFiles_6 : List UInt8 := dkwX1_usedByFiles_6 ++ dktX1_usedByFiles_7
def dkwX1_usedByFiles_5 : List UInt8 := [21, 4, 21, 7, 153, 0, 19, 25, 6, 180, 0, 81, 154, 0, 11, 25, 6, 180, 0, 147, 167, 0, 4, 3]
abbrev dktX1_usedByFiles_5 : List UInt8 := dkwX1_usedByFiles_5 ++ dktX1_usedByFiles_6
def dkwX1_usedByFiles_4 : List UInt8 := [167, 0, 22, 25, 6, 180, 0, 112, 42, 180, 0, 37, 28, 182, 0, 75, 192, 0, 52, 182, 0, 184, 54, 7]
abbrev dktX1_usedByFiles_4 : List UInt8 := dkwX1_usedByFiles_4 ++ dktX1_usedByFiles_5
def dkwX1_usedByFiles_3 : List UInt8 := [160, 0, 27, 42, 180, 0, 31, 25, 6, 180, 0, 109, 6, 112, 50, 45, 166, 0, 7, 4, 167, 0, 26, 3]
abbrev dktX1_usedByFiles_3 : List UInt8 := dkwX1_usedByFiles_3 ++ dktX1_usedByFiles_4
def dkwX1_usedByFiles_2 : List UInt8 := [180, 0, 27, 25, 6, 180, 0, 109, 50, 45, 166, 0, 7, 4, 167, 0, 55, 3, 167, 0, 51, 27, 4]
abbrev dktX1_usedByFiles_2 : List UInt8 := dkwX1_usedByFiles_2 ++ dktX1_usedByFiles_3
def dkwX1_usedByFiles_1 : List UInt8 := [162, 0, 198, 42, 180, 0, 41, 21, 5, 182, 0, 75, 192, 0, 79, 58, 6, 27, 154, 0, 25, 42]
abbrev dktX1_usedByFiles_1 : List UInt8 := dkwX1_usedByFiles_1 ++ dktX1_usedByFiles_2
def dkwX1_usedByFiles_0 : List UInt8 := [42, 27, 28, 182, 0, 234, 78, 3, 54, 4, 3, 54, 5, 21, 5, 42, 180, 0, 41, 182, 0, 67]
abbrev dktX1_usedByFiles_0 : List UInt8 := dkwX1_usedByFiles_0 ++ dktX1_usedByFiles_1
theorem dksX1_usedByFiles_0 : cX1_usedByFiles.data.toList.drop 0 = dktX1_usedByFiles_0 := by decide +kernel
theorem dksX1_usedByFiles_1 : cX1_usedByFiles.data.toList.drop 22 = dktX1_usedByFiles_1 := dk_seg dksX1_usedByFiles_0 22 rfl rfl
theorem dksX1_usedByFiles_2 : cX1_usedByFiles.data.toList.drop 44 = dktX1_usedByFiles_2 := dk_seg dksX1_usedByFiles_1 22 rfl rfl
theorem dksX1_usedByFiles_3 : cX1_usedByFiles.data.toList.drop 67 = dktX1_usedByFiles_3 := dk_seg dksX1_usedByFiles_2 23 rfl rfl
theorem dksX1_usedByFiles_4 : cX1_usedByFiles.data.toList.drop 91 = dktX1_usedByFiles_4 := dk_seg dksX1_usedByFiles_3 24 rfl rfl
theorem dksX1_usedByFiles_5 : cX1_usedByFiles.data.toList.drop 115 = dktX1_usedByFiles_5 := dk_seg dksX1_usedByFiles_4 24 rfl rfl
theorem dksX1_usedByFiles_6 : cX1_usedByFiles.data.toList.drop 139 = dktX1_usedByFiles_6 := dk_seg dksX1_usedByFiles_5 24 rfl rfl
theorem dksX1_usedByFiles_7 : cX1_usedByFiles.data.toList.drop 163 = dktX1_usedByFiles_7 := dk_seg dksX1_usedByFiles_6 24 rfl rfl
theorem dksX1_usedByFiles_8 : cX1_usedByFiles.data.toList.drop 185 = dktX1_usedByFiles_8 := dk_seg dksX1_usedByFiles_7 22 rfl rfl
theorem dksX1_usedByFiles_9 : cX1_usedByFiles.data.toList.drop 208 = dktX1_usedByFiles_9 := dk_seg dksX1_usedByFiles_8 23 rfl rfl
theorem dX1_usedByFiles_0 : decode cX1_usedByFiles 0 = .ok (.aload_n 0, 1) := dk_42 (dk_at dksX1_usedByFiles_0 0 rfl rfl)
theorem dX1_usedByFiles_1 : decode cX1_usedByFiles 1 = .ok (.iload_n 1, 1) := dk_27 (dk_at dksX1_usedByFiles_0 1 rfl rfl)
theorem dX1_usedByFiles_2 : decode cX1_usedByFiles 2 = .ok (.iload_n 2, 1) := dk_28 (dk_at dksX1_usedByFiles_0 2 rfl rfl)
theorem dX1_usedByFiles_3 : decode cX1_usedByFiles 3 = .ok (.invokevirtual 234, 3) := dk_182 0 234 (dk_at dksX1_usedByFiles_0 3 rfl rfl)
theorem dX1_usedByFiles_6 : decode cX1_usedByFiles 6 = .ok (.astore_n 3, 1) := dk_78 (dk_at dksX1_usedByFiles_0 6 rfl rfl)
theorem dX1_usedByFiles_7 : decode cX1_usedByFiles 7 = .ok (.iconst 0, 1) := dk_3 (dk_at dksX1_usedByFiles_0 7 rfl rfl)
theorem dX1_usedByFiles_8 : decode cX1_usedByFiles 8 = .ok (.istore 4, 2) := dk_54 4 (dk_at dksX1_usedByFiles_0 8 rfl rfl)
theorem dX1_usedByFiles_10 : decode cX1_usedByFiles 10 = .ok (.iconst 0, 1) := dk_3 (dk_at dksX1_usedByFiles_0 10 rfl rfl)
theorem dX1_usedByFiles_11 : decode cX1_usedByFiles 11 = .ok (.istore 5, 2) := dk_54 5 (dk_at dksX1_usedByFiles_0 11 rfl rfl)
theorem dX1_usedByFiles_13 : decode cX1_usedByFiles 13 = .ok (.iload 5, 2) := dk_21 5 (dk_at dksX1_usedByFiles_0 13 rfl rfl)
theorem dX1_usedByFiles_15 : decode cX1_usedByFiles 15 = .ok (.aload_n 0, 1) := dk_42 (dk_at dksX1_usedByFiles_0 15 rfl rfl)
theorem dX1_usedByFiles_16 : decode cX1_usedByFiles 16 = .ok (.getfield 41, 3) := dk_180 0 41 (dk_at dksX1_usedByFiles_0 16 rfl rfl)
theorem dX1_usedByFiles_19 : decode cX1_usedByFiles 19 = .ok (.invokevirtual 67, 3) := dk_182 0 67 (dk_at dksX1_usedByFiles_0 19 rfl rfl)
theorem dX1_usedByFiles_22 : decode cX1_usedByFiles 22 = .ok (.if_icmp .ge 198, 3) := dk_162 0 198 (dk_at dksX1_usedByFiles_1 0 rfl rfl)
theorem dX1_usedByFiles_25 : decode cX1_usedByFiles 25 = .ok (.aload_n 0, 1) := dk_42 (dk_at dksX1_usedByFiles_1 3 rfl rfl)
theorem dX1_usedByFiles_26 : decode cX1_usedByFiles 26 = .ok (.getfield 41, 3) := dk_180 0 41 (dk_at dksX1_usedByFiles_1 4 rfl rfl)
theorem dX1_usedByFiles_29 : decode cX1_usedByFiles 29 = .ok (.iload 5, 2) := dk_21 5 (dk_at dksX1_usedByFiles_1 7 rfl rfl)
theorem dX1_usedByFiles_31 : decode cX1_usedByFiles 31 = .ok (.invokevirtual 75, 3) := dk_182 0 75 (dk_at dksX1_usedByFiles_1 9 rfl rfl)
theorem dX1_usedByFiles_34 : decode cX1_usedByFiles 34 = .ok (.checkcast 79, 3) := dk_192 0 79 (dk_at dksX1_usedByFiles_1 12 rfl rfl)
theorem dX1_usedByFiles_37 : decode cX1_usedByFiles 37 = .ok (.astore 6, 2) := dk_58 6 (dk_at dksX1_usedByFiles_1 15 rfl rfl)
theorem dX1_usedByFiles_39 : decode cX1_usedByFiles 39 = .ok (.iload_n 1, 1) := dk_27 (dk_at dksX1_usedByFiles_1 17 rfl rfl)
theorem dX1_usedByFiles_40 : decode cX1_usedByFiles 40 = .ok (.ifCond .ne 25, 3) := dk_154 0 25 (dk_at dksX1_usedByFiles_1 18 rfl rfl)
theorem dX1_usedByFiles_43 : decode cX1_usedByFiles 43 = .ok (.aload_n 0, 1) := dk_42 (dk_at dksX1_usedByFiles_1 21 rfl rfl)
theorem dX1_usedByFiles_44 : decode cX1_usedByFiles 44 = .ok (.getfield 27, 3) := dk_180 0 27 (dk_at dksX1_usedByFiles_2 0 rfl rfl)
theorem dX1_usedByFiles_47 : decode cX1_usedByFiles 47 = .ok (.aload 6, 2) := dk_25 6 (dk_at dksX1_usedByFiles_2 3 rfl rfl)
theorem dX1_usedByFiles_49 : decode cX1_usedByFiles 49 = .ok (.getfield 109, 3) := dk_180 0 109 (dk_at dksX1_usedByFiles_2 5 rfl rfl)
theorem dX1_usedByFiles_52 : decode cX1_usedByFiles 52 = .ok (.aaload, 1) := dk_50 (dk_at dksX1_usedByFiles_2 8 rfl rfl)
theorem dX1_usedByFiles_53 : decode cX1_usedByFiles 53 = .ok (.aload_n 3, 1) := dk_45 (dk_at dksX1_usedByFiles_2 9 rfl rfl)
theorem dX1_usedByFiles_54 : decode cX1_usedByFiles 54 = .ok (.if_acmp .ne 7, 3) := dk_166 0 7 (dk_at dksX1_usedByFiles_2 10 rfl rfl)
theorem dX1_usedByFiles_57 : decode cX1_usedByFiles 57 = .ok (.iconst 1, 1) := dk_4 (dk_at dksX1_usedByFiles_2 13 rfl rfl)
theorem dX1_usedByFiles_58 : decode cX1_usedByFiles 58 = .ok (.goto 55, 3) := dk_167 0 55 (dk_at dksX1_usedByFiles_2 14 rfl rfl)
theorem dX1_usedByFiles_61 : decode cX1_usedByFiles 61 = .ok (.iconst 0, 1) := dk_3 (dk_at dksX1_usedByFiles_2 17 rfl rfl)
theorem dX1_usedByFiles_62 : decode cX1_usedByFiles 62 = .ok (.goto 51, 3) := dk_167 0 51 (dk_at dksX1_usedByFiles_2 18 rfl rfl)
theorem dX1_usedByFiles_65 : decode cX1_usedByFiles 65 = .ok (.iload_n 1, 1) := dk_27 (dk_at dksX1_usedByFiles_2 21 rfl rfl)
theorem dX1_usedByFiles_66 : decode cX1_usedByFiles 66 = .ok (.iconst 1, 1) := dk_4 (dk_at dksX1_usedByFiles_2 22 rfl rfl)
theorem dX1_usedByFiles_67 : decode cX1_usedByFiles 67 = .ok (.if_icmp .ne 27, 3) := dk_160 0 27 (dk_at dksX1_usedByFiles_3 0 rfl rfl)
theorem dX1_usedByFiles_70 : decode cX1_usedByFiles 70 = .ok (.aload_n 0, 1) := dk_42 (dk_at dksX1_usedByFiles_3 3 rfl rfl)
theorem dX1_usedByFiles_71 : decode cX1_usedByFiles 71 = .ok (.getfield 31, 3) := dk_180 0 31 (dk_at dksX1_usedByFiles_3 4 rfl rfl)
theorem dX1_usedByFiles_74 : decode cX1_usedByFiles 74 = .ok (.aload 6, 2) := dk_25 6 (dk_at dksX1_usedByFiles_3 7 rfl rfl)
theorem dX1_usedByFiles_76 : decode cX1_usedByFiles 76 = .ok (.getfield 109, 3) := dk_180 0 109 (dk_at dksX1_usedByFiles_3 9 rfl rfl)
theorem dX1_usedByFiles_79 : decode cX1_usedByFiles 79 = .ok (.iconst 3, 1) := dk_6 (dk_at dksX1_usedByFiles_3 12 rfl rfl)
theorem dX1_usedByFiles_80 : decode cX1_usedByFiles 80 = .ok (.irem, 1) := dk_112 (dk_at dksX1_usedByFiles_3 13 rfl rfl)
theorem dX1_usedByFiles_81 : decode cX1_usedByFiles 81 = .ok (.aaload, 1) := dk_50 (dk_at dksX1_usedByFiles_3 14 rfl rfl)
theorem dX1_usedByFiles_82 : decode cX1_usedByFiles 82 = .ok (.aload_n 3, 1) := dk_45 (dk_at dksX1_usedByFiles_3 15 rfl rfl)
theorem dX1_usedByFiles_83 : decode cX1_usedByFiles 83 = .ok (.if_acmp .ne 7, 3) := dk_166 0 7 (dk_at dksX1_usedByFiles_3 16 rfl rfl)
theorem dX1_usedByFiles_86 : decode cX1_usedByFiles 86 = .ok (.iconst 1, 1) := dk_4 (dk_at dksX1_usedByFiles_3 19 rfl rfl)
theorem dX1_usedByFiles_87 : decode cX1_usedByFiles 87 = .ok (.goto 26, 3) := dk_167 0 26 (dk_at dksX1_usedByFiles_3 20 rfl rfl)
theorem dX1_usedByFiles_90 : decode cX1_usedByFiles 90 = .ok (.iconst 0, 1) := dk_3 (dk_at dksX1_usedByFiles_3 23 rfl rfl)
theorem dX1_usedByFiles_91 : decode cX1_usedByFiles 91 = .ok (.goto 22, 3) := dk_167 0 22 (dk_at dksX1_usedByFiles_4 0 rfl rfl)
theorem dX1_usedByFiles_94 : decode cX1_usedByFiles 94 = .ok (.aload 6, 2) := dk_25 6 (dk_at dksX1_usedByFiles_4 3 rfl rfl)
theorem dX1_usedByFiles_96 : decode cX1_usedByFiles 96 = .ok (.getfield 112, 3) := dk_180 0 112 (dk_at dksX1_usedByFiles_4 5 rfl rfl)
theorem dX1_usedByFiles_99 : decode cX1_usedByFiles 99 = .ok (.aload_n 0, 1) := dk_42 (dk_at dksX1_usedByFiles_4 8 rfl rfl)
theorem dX1_usedByFiles_100 : decode cX1_usedByFiles 100 = .ok (.getfield 37, 3) := dk_180 0 37 (dk_at dksX1_usedByFiles_4 9 rfl rfl)
theorem dX1_usedByFiles_103 : decode cX1_usedByFiles 103 = .ok (.iload_n 2, 1) := dk_28 (dk_at dksX1_usedByFiles_4 12 rfl rfl)
theorem dX1_usedByFiles_104 : decode cX1_usedByFiles 104 = .ok (.invokevirtual 75, 3) := dk_182 0 75 (dk_at dksX1_usedByFiles_4 13 rfl rfl)
theorem dX1_usedByFiles_107 : decode cX1_usedByFiles 107 = .ok (.checkcast 52, 3) := dk_192 0 52 (dk_at dksX1_usedByFiles_4 16 rfl rfl)
theorem dX1_usedByFiles_110 : decode cX1_usedByFiles 110 = .ok (.invokevirtual 184, 3) := dk_182 0 184 (dk_at dksX1_usedByFiles_4 19 rfl rfl)
theorem dX1_usedByFiles_113 : decode cX1_usedByFiles 113 = .ok (.istore 7, 2) := dk_54 7 (dk_at dksX1_usedByFiles_4 22 rfl rfl)
theorem dX1_usedByFiles_115 : decode cX1_usedByFiles 115 = .ok (.iload 4, 2) := dk_21 4 (dk_at dksX1_usedByFiles_5 0 rfl rfl)
theorem dX1_usedByFiles_117 : decode cX1_usedByFiles 117 = .ok (.iload 7, 2) := dk_21 7 (dk_at dksX1_usedByFiles_5 2 rfl rfl)
theorem dX1_usedByFiles_119 : decode cX1_usedByFiles 119 = .ok (.ifCond .eq 19, 3) := dk_153 0 19 (dk_at dksX1_usedByFiles_5 4 rfl rfl)
theorem dX1_usedByFiles_122 : decode cX1_usedByFiles 122 = .ok (.aload 6, 2) := dk_25 6 (dk_at dksX1_usedByFiles_5 7 rfl rfl)
theorem dX1_usedByFiles_124 : decode cX1_usedByFiles 124 = .ok (.getfield 81, 3) := dk_180 0 81 (dk_at dksX1_usedByFiles_5 9 rfl rfl)
theorem dX1_usedByFiles_127 : decode cX1_usedByFiles 127 = .ok (.ifCond .ne 11, 3) := dk_154 0 11 (dk_at dksX1_usedByFiles_5 12 rfl rfl)
theorem dX1_usedByFiles_130 : decode cX1_usedByFiles 130 = .ok (.aload 6, 2) := dk_25 6 (dk_at dksX1_usedByFiles_5 15 rfl rfl)
theorem dX1_usedByFiles_132 : decode cX1_usedByFiles 132 = .ok (.getfield 147, 3) := dk_180 0 147 (dk_at dksX1_usedByFiles_5 17 rfl rfl)
theorem dX1_usedByFiles_135 : decode cX1_usedByFiles 135 = .ok (.goto 4, 3) := dk_167 0 4 (dk_at dksX1_usedByFiles_5 20 rfl rfl)
theorem dX1_usedByFiles_138 : decode cX1_usedByFiles 138 = .ok (.iconst 0, 1) := dk_3 (dk_at dksX1_usedByFiles_5 23 rfl rfl)
theorem dX1_usedByFiles_139 : decode cX1_usedByFiles 139 = .ok (.iadd, 1) := dk_96 (dk_at dksX1_usedByFiles_6 0 rfl rfl)
theorem dX1_usedByFiles_140 : decode cX1_usedByFiles 140 = .ok (.istore 4, 2) := dk_54 4 (dk_at dksX1_usedByFiles_6 1 rfl rfl)
theorem dX1_usedByFiles_142 : decode cX1_usedByFiles 142 = .ok (.iconst 0, 1) := dk_3 (dk_at dksX1_usedByFiles_6 3 rfl rfl)
theorem dX1_usedByFiles_143 : decode cX1_usedByFiles 143 = .ok (.istore 8, 2) := dk_54 8 (dk_at dksX1_usedByFiles_6 4 rfl rfl)
theorem dX1_usedByFiles_145 : decode cX1_usedByFiles 145 = .ok (.iload 8, 2) := dk_21 8 (dk_at dksX1_usedByFiles_6 6 rfl rfl)
theorem dX1_usedByFiles_147 : decode cX1_usedByFiles 147 = .ok (.aload_n 0, 1) := dk_42 (dk_at dksX1_usedByFiles_6 8 rfl rfl)
theorem dX1_usedByFiles_148 : decode cX1_usedByFiles 148 = .ok (.getfield 44, 3) := dk_180 0 44 (dk_at dksX1_usedByFiles_6 9 rfl rfl)
theorem dX1_usedByFiles_151 : decode cX1_usedByFiles 151 = .ok (.invokevirtual 67, 3) := dk_182 0 67 (dk_at dksX1_usedByFiles_6 12 rfl rfl)
theorem dX1_usedByFiles_154 : decode cX1_usedByFiles 154 = .ok (.if_icmp .ge 60, 3) := dk_162 0 60 (dk_at dksX1_usedByFiles_6 15 rfl rfl)
theorem dX1_usedByFiles_157 : decode cX1_usedByFiles 157 = .ok (.aload_n 0, 1) := dk_42 (dk_at dksX1_usedByFiles_6 18 rfl rfl)
theorem dX1_usedByFiles_158 : decode cX1_usedByFiles 158 = .ok (.getfield 44, 3) := dk_180 0 44 (dk_at dksX1_usedByFiles_6 19 rfl rfl)
theorem dX1_usedByFiles_161 : decode cX1_usedByFiles 161 = .ok (.iload 8, 2) := dk_21 8 (dk_at dksX1_usedByFiles_6 22 rfl rfl)
theorem dX1_usedByFiles_163 : decode cX1_usedByFiles 163 = .ok (.invokevirtual 75, 3) := dk_182 0 75 (dk_at dksX1_usedByFiles_7 0 rfl rfl)
theorem dX1_usedByFiles_166 : decode cX1_usedByFiles 166 = .ok (.checkcast 222, 3) := dk_192 0 222 (dk_at dksX1_usedByFiles_7 3 rfl rfl)
theorem dX1_usedByFiles_169 : decode cX1_usedByFiles 169 = .ok (.astore 9, 2) := dk_58 9 (dk_at dksX1_usedByFiles_7 6 rfl rfl)
theorem dX1_usedByFiles_171 : decode cX1_usedByFiles 171 = .ok (.iload 4, 2) := dk_21 4 (dk_at dksX1_usedByFiles_7 8 rfl rfl)
theorem dX1_usedByFiles_173 : decode cX1_usedByFiles 173 = .ok (.iload 7, 2) := dk_21 7 (dk_at dksX1_usedByFiles_7 10 rfl rfl)
theorem dX1_usedByFiles_175 : decode cX1_usedByFiles 175 = .ok (.ifCond .eq 29, 3) := dk_153 0 29 (dk_at dksX1_usedByFiles_7 12 rfl rfl)
theorem dX1_usedByFiles_178 : decode cX1_usedByFiles 178 = .ok (.aload 9, 2) := dk_25 9 (dk_at dksX1_usedByFiles_7 15 rfl rfl)
theorem dX1_usedByFiles_180 : decode cX1_usedByFiles 180 = .ok (.getfield 227, 3) := dk_180 0 227 (dk_at dksX1_usedByFiles_7 17 rfl rfl)
theorem dX1_usedByFiles_183 : decode cX1_usedByFiles 183 = .ok (.aload 6, 2) := dk_25 6 (dk_at dksX1_usedByFiles_7 20 rfl rfl)
theorem dX1_usedByFiles_185 : decode cX1_usedByFiles 185 = .ok (.if_acmp .ne 19, 3) := dk_166 0 19 (dk_at dksX1_usedByFiles_8 0 rfl rfl)
theorem dX1_usedByFiles_188 : decode cX1_usedByFiles 188 = .ok (.aload 9, 2) := dk_25 9 (dk_at dksX1_usedByFiles_8 3 rfl rfl)
theorem dX1_usedByFiles_190 : decode cX1_usedByFiles 190 = .ok (.getfield 224, 3) := dk_180 0 224 (dk_at dksX1_usedByFiles_8 5 rfl rfl)
theorem dX1_usedByFiles_193 : decode cX1_usedByFiles 193 = .ok (.ifCond .ne 11, 3) := dk_154 0 11 (dk_at dksX1_usedByFiles_8 8 rfl rfl)
theorem dX1_usedByFiles_196 : decode cX1_usedByFiles 196 = .ok (.aload 9, 2) := dk_25 9 (dk_at dksX1_usedByFiles_8 11 rfl rfl)
theorem dX1_usedByFiles_198 : decode cX1_usedByFiles 198 = .ok (.getfield 233, 3) := dk_180 0 233 (dk_at dksX1_usedByFiles_8 13 rfl rfl)
theorem dX1_usedByFiles_201 : decode cX1_usedByFiles 201 = .ok (.goto 4, 3) := dk_167 0 4 (dk_at dksX1_usedByFiles_8 16 rfl rfl)
theorem dX1_usedByFiles_204 : decode cX1_usedByFiles 204 = .ok (.iconst 0, 1) := dk_3 (dk_at dksX1_usedByFiles_8 19 rfl rfl)
theorem dX1_usedByFiles_205 : decode cX1_usedByFiles 205 = .ok (.iadd, 1) := dk_96 (dk_at dksX1_usedByFiles_8 20 rfl rfl)
theorem dX1_usedByFiles_206 : decode cX1_usedByFiles 206 = .ok (.istore 4, 2) := dk_54 4 (dk_at dksX1_usedByFiles_8 21 rfl rfl)
theorem dX1_usedByFiles_208 : decode cX1_usedByFiles 208 = .ok (.iinc 8 1, 3) := dk_132 8 1 (dk_at dksX1_usedByFiles_9 0 rfl rfl)
theorem dX1_usedByFiles_211 : decode cX1_usedByFiles 211 = .ok (.goto (-66), 3) := dk_167 255 190 (dk_at dksX1_usedByFiles_9 3 rfl rfl)
theorem dX1_usedByFiles_214 : decode cX1_usedByFiles 214 = .ok (.iinc 5 1, 3) := dk_132 5 1 (dk_at dksX1_usedByFiles_9 6 rfl rfl)
theorem dX1_usedByFiles_217 : decode cX1_usedByFiles 217 = .ok (.goto (-204), 3) := dk_167 255 52 (dk_at dksX1_usedByFiles_9 9 rfl rfl)
theorem dX1_usedByFiles_220 : decode cX1_usedByFiles 220 = .ok (.iload 4, 2) := dk_21 4 (dk_at dksX1_usedByFiles_9 12 rfl rfl)
theorem dX1_usedByFiles_222 : decode cX1_usedByFiles 222 = .ok (.ireturn, 1) := dk_172 (dk_at dksX1_usedByFiles_9 14 rfl rfl)
abbrev cX1_grace : ByteArray := prog_1_method_35_code
def yX1_grace : MethodName := ⟨RX1, "grace", "(II)I"⟩
def dkwX1_grace_1 : List UInt8 := [180, 0, 135, 45, 180, 0, 248, 100, 100, 184, 0, 251, 172]
abbrev dktX1_grace_1 : List UInt8 := dkwX1_grace_1 ++ []
def dkwX1_grace_0 : List UInt8 := [42, 27, 28, 182, 0, 234, 78, 45, 180, 0, 248, 2, 160, 0, 7, 2, 167, 0, 19, 3, 16, 48, 42]
abbrev dktX1_grace_0 : List UInt8 := dkwX1_grace_0 ++ dktX1_grace_1
theorem dksX1_grace_0 : cX1_grace.data.toList.drop 0 = dktX1_grace_0 := by decide +kernel
theorem dksX1_grace_1 : cX1_grace.data.toList.drop 23 = dktX1_grace_1 := dk_seg dksX1_grace_0 23 rfl rfl
theorem dX1_grace_0 : decode cX1_grace 0 = .ok (.aload_n 0, 1) := dk_42 (dk_at dksX1_grace_0 0 rfl rfl)
theorem dX1_grace_1 : decode cX1_grace 1 = .ok (.iload_n 1, 1) := dk_27 (dk_at dksX1_grace_0 1 rfl rfl)
theorem dX1_grace_2 : decode cX1_grace 2 = .ok (.iload_n 2, 1) := dk_28 (dk_at dksX1_grace_0 2 rfl rfl)
theorem dX1_grace_3 : decode cX1_grace 3 = .ok (.invokevirtual 234, 3) := dk_182 0 234 (dk_at dksX1_grace_0 3 rfl rfl)
theorem dX1_grace_6 : decode cX1_grace 6 = .ok (.astore_n 3, 1) := dk_78 (dk_at dksX1_grace_0 6 rfl rfl)
theorem dX1_grace_7 : decode cX1_grace 7 = .ok (.aload_n 3, 1) := dk_45 (dk_at dksX1_grace_0 7 rfl rfl)
theorem dX1_grace_8 : decode cX1_grace 8 = .ok (.getfield 248, 3) := dk_180 0 248 (dk_at dksX1_grace_0 8 rfl rfl)
theorem dX1_grace_11 : decode cX1_grace 11 = .ok (.iconst (-1), 1) := dk_2 (dk_at dksX1_grace_0 11 rfl rfl)
theorem dX1_grace_12 : decode cX1_grace 12 = .ok (.if_icmp .ne 7, 3) := dk_160 0 7 (dk_at dksX1_grace_0 12 rfl rfl)
theorem dX1_grace_15 : decode cX1_grace 15 = .ok (.iconst (-1), 1) := dk_2 (dk_at dksX1_grace_0 15 rfl rfl)
theorem dX1_grace_16 : decode cX1_grace 16 = .ok (.goto 19, 3) := dk_167 0 19 (dk_at dksX1_grace_0 16 rfl rfl)
theorem dX1_grace_19 : decode cX1_grace 19 = .ok (.iconst 0, 1) := dk_3 (dk_at dksX1_grace_0 19 rfl rfl)
theorem dX1_grace_20 : decode cX1_grace 20 = .ok (.bipush 48, 2) := dk_16 48 (dk_at dksX1_grace_0 20 rfl rfl)
theorem dX1_grace_22 : decode cX1_grace 22 = .ok (.aload_n 0, 1) := dk_42 (dk_at dksX1_grace_0 22 rfl rfl)
theorem dX1_grace_23 : decode cX1_grace 23 = .ok (.getfield 135, 3) := dk_180 0 135 (dk_at dksX1_grace_1 0 rfl rfl)
theorem dX1_grace_26 : decode cX1_grace 26 = .ok (.aload_n 3, 1) := dk_45 (dk_at dksX1_grace_1 3 rfl rfl)
theorem dX1_grace_27 : decode cX1_grace 27 = .ok (.getfield 248, 3) := dk_180 0 248 (dk_at dksX1_grace_1 4 rfl rfl)
theorem dX1_grace_30 : decode cX1_grace 30 = .ok (.isub, 1) := dk_100 (dk_at dksX1_grace_1 7 rfl rfl)
theorem dX1_grace_31 : decode cX1_grace 31 = .ok (.isub, 1) := dk_100 (dk_at dksX1_grace_1 8 rfl rfl)
theorem dX1_grace_32 : decode cX1_grace 32 = .ok (.invokestatic 251, 3) := dk_184 0 251 (dk_at dksX1_grace_1 9 rfl rfl)
theorem dX1_grace_35 : decode cX1_grace 35 = .ok (.ireturn, 1) := dk_172 (dk_at dksX1_grace_1 12 rfl rfl)
abbrev cX1_room : ByteArray := prog_1_method_36_code
def yX1_room : MethodName := ⟨RX1, "room", "(I)I"⟩
def dkwX1_room_5 : List UInt8 := [54, 4, 132, 5, 1, 167, 255, 159, 21, 4, 172]
abbrev dktX1_room_5 : List UInt8 := dkwX1_room_5 ++ []
def dkwX1_room_4 : List UInt8 := [100, 184, 0, 251, 54, 7, 21, 4, 2, 160, 0, 8, 21, 7, 167, 0, 10, 21, 4, 21, 7, 184, 1, 5]
abbrev dktX1_room_4 : List UInt8 := dkwX1_room_4 ++ dktX1_room_5
def dkwX1_room_3 : List UInt8 := [180, 0, 135, 182, 1, 1, 153, 0, 7, 3, 167, 0, 18, 3, 25, 6, 180, 0, 242, 25, 6, 180, 0, 120]
abbrev dktX1_room_3 : List UInt8 := dkwX1_room_3 ++ dktX1_room_4
def dkwX1_room_2 : List UInt8 := [180, 0, 242, 2, 160, 0, 15, 25, 6, 42, 180, 0, 135, 182, 1, 1, 153, 0, 56, 25, 6, 42]
abbrev dktX1_room_2 : List UInt8 := dkwX1_room_2 ++ dktX1_room_3
def dkwX1_room_1 : List UInt8 := [54, 5, 21, 5, 45, 182, 0, 67, 162, 0, 94, 45, 21, 5, 182, 0, 75, 192, 0, 25, 58, 6, 25, 6]
abbrev dktX1_room_1 : List UInt8 := dkwX1_room_1 ++ dktX1_room_2
def dkwX1_room_0 : List UInt8 := [42, 27, 182, 0, 210, 77, 42, 44, 180, 0, 109, 44, 180, 0, 112, 182, 0, 116, 78, 2, 54, 4, 3]
abbrev dktX1_room_0 : List UInt8 := dkwX1_room_0 ++ dktX1_room_1
theorem dksX1_room_0 : cX1_room.data.toList.drop 0 = dktX1_room_0 := by decide +kernel
theorem dksX1_room_1 : cX1_room.data.toList.drop 23 = dktX1_room_1 := dk_seg dksX1_room_0 23 rfl rfl
theorem dksX1_room_2 : cX1_room.data.toList.drop 47 = dktX1_room_2 := dk_seg dksX1_room_1 24 rfl rfl
theorem dksX1_room_3 : cX1_room.data.toList.drop 69 = dktX1_room_3 := dk_seg dksX1_room_2 22 rfl rfl
theorem dksX1_room_4 : cX1_room.data.toList.drop 93 = dktX1_room_4 := dk_seg dksX1_room_3 24 rfl rfl
theorem dksX1_room_5 : cX1_room.data.toList.drop 117 = dktX1_room_5 := dk_seg dksX1_room_4 24 rfl rfl
theorem dX1_room_0 : decode cX1_room 0 = .ok (.aload_n 0, 1) := dk_42 (dk_at dksX1_room_0 0 rfl rfl)
theorem dX1_room_1 : decode cX1_room 1 = .ok (.iload_n 1, 1) := dk_27 (dk_at dksX1_room_0 1 rfl rfl)
theorem dX1_room_2 : decode cX1_room 2 = .ok (.invokevirtual 210, 3) := dk_182 0 210 (dk_at dksX1_room_0 2 rfl rfl)
theorem dX1_room_5 : decode cX1_room 5 = .ok (.astore_n 2, 1) := dk_77 (dk_at dksX1_room_0 5 rfl rfl)
theorem dX1_room_6 : decode cX1_room 6 = .ok (.aload_n 0, 1) := dk_42 (dk_at dksX1_room_0 6 rfl rfl)
theorem dX1_room_7 : decode cX1_room 7 = .ok (.aload_n 2, 1) := dk_44 (dk_at dksX1_room_0 7 rfl rfl)
theorem dX1_room_8 : decode cX1_room 8 = .ok (.getfield 109, 3) := dk_180 0 109 (dk_at dksX1_room_0 8 rfl rfl)
theorem dX1_room_11 : decode cX1_room 11 = .ok (.aload_n 2, 1) := dk_44 (dk_at dksX1_room_0 11 rfl rfl)
theorem dX1_room_12 : decode cX1_room 12 = .ok (.getfield 112, 3) := dk_180 0 112 (dk_at dksX1_room_0 12 rfl rfl)
theorem dX1_room_15 : decode cX1_room 15 = .ok (.invokevirtual 116, 3) := dk_182 0 116 (dk_at dksX1_room_0 15 rfl rfl)
theorem dX1_room_18 : decode cX1_room 18 = .ok (.astore_n 3, 1) := dk_78 (dk_at dksX1_room_0 18 rfl rfl)
theorem dX1_room_19 : decode cX1_room 19 = .ok (.iconst (-1), 1) := dk_2 (dk_at dksX1_room_0 19 rfl rfl)
theorem dX1_room_20 : decode cX1_room 20 = .ok (.istore 4, 2) := dk_54 4 (dk_at dksX1_room_0 20 rfl rfl)
theorem dX1_room_22 : decode cX1_room 22 = .ok (.iconst 0, 1) := dk_3 (dk_at dksX1_room_0 22 rfl rfl)
theorem dX1_room_23 : decode cX1_room 23 = .ok (.istore 5, 2) := dk_54 5 (dk_at dksX1_room_1 0 rfl rfl)
theorem dX1_room_25 : decode cX1_room 25 = .ok (.iload 5, 2) := dk_21 5 (dk_at dksX1_room_1 2 rfl rfl)
theorem dX1_room_27 : decode cX1_room 27 = .ok (.aload_n 3, 1) := dk_45 (dk_at dksX1_room_1 4 rfl rfl)
theorem dX1_room_28 : decode cX1_room 28 = .ok (.invokevirtual 67, 3) := dk_182 0 67 (dk_at dksX1_room_1 5 rfl rfl)
theorem dX1_room_31 : decode cX1_room 31 = .ok (.if_icmp .ge 94, 3) := dk_162 0 94 (dk_at dksX1_room_1 8 rfl rfl)
theorem dX1_room_34 : decode cX1_room 34 = .ok (.aload_n 3, 1) := dk_45 (dk_at dksX1_room_1 11 rfl rfl)
theorem dX1_room_35 : decode cX1_room 35 = .ok (.iload 5, 2) := dk_21 5 (dk_at dksX1_room_1 12 rfl rfl)
theorem dX1_room_37 : decode cX1_room 37 = .ok (.invokevirtual 75, 3) := dk_182 0 75 (dk_at dksX1_room_1 14 rfl rfl)
theorem dX1_room_40 : decode cX1_room 40 = .ok (.checkcast 25, 3) := dk_192 0 25 (dk_at dksX1_room_1 17 rfl rfl)
theorem dX1_room_43 : decode cX1_room 43 = .ok (.astore 6, 2) := dk_58 6 (dk_at dksX1_room_1 20 rfl rfl)
theorem dX1_room_45 : decode cX1_room 45 = .ok (.aload 6, 2) := dk_25 6 (dk_at dksX1_room_1 22 rfl rfl)
theorem dX1_room_47 : decode cX1_room 47 = .ok (.getfield 242, 3) := dk_180 0 242 (dk_at dksX1_room_2 0 rfl rfl)
theorem dX1_room_50 : decode cX1_room 50 = .ok (.iconst (-1), 1) := dk_2 (dk_at dksX1_room_2 3 rfl rfl)
theorem dX1_room_51 : decode cX1_room 51 = .ok (.if_icmp .ne 15, 3) := dk_160 0 15 (dk_at dksX1_room_2 4 rfl rfl)
theorem dX1_room_54 : decode cX1_room 54 = .ok (.aload 6, 2) := dk_25 6 (dk_at dksX1_room_2 7 rfl rfl)
theorem dX1_room_56 : decode cX1_room 56 = .ok (.aload_n 0, 1) := dk_42 (dk_at dksX1_room_2 9 rfl rfl)
theorem dX1_room_57 : decode cX1_room 57 = .ok (.getfield 135, 3) := dk_180 0 135 (dk_at dksX1_room_2 10 rfl rfl)
theorem dX1_room_60 : decode cX1_room 60 = .ok (.invokevirtual 257, 3) := dk_182 1 1 (dk_at dksX1_room_2 13 rfl rfl)
theorem dX1_room_63 : decode cX1_room 63 = .ok (.ifCond .eq 56, 3) := dk_153 0 56 (dk_at dksX1_room_2 16 rfl rfl)
theorem dX1_room_66 : decode cX1_room 66 = .ok (.aload 6, 2) := dk_25 6 (dk_at dksX1_room_2 19 rfl rfl)
theorem dX1_room_68 : decode cX1_room 68 = .ok (.aload_n 0, 1) := dk_42 (dk_at dksX1_room_2 21 rfl rfl)
theorem dX1_room_69 : decode cX1_room 69 = .ok (.getfield 135, 3) := dk_180 0 135 (dk_at dksX1_room_3 0 rfl rfl)
theorem dX1_room_72 : decode cX1_room 72 = .ok (.invokevirtual 257, 3) := dk_182 1 1 (dk_at dksX1_room_3 3 rfl rfl)
theorem dX1_room_75 : decode cX1_room 75 = .ok (.ifCond .eq 7, 3) := dk_153 0 7 (dk_at dksX1_room_3 6 rfl rfl)
theorem dX1_room_78 : decode cX1_room 78 = .ok (.iconst 0, 1) := dk_3 (dk_at dksX1_room_3 9 rfl rfl)
theorem dX1_room_79 : decode cX1_room 79 = .ok (.goto 18, 3) := dk_167 0 18 (dk_at dksX1_room_3 10 rfl rfl)
theorem dX1_room_82 : decode cX1_room 82 = .ok (.iconst 0, 1) := dk_3 (dk_at dksX1_room_3 13 rfl rfl)
theorem dX1_room_83 : decode cX1_room 83 = .ok (.aload 6, 2) := dk_25 6 (dk_at dksX1_room_3 14 rfl rfl)
theorem dX1_room_85 : decode cX1_room 85 = .ok (.getfield 242, 3) := dk_180 0 242 (dk_at dksX1_room_3 16 rfl rfl)
theorem dX1_room_88 : decode cX1_room 88 = .ok (.aload 6, 2) := dk_25 6 (dk_at dksX1_room_3 19 rfl rfl)
theorem dX1_room_90 : decode cX1_room 90 = .ok (.getfield 120, 3) := dk_180 0 120 (dk_at dksX1_room_3 21 rfl rfl)
theorem dX1_room_93 : decode cX1_room 93 = .ok (.isub, 1) := dk_100 (dk_at dksX1_room_4 0 rfl rfl)
theorem dX1_room_94 : decode cX1_room 94 = .ok (.invokestatic 251, 3) := dk_184 0 251 (dk_at dksX1_room_4 1 rfl rfl)
theorem dX1_room_97 : decode cX1_room 97 = .ok (.istore 7, 2) := dk_54 7 (dk_at dksX1_room_4 4 rfl rfl)
theorem dX1_room_99 : decode cX1_room 99 = .ok (.iload 4, 2) := dk_21 4 (dk_at dksX1_room_4 6 rfl rfl)
theorem dX1_room_101 : decode cX1_room 101 = .ok (.iconst (-1), 1) := dk_2 (dk_at dksX1_room_4 8 rfl rfl)
theorem dX1_room_102 : decode cX1_room 102 = .ok (.if_icmp .ne 8, 3) := dk_160 0 8 (dk_at dksX1_room_4 9 rfl rfl)
theorem dX1_room_105 : decode cX1_room 105 = .ok (.iload 7, 2) := dk_21 7 (dk_at dksX1_room_4 12 rfl rfl)
theorem dX1_room_107 : decode cX1_room 107 = .ok (.goto 10, 3) := dk_167 0 10 (dk_at dksX1_room_4 14 rfl rfl)
theorem dX1_room_110 : decode cX1_room 110 = .ok (.iload 4, 2) := dk_21 4 (dk_at dksX1_room_4 17 rfl rfl)
theorem dX1_room_112 : decode cX1_room 112 = .ok (.iload 7, 2) := dk_21 7 (dk_at dksX1_room_4 19 rfl rfl)
theorem dX1_room_114 : decode cX1_room 114 = .ok (.invokestatic 261, 3) := dk_184 1 5 (dk_at dksX1_room_4 21 rfl rfl)
theorem dX1_room_117 : decode cX1_room 117 = .ok (.istore 4, 2) := dk_54 4 (dk_at dksX1_room_5 0 rfl rfl)
theorem dX1_room_119 : decode cX1_room 119 = .ok (.iinc 5 1, 3) := dk_132 5 1 (dk_at dksX1_room_5 2 rfl rfl)
theorem dX1_room_122 : decode cX1_room 122 = .ok (.goto (-97), 3) := dk_167 255 159 (dk_at dksX1_room_5 5 rfl rfl)
theorem dX1_room_125 : decode cX1_room 125 = .ok (.iload 4, 2) := dk_21 4 (dk_at dksX1_room_5 8 rfl rfl)
theorem dX1_room_127 : decode cX1_room 127 = .ok (.ireturn, 1) := dk_172 (dk_at dksX1_room_5 10 rfl rfl)
abbrev cX1_recount : ByteArray := prog_1_method_38_code
def yX1_recount : MethodName := ⟨RX1, "recount", "(I)I"⟩
def dkwX1_recount_6 : List UInt8 := [167, 255, 143, 42, 180, 0, 41, 182, 0, 67, 42, 180, 0, 47, 100, 172]
abbrev dktX1_recount_6 : List UInt8 := dkwX1_recount_6 ++ []
def dkwX1_recount_5 : List UInt8 := [153, 0, 7, 3, 167, 0, 7, 45, 182, 0, 123, 96, 181, 0, 129, 132, 5, 1, 167, 255, 210, 132, 2, 1]
abbrev dktX1_recount_5 : List UInt8 := dkwX1_recount_5 ++ dktX1_recount_6
def dkwX1_recount_4 : List UInt8 := [182, 0, 67, 162, 0, 42, 25, 4, 21, 5, 182, 0, 75, 192, 0, 25, 89, 180, 0, 129, 45, 180, 0, 81]
abbrev dktX1_recount_4 : List UInt8 := dkwX1_recount_4 ++ dktX1_recount_5
def dkwX1_recount_3 : List UInt8 := [181, 0, 47, 42, 45, 180, 0, 109, 45, 180, 0, 112, 182, 0, 116, 58, 4, 3, 54, 5, 21, 5, 25, 4]
abbrev dktX1_recount_3 : List UInt8 := dkwX1_recount_3 ++ dktX1_recount_4
def dkwX1_recount_2 : List UInt8 := [42, 180, 0, 41, 42, 180, 0, 47, 182, 0, 75, 192, 0, 79, 78, 42, 89, 180, 0, 47, 4, 96]
abbrev dktX1_recount_2 : List UInt8 := dkwX1_recount_2 ++ dktX1_recount_3
def dkwX1_recount_1 : List UInt8 := [184, 0, 161, 3, 61, 28, 27, 162, 0, 114, 42, 180, 0, 47, 42, 180, 0, 41, 182, 0, 67, 162, 0, 100]
abbrev dktX1_recount_1 : List UInt8 := dkwX1_recount_1 ++ dktX1_recount_2
def dkwX1_recount_0 : List UInt8 := [27, 4, 16, 40, 184, 0, 63, 184, 0, 158, 42, 180, 0, 47, 2, 159, 0, 7, 4, 167, 0, 4, 3]
abbrev dktX1_recount_0 : List UInt8 := dkwX1_recount_0 ++ dktX1_recount_1
theorem dksX1_recount_0 : cX1_recount.data.toList.drop 0 = dktX1_recount_0 := by decide +kernel
theorem dksX1_recount_1 : cX1_recount.data.toList.drop 23 = dktX1_recount_1 := dk_seg dksX1_recount_0 23 rfl rfl
theorem dksX1_recount_2 : cX1_recount.data.toList.drop 47 = dktX1_recount_2 := dk_seg dksX1_recount_1 24 rfl rfl
theorem dksX1_recount_3 : cX1_recount.data.toList.drop 69 = dktX1_recount_3 := dk_seg dksX1_recount_2 22 rfl rfl
theorem dksX1_recount_4 : cX1_recount.data.toList.drop 93 = dktX1_recount_4 := dk_seg dksX1_recount_3 24 rfl rfl
theorem dksX1_recount_5 : cX1_recount.data.toList.drop 117 = dktX1_recount_5 := dk_seg dksX1_recount_4 24 rfl rfl
theorem dksX1_recount_6 : cX1_recount.data.toList.drop 141 = dktX1_recount_6 := dk_seg dksX1_recount_5 24 rfl rfl
theorem dX1_recount_0 : decode cX1_recount 0 = .ok (.iload_n 1, 1) := dk_27 (dk_at dksX1_recount_0 0 rfl rfl)
theorem dX1_recount_1 : decode cX1_recount 1 = .ok (.iconst 1, 1) := dk_4 (dk_at dksX1_recount_0 1 rfl rfl)
theorem dX1_recount_2 : decode cX1_recount 2 = .ok (.bipush 40, 2) := dk_16 40 (dk_at dksX1_recount_0 2 rfl rfl)
theorem dX1_recount_4 : decode cX1_recount 4 = .ok (.invokestatic 63, 3) := dk_184 0 63 (dk_at dksX1_recount_0 4 rfl rfl)
theorem dX1_recount_7 : decode cX1_recount 7 = .ok (.invokestatic 158, 3) := dk_184 0 158 (dk_at dksX1_recount_0 7 rfl rfl)
theorem dX1_recount_10 : decode cX1_recount 10 = .ok (.aload_n 0, 1) := dk_42 (dk_at dksX1_recount_0 10 rfl rfl)
theorem dX1_recount_11 : decode cX1_recount 11 = .ok (.getfield 47, 3) := dk_180 0 47 (dk_at dksX1_recount_0 11 rfl rfl)
theorem dX1_recount_14 : decode cX1_recount 14 = .ok (.iconst (-1), 1) := dk_2 (dk_at dksX1_recount_0 14 rfl rfl)
theorem dX1_recount_15 : decode cX1_recount 15 = .ok (.if_icmp .eq 7, 3) := dk_159 0 7 (dk_at dksX1_recount_0 15 rfl rfl)
theorem dX1_recount_18 : decode cX1_recount 18 = .ok (.iconst 1, 1) := dk_4 (dk_at dksX1_recount_0 18 rfl rfl)
theorem dX1_recount_19 : decode cX1_recount 19 = .ok (.goto 4, 3) := dk_167 0 4 (dk_at dksX1_recount_0 19 rfl rfl)
theorem dX1_recount_22 : decode cX1_recount 22 = .ok (.iconst 0, 1) := dk_3 (dk_at dksX1_recount_0 22 rfl rfl)
theorem dX1_recount_23 : decode cX1_recount 23 = .ok (.invokestatic 161, 3) := dk_184 0 161 (dk_at dksX1_recount_1 0 rfl rfl)
theorem dX1_recount_26 : decode cX1_recount 26 = .ok (.iconst 0, 1) := dk_3 (dk_at dksX1_recount_1 3 rfl rfl)
theorem dX1_recount_27 : decode cX1_recount 27 = .ok (.istore_n 2, 1) := dk_61 (dk_at dksX1_recount_1 4 rfl rfl)
theorem dX1_recount_28 : decode cX1_recount 28 = .ok (.iload_n 2, 1) := dk_28 (dk_at dksX1_recount_1 5 rfl rfl)
theorem dX1_recount_29 : decode cX1_recount 29 = .ok (.iload_n 1, 1) := dk_27 (dk_at dksX1_recount_1 6 rfl rfl)
theorem dX1_recount_30 : decode cX1_recount 30 = .ok (.if_icmp .ge 114, 3) := dk_162 0 114 (dk_at dksX1_recount_1 7 rfl rfl)
theorem dX1_recount_33 : decode cX1_recount 33 = .ok (.aload_n 0, 1) := dk_42 (dk_at dksX1_recount_1 10 rfl rfl)
theorem dX1_recount_34 : decode cX1_recount 34 = .ok (.getfield 47, 3) := dk_180 0 47 (dk_at dksX1_recount_1 11 rfl rfl)
theorem dX1_recount_37 : decode cX1_recount 37 = .ok (.aload_n 0, 1) := dk_42 (dk_at dksX1_recount_1 14 rfl rfl)
theorem dX1_recount_38 : decode cX1_recount 38 = .ok (.getfield 41, 3) := dk_180 0 41 (dk_at dksX1_recount_1 15 rfl rfl)
theorem dX1_recount_41 : decode cX1_recount 41 = .ok (.invokevirtual 67, 3) := dk_182 0 67 (dk_at dksX1_recount_1 18 rfl rfl)
theorem dX1_recount_44 : decode cX1_recount 44 = .ok (.if_icmp .ge 100, 3) := dk_162 0 100 (dk_at dksX1_recount_1 21 rfl rfl)
theorem dX1_recount_47 : decode cX1_recount 47 = .ok (.aload_n 0, 1) := dk_42 (dk_at dksX1_recount_2 0 rfl rfl)
theorem dX1_recount_48 : decode cX1_recount 48 = .ok (.getfield 41, 3) := dk_180 0 41 (dk_at dksX1_recount_2 1 rfl rfl)
theorem dX1_recount_51 : decode cX1_recount 51 = .ok (.aload_n 0, 1) := dk_42 (dk_at dksX1_recount_2 4 rfl rfl)
theorem dX1_recount_52 : decode cX1_recount 52 = .ok (.getfield 47, 3) := dk_180 0 47 (dk_at dksX1_recount_2 5 rfl rfl)
theorem dX1_recount_55 : decode cX1_recount 55 = .ok (.invokevirtual 75, 3) := dk_182 0 75 (dk_at dksX1_recount_2 8 rfl rfl)
theorem dX1_recount_58 : decode cX1_recount 58 = .ok (.checkcast 79, 3) := dk_192 0 79 (dk_at dksX1_recount_2 11 rfl rfl)
theorem dX1_recount_61 : decode cX1_recount 61 = .ok (.astore_n 3, 1) := dk_78 (dk_at dksX1_recount_2 14 rfl rfl)
theorem dX1_recount_62 : decode cX1_recount 62 = .ok (.aload_n 0, 1) := dk_42 (dk_at dksX1_recount_2 15 rfl rfl)
theorem dX1_recount_63 : decode cX1_recount 63 = .ok (.dup, 1) := dk_89 (dk_at dksX1_recount_2 16 rfl rfl)
theorem dX1_recount_64 : decode cX1_recount 64 = .ok (.getfield 47, 3) := dk_180 0 47 (dk_at dksX1_recount_2 17 rfl rfl)
theorem dX1_recount_67 : decode cX1_recount 67 = .ok (.iconst 1, 1) := dk_4 (dk_at dksX1_recount_2 20 rfl rfl)
theorem dX1_recount_68 : decode cX1_recount 68 = .ok (.iadd, 1) := dk_96 (dk_at dksX1_recount_2 21 rfl rfl)
theorem dX1_recount_69 : decode cX1_recount 69 = .ok (.putfield 47, 3) := dk_181 0 47 (dk_at dksX1_recount_3 0 rfl rfl)
theorem dX1_recount_72 : decode cX1_recount 72 = .ok (.aload_n 0, 1) := dk_42 (dk_at dksX1_recount_3 3 rfl rfl)
theorem dX1_recount_73 : decode cX1_recount 73 = .ok (.aload_n 3, 1) := dk_45 (dk_at dksX1_recount_3 4 rfl rfl)
theorem dX1_recount_74 : decode cX1_recount 74 = .ok (.getfield 109, 3) := dk_180 0 109 (dk_at dksX1_recount_3 5 rfl rfl)
theorem dX1_recount_77 : decode cX1_recount 77 = .ok (.aload_n 3, 1) := dk_45 (dk_at dksX1_recount_3 8 rfl rfl)
theorem dX1_recount_78 : decode cX1_recount 78 = .ok (.getfield 112, 3) := dk_180 0 112 (dk_at dksX1_recount_3 9 rfl rfl)
theorem dX1_recount_81 : decode cX1_recount 81 = .ok (.invokevirtual 116, 3) := dk_182 0 116 (dk_at dksX1_recount_3 12 rfl rfl)
theorem dX1_recount_84 : decode cX1_recount 84 = .ok (.astore 4, 2) := dk_58 4 (dk_at dksX1_recount_3 15 rfl rfl)
theorem dX1_recount_86 : decode cX1_recount 86 = .ok (.iconst 0, 1) := dk_3 (dk_at dksX1_recount_3 17 rfl rfl)
theorem dX1_recount_87 : decode cX1_recount 87 = .ok (.istore 5, 2) := dk_54 5 (dk_at dksX1_recount_3 18 rfl rfl)
theorem dX1_recount_89 : decode cX1_recount 89 = .ok (.iload 5, 2) := dk_21 5 (dk_at dksX1_recount_3 20 rfl rfl)
theorem dX1_recount_91 : decode cX1_recount 91 = .ok (.aload 4, 2) := dk_25 4 (dk_at dksX1_recount_3 22 rfl rfl)
theorem dX1_recount_93 : decode cX1_recount 93 = .ok (.invokevirtual 67, 3) := dk_182 0 67 (dk_at dksX1_recount_4 0 rfl rfl)
theorem dX1_recount_96 : decode cX1_recount 96 = .ok (.if_icmp .ge 42, 3) := dk_162 0 42 (dk_at dksX1_recount_4 3 rfl rfl)
theorem dX1_recount_99 : decode cX1_recount 99 = .ok (.aload 4, 2) := dk_25 4 (dk_at dksX1_recount_4 6 rfl rfl)
theorem dX1_recount_101 : decode cX1_recount 101 = .ok (.iload 5, 2) := dk_21 5 (dk_at dksX1_recount_4 8 rfl rfl)
theorem dX1_recount_103 : decode cX1_recount 103 = .ok (.invokevirtual 75, 3) := dk_182 0 75 (dk_at dksX1_recount_4 10 rfl rfl)
theorem dX1_recount_106 : decode cX1_recount 106 = .ok (.checkcast 25, 3) := dk_192 0 25 (dk_at dksX1_recount_4 13 rfl rfl)
theorem dX1_recount_109 : decode cX1_recount 109 = .ok (.dup, 1) := dk_89 (dk_at dksX1_recount_4 16 rfl rfl)
theorem dX1_recount_110 : decode cX1_recount 110 = .ok (.getfield 129, 3) := dk_180 0 129 (dk_at dksX1_recount_4 17 rfl rfl)
theorem dX1_recount_113 : decode cX1_recount 113 = .ok (.aload_n 3, 1) := dk_45 (dk_at dksX1_recount_4 20 rfl rfl)
theorem dX1_recount_114 : decode cX1_recount 114 = .ok (.getfield 81, 3) := dk_180 0 81 (dk_at dksX1_recount_4 21 rfl rfl)
theorem dX1_recount_117 : decode cX1_recount 117 = .ok (.ifCond .eq 7, 3) := dk_153 0 7 (dk_at dksX1_recount_5 0 rfl rfl)
theorem dX1_recount_120 : decode cX1_recount 120 = .ok (.iconst 0, 1) := dk_3 (dk_at dksX1_recount_5 3 rfl rfl)
theorem dX1_recount_121 : decode cX1_recount 121 = .ok (.goto 7, 3) := dk_167 0 7 (dk_at dksX1_recount_5 4 rfl rfl)
theorem dX1_recount_124 : decode cX1_recount 124 = .ok (.aload_n 3, 1) := dk_45 (dk_at dksX1_recount_5 7 rfl rfl)
theorem dX1_recount_125 : decode cX1_recount 125 = .ok (.invokevirtual 123, 3) := dk_182 0 123 (dk_at dksX1_recount_5 8 rfl rfl)
theorem dX1_recount_128 : decode cX1_recount 128 = .ok (.iadd, 1) := dk_96 (dk_at dksX1_recount_5 11 rfl rfl)
theorem dX1_recount_129 : decode cX1_recount 129 = .ok (.putfield 129, 3) := dk_181 0 129 (dk_at dksX1_recount_5 12 rfl rfl)
theorem dX1_recount_132 : decode cX1_recount 132 = .ok (.iinc 5 1, 3) := dk_132 5 1 (dk_at dksX1_recount_5 15 rfl rfl)
theorem dX1_recount_135 : decode cX1_recount 135 = .ok (.goto (-46), 3) := dk_167 255 210 (dk_at dksX1_recount_5 18 rfl rfl)
theorem dX1_recount_138 : decode cX1_recount 138 = .ok (.iinc 2 1, 3) := dk_132 2 1 (dk_at dksX1_recount_5 21 rfl rfl)
theorem dX1_recount_141 : decode cX1_recount 141 = .ok (.goto (-113), 3) := dk_167 255 143 (dk_at dksX1_recount_6 0 rfl rfl)
theorem dX1_recount_144 : decode cX1_recount 144 = .ok (.aload_n 0, 1) := dk_42 (dk_at dksX1_recount_6 3 rfl rfl)
theorem dX1_recount_145 : decode cX1_recount 145 = .ok (.getfield 41, 3) := dk_180 0 41 (dk_at dksX1_recount_6 4 rfl rfl)
theorem dX1_recount_148 : decode cX1_recount 148 = .ok (.invokevirtual 67, 3) := dk_182 0 67 (dk_at dksX1_recount_6 7 rfl rfl)
theorem dX1_recount_151 : decode cX1_recount 151 = .ok (.aload_n 0, 1) := dk_42 (dk_at dksX1_recount_6 10 rfl rfl)
theorem dX1_recount_152 : decode cX1_recount 152 = .ok (.getfield 47, 3) := dk_180 0 47 (dk_at dksX1_recount_6 11 rfl rfl)
theorem dX1_recount_155 : decode cX1_recount 155 = .ok (.isub, 1) := dk_100 (dk_at dksX1_recount_6 14 rfl rfl)
theorem dX1_recount_156 : decode cX1_recount 156 = .ok (.ireturn, 1) := dk_172 (dk_at dksX1_recount_6 15 rfl rfl)
abbrev cX1_counted : ByteArray := prog_1_method_39_code
def yX1_counted : MethodName := ⟨RX1, "counted", "(II)I"⟩
def dkwX1_counted_1 : List UInt8 := [180, 0, 129, 172]
abbrev dktX1_counted_1 : List UInt8 := dkwX1_counted_1 ++ []
def dkwX1_counted_0 : List UInt8 := [42, 27, 28, 182, 0, 234, 78, 42, 180, 0, 47, 2, 159, 0, 7, 4, 167, 0, 4, 3, 184, 0, 161, 45]
abbrev dktX1_counted_0 : List UInt8 := dkwX1_counted_0 ++ dktX1_counted_1
theorem dksX1_counted_0 : cX1_counted.data.toList.drop 0 = dktX1_counted_0 := by decide +kernel
theorem dksX1_counted_1 : cX1_counted.data.toList.drop 24 = dktX1_counted_1 := dk_seg dksX1_counted_0 24 rfl rfl
theorem dX1_counted_0 : decode cX1_counted 0 = .ok (.aload_n 0, 1) := dk_42 (dk_at dksX1_counted_0 0 rfl rfl)
theorem dX1_counted_1 : decode cX1_counted 1 = .ok (.iload_n 1, 1) := dk_27 (dk_at dksX1_counted_0 1 rfl rfl)
theorem dX1_counted_2 : decode cX1_counted 2 = .ok (.iload_n 2, 1) := dk_28 (dk_at dksX1_counted_0 2 rfl rfl)
theorem dX1_counted_3 : decode cX1_counted 3 = .ok (.invokevirtual 234, 3) := dk_182 0 234 (dk_at dksX1_counted_0 3 rfl rfl)
theorem dX1_counted_6 : decode cX1_counted 6 = .ok (.astore_n 3, 1) := dk_78 (dk_at dksX1_counted_0 6 rfl rfl)
theorem dX1_counted_7 : decode cX1_counted 7 = .ok (.aload_n 0, 1) := dk_42 (dk_at dksX1_counted_0 7 rfl rfl)
theorem dX1_counted_8 : decode cX1_counted 8 = .ok (.getfield 47, 3) := dk_180 0 47 (dk_at dksX1_counted_0 8 rfl rfl)
theorem dX1_counted_11 : decode cX1_counted 11 = .ok (.iconst (-1), 1) := dk_2 (dk_at dksX1_counted_0 11 rfl rfl)
theorem dX1_counted_12 : decode cX1_counted 12 = .ok (.if_icmp .eq 7, 3) := dk_159 0 7 (dk_at dksX1_counted_0 12 rfl rfl)
theorem dX1_counted_15 : decode cX1_counted 15 = .ok (.iconst 1, 1) := dk_4 (dk_at dksX1_counted_0 15 rfl rfl)
theorem dX1_counted_16 : decode cX1_counted 16 = .ok (.goto 4, 3) := dk_167 0 4 (dk_at dksX1_counted_0 16 rfl rfl)
theorem dX1_counted_19 : decode cX1_counted 19 = .ok (.iconst 0, 1) := dk_3 (dk_at dksX1_counted_0 19 rfl rfl)
theorem dX1_counted_20 : decode cX1_counted 20 = .ok (.invokestatic 161, 3) := dk_184 0 161 (dk_at dksX1_counted_0 20 rfl rfl)
theorem dX1_counted_23 : decode cX1_counted 23 = .ok (.aload_n 3, 1) := dk_45 (dk_at dksX1_counted_0 23 rfl rfl)
theorem dX1_counted_24 : decode cX1_counted 24 = .ok (.getfield 129, 3) := dk_180 0 129 (dk_at dksX1_counted_1 0 rfl rfl)
theorem dX1_counted_27 : decode cX1_counted 27 = .ok (.ireturn, 1) := dk_172 (dk_at dksX1_counted_1 3 rfl rfl)
theorem q36 : (Jvm.Cond.initialized "AllotmentLedger") ∈ lw_all := lw_g (lw_at lw_m1 1 rfl) rfl
theorem q70 : (Jvm.Cond.instantiable "AllotmentLedger" (8 : Nat)) ∈ lw_all := lw_g (lw_at lw_m1 35 rfl) rfl
theorem q72 : (Jvm.Cond.instanceMethod ({ cls := "AllotmentLedger", name := "<init>", desc := "()V" } : Jvm.MethodName)) ∈ lw_all := lw_g (lw_at lw_m1 37 rfl) rfl
theorem q73 : (Jvm.Cond.code ({ cls := "AllotmentLedger", name := "<init>", desc := "()V" } : Jvm.MethodName) prog_1_method_5_code (2 : Nat) (Option.none : Option Jvm.ClassFile.FieldType)) ∈ lw_all := lw_g (lw_at lw_m1 38 rfl) rfl
theorem q74 : (Jvm.Cond.methodLink "AllotmentLedger" (13 : Nat) ({ cls := "java/lang/Object", name := "<init>", desc := "()V" } : Jvm.MethodName)) ∈ lw_all := lw_g (lw_at lw_m1 39 rfl) rfl
theorem q77 : (Jvm.Cond.classLink "AllotmentLedger" (16 : Nat) "java/lang/StringBuilder") ∈ lw_all := lw_g (lw_at lw_m1 42 rfl) rfl
theorem q79 : (Jvm.Cond.methodLink "AllotmentLedger" (18 : Nat) ({ cls := "java/lang/StringBuilder", name := "<init>", desc := "()V" } : Jvm.MethodName)) ∈ lw_all := lw_g (lw_at lw_m1 44 rfl) rfl
theorem q110 : (Jvm.Cond.classLink "AllotmentLedger" (25 : Nat) "AllotmentLedger$Account") ∈ lw_all := lw_g (lw_at lw_m1 75 rfl) rfl
theorem q112 : (Jvm.Cond.classLink "AllotmentLedger" (34 : Nat) "java/util/ArrayList") ∈ lw_all := lw_g (lw_at lw_m1 77 rfl) rfl
theorem q114 : (Jvm.Cond.methodLink "AllotmentLedger" (36 : Nat) ({ cls := "java/util/ArrayList", name := "<init>", desc := "()V" } : Jvm.MethodName)) ∈ lw_all := lw_g (lw_at lw_m1 79 rfl) rfl
theorem q139 : (Jvm.Cond.methodLinkNest "AllotmentLedger" (51 : Nat) ({ cls := "AllotmentLedger$Account", name := "<init>", desc := "()V" } : Jvm.MethodName) "AllotmentLedger") ∈ lw_tbl := lw_at lw_m1 104 rfl
theorem q144 : (Jvm.Cond.fieldLinkNest "AllotmentLedger" (239 : Nat) "AllotmentLedger$Account" "soft" "I" "AllotmentLedger") ∈ lw_tbl := lw_at lw_m1 109 rfl
theorem q146 : (Jvm.Cond.fieldLinkNest "AllotmentLedger" (242 : Nat) "AllotmentLedger$Account" "hard" "I" "AllotmentLedger") ∈ lw_tbl := lw_at lw_m1 111 rfl
theorem q148 : (Jvm.Cond.fieldLinkNest "AllotmentLedger" (245 : Nat) "AllotmentLedger$Account" "fileLimit" "I" "AllotmentLedger") ∈ lw_tbl := lw_at lw_m1 113 rfl
theorem q150 : (Jvm.Cond.fieldLinkNest "AllotmentLedger" (120 : Nat) "AllotmentLedger$Account" "blocks" "I" "AllotmentLedger") ∈ lw_tbl := lw_at lw_m1 115 rfl
theorem q152 : (Jvm.Cond.fieldLinkNest "AllotmentLedger" (126 : Nat) "AllotmentLedger$Account" "files" "I" "AllotmentLedger") ∈ lw_tbl := lw_at lw_m1 117 rfl
theorem q153 : (Jvm.Cond.fieldLinkNest "AllotmentLedger" (129 : Nat) "AllotmentLedger$Account" "counted" "I" "AllotmentLedger") ∈ lw_tbl := lw_at lw_m1 118 rfl
theorem q155 : (Jvm.Cond.fieldLinkNest "AllotmentLedger" (248 : Nat) "AllotmentLedger$Account" "since" "I" "AllotmentLedger") ∈ lw_tbl := lw_at lw_m1 120 rfl
theorem q171 : (Jvm.Cond.classLink "AllotmentLedger" (52 : Nat) "AllotmentLedger$Project") ∈ lw_all := lw_g (lw_at lw_m1 136 rfl) rfl
theorem q173 : (Jvm.Cond.stringRef "AllotmentLedger" (54 : Nat) "") ∈ lw_tbl := lw_at lw_m1 138 rfl
theorem q174 : (Jvm.Cond.methodLink "AllotmentLedger" (56 : Nat) ({ cls := "AllotmentLedger$Project", name := "<init>", desc := "(ILjava/lang/String;)V" } : Jvm.MethodName)) ∈ lw_all := lw_g (lw_at lw_m1 139 rfl) rfl
theorem q179 : (Jvm.Cond.fieldLinkNest "AllotmentLedger" (179 : Nat) "AllotmentLedger$Project" "number" "I" "AllotmentLedger") ∈ lw_tbl := lw_at lw_m1 144 rfl
theorem q181 : (Jvm.Cond.fieldLinkNest "AllotmentLedger" (85 : Nat) "AllotmentLedger$Project" "path" "Ljava/lang/String;" "AllotmentLedger") ∈ lw_tbl := lw_at lw_m1 146 rfl
theorem q194 : (Jvm.Cond.methodLink "AllotmentLedger" (59 : Nat) ({ cls := "java/util/ArrayList", name := "add", desc := "(Ljava/lang/Object;)Z" } : Jvm.MethodName)) ∈ lw_all := lw_g (lw_at lw_m1 159 rfl) rfl
theorem q226 : (Jvm.Cond.selects "AllotmentLedger" ({ cls := "java/lang/Object", name := "getClass", desc := "()Ljava/lang/Class;" } : Jvm.MethodName) ({ cls := "java/lang/Object", name := "getClass", desc := "()Ljava/lang/Class;" } : Jvm.MethodName)) ∈ lw_all := lw_g (lw_at lw_m1 191 rfl) rfl
theorem q256 : (Jvm.Cond.fieldLink "AllotmentLedger" (19 : Nat) "AllotmentLedger" "buffer" "Ljava/lang/StringBuilder;") ∈ lw_all := lw_g (lw_at lw_m1 221 rfl) rfl
theorem q257 : (Jvm.Cond.fieldLink "AllotmentLedger" (27 : Nat) "AllotmentLedger" "users" "[LAllotmentLedger$Account;") ∈ lw_all := lw_g (lw_at lw_m1 222 rfl) rfl
theorem q258 : (Jvm.Cond.fieldLink "AllotmentLedger" (31 : Nat) "AllotmentLedger" "groups" "[LAllotmentLedger$Account;") ∈ lw_all := lw_g (lw_at lw_m1 223 rfl) rfl
theorem q259 : (Jvm.Cond.fieldLink "AllotmentLedger" (37 : Nat) "AllotmentLedger" "tree" "Ljava/util/ArrayList;") ∈ lw_all := lw_g (lw_at lw_m1 224 rfl) rfl
theorem q260 : (Jvm.Cond.fieldLink "AllotmentLedger" (41 : Nat) "AllotmentLedger" "entries" "Ljava/util/ArrayList;") ∈ lw_all := lw_g (lw_at lw_m1 225 rfl) rfl
theorem q261 : (Jvm.Cond.fieldLink "AllotmentLedger" (44 : Nat) "AllotmentLedger" "reservations" "Ljava/util/ArrayList;") ∈ lw_all := lw_g (lw_at lw_m1 226 rfl) rfl
theorem q262 : (Jvm.Cond.fieldLink "AllotmentLedger" (135 : Nat) "AllotmentLedger" "now" "I") ∈ lw_all := lw_g (lw_at lw_m1 227 rfl) rfl
theorem q263 : (Jvm.Cond.fieldLink "AllotmentLedger" (47 : Nat) "AllotmentLedger" "recounted" "I") ∈ lw_all := lw_g (lw_at lw_m1 228 rfl) rfl
theorem q264 : (Jvm.Cond.laysFinal "AllotmentLedger" "AllotmentLedger" "buffer" "Ljava/lang/StringBuilder;") ∈ lw_all := lw_g (lw_at lw_m1 229 rfl) rfl
theorem q265 : (Jvm.Cond.soleField "AllotmentLedger" "buffer") ∈ lw_all := lw_g (lw_at lw_m1 230 rfl) rfl
theorem q266 : (Jvm.Cond.laysFinal "AllotmentLedger" "AllotmentLedger" "users" "[LAllotmentLedger$Account;") ∈ lw_all := lw_g (lw_at lw_m1 231 rfl) rfl
theorem q267 : (Jvm.Cond.soleField "AllotmentLedger" "users") ∈ lw_all := lw_g (lw_at lw_m1 232 rfl) rfl
theorem q268 : (Jvm.Cond.laysFinal "AllotmentLedger" "AllotmentLedger" "groups" "[LAllotmentLedger$Account;") ∈ lw_all := lw_g (lw_at lw_m1 233 rfl) rfl
theorem q269 : (Jvm.Cond.soleField "AllotmentLedger" "groups") ∈ lw_all := lw_g (lw_at lw_m1 234 rfl) rfl
theorem q270 : (Jvm.Cond.laysFinal "AllotmentLedger" "AllotmentLedger" "tree" "Ljava/util/ArrayList;") ∈ lw_all := lw_g (lw_at lw_m1 235 rfl) rfl
theorem q271 : (Jvm.Cond.soleField "AllotmentLedger" "tree") ∈ lw_all := lw_g (lw_at lw_m1 236 rfl) rfl
theorem q272 : (Jvm.Cond.laysFinal "AllotmentLedger" "AllotmentLedger" "entries" "Ljava/util/ArrayList;") ∈ lw_all := lw_g (lw_at lw_m1 237 rfl) rfl
theorem q273 : (Jvm.Cond.soleField "AllotmentLedger" "entries") ∈ lw_all := lw_g (lw_at lw_m1 238 rfl) rfl
theorem q274 : (Jvm.Cond.laysFinal "AllotmentLedger" "AllotmentLedger" "reservations" "Ljava/util/ArrayList;") ∈ lw_all := lw_g (lw_at lw_m1 239 rfl) rfl
theorem q275 : (Jvm.Cond.soleField "AllotmentLedger" "reservations") ∈ lw_all := lw_g (lw_at lw_m2 0 rfl) rfl
theorem q276 : (Jvm.Cond.lays "AllotmentLedger" "AllotmentLedger" "now" "I") ∈ lw_all := lw_g (lw_at lw_m2 1 rfl) rfl
theorem q277 : (Jvm.Cond.soleField "AllotmentLedger" "now") ∈ lw_all := lw_g (lw_at lw_m2 2 rfl) rfl
theorem q278 : (Jvm.Cond.lays "AllotmentLedger" "AllotmentLedger" "recounted" "I") ∈ lw_all := lw_g (lw_at lw_m2 3 rfl) rfl
theorem q279 : (Jvm.Cond.soleField "AllotmentLedger" "recounted") ∈ lw_all := lw_g (lw_at lw_m2 4 rfl) rfl
theorem q280 : (Jvm.Cond.superclass "AllotmentLedger" "java/lang/Object") ∈ lw_all := lw_g (lw_at lw_m2 5 rfl) rfl
theorem q282 : (Jvm.Cond.instanceMethod ({ cls := "AllotmentLedger", name := "clearPath", desc := "()I" } : Jvm.MethodName)) ∈ lw_all := lw_g (lw_at lw_m2 7 rfl) rfl
theorem q283 : (Jvm.Cond.selects "AllotmentLedger" ({ cls := "AllotmentLedger", name := "clearPath", desc := "()I" } : Jvm.MethodName) ({ cls := "AllotmentLedger", name := "clearPath", desc := "()I" } : Jvm.MethodName)) ∈ lw_all := lw_g (lw_at lw_m2 8 rfl) rfl
theorem q284 : (Jvm.Cond.code ({ cls := "AllotmentLedger", name := "clearPath", desc := "()I" } : Jvm.MethodName) prog_1_method_17_code (2 : Nat) (Option.some Jvm.ClassFile.FieldType.int)) ∈ lw_all := lw_g (lw_at lw_m2 9 rfl) rfl
theorem q285 : (Jvm.Cond.methodLink "AllotmentLedger" (102 : Nat) ({ cls := "java/lang/StringBuilder", name := "length", desc := "()I" } : Jvm.MethodName)) ∈ lw_all := lw_g (lw_at lw_m2 10 rfl) rfl
theorem q292 : (Jvm.Cond.methodLink "AllotmentLedger" (168 : Nat) ({ cls := "java/lang/StringBuilder", name := "setLength", desc := "(I)V" } : Jvm.MethodName)) ∈ lw_all := lw_g (lw_at lw_m2 17 rfl) rfl
theorem q615 : (Jvm.Cond.instanceMethod ({ cls := "AllotmentLedger", name := "findProject", desc := "()I" } : Jvm.MethodName)) ∈ lw_all := lw_g (lw_at lw_m3 100 rfl) rfl
theorem q616 : (Jvm.Cond.selects "AllotmentLedger" ({ cls := "AllotmentLedger", name := "findProject", desc := "()I" } : Jvm.MethodName) ({ cls := "AllotmentLedger", name := "findProject", desc := "()I" } : Jvm.MethodName)) ∈ lw_all := lw_g (lw_at lw_m3 101 rfl) rfl
theorem q617 : (Jvm.Cond.code ({ cls := "AllotmentLedger", name := "findProject", desc := "()I" } : Jvm.MethodName) prog_1_method_19_code (2 : Nat) (Option.some Jvm.ClassFile.FieldType.int)) ∈ lw_all := lw_g (lw_at lw_m3 102 rfl) rfl
theorem q618 : (Jvm.Cond.methodLink "AllotmentLedger" (98 : Nat) ({ cls := "AllotmentLedger", name := "withPath", desc := "(Ljava/lang/CharSequence;)LAllotmentLedger$Project;" } : Jvm.MethodName)) ∈ lw_all := lw_g (lw_at lw_m3 103 rfl) rfl
theorem q619 : (Jvm.Cond.privateMethod ({ cls := "AllotmentLedger", name := "withPath", desc := "(Ljava/lang/CharSequence;)LAllotmentLedger$Project;" } : Jvm.MethodName)) ∈ lw_tbl := lw_at lw_m3 104 rfl
theorem q620 : (Jvm.Cond.instanceMethod ({ cls := "AllotmentLedger", name := "withPath", desc := "(Ljava/lang/CharSequence;)LAllotmentLedger$Project;" } : Jvm.MethodName)) ∈ lw_all := lw_g (lw_at lw_m3 105 rfl) rfl
theorem q621 : (Jvm.Cond.code ({ cls := "AllotmentLedger", name := "withPath", desc := "(Ljava/lang/CharSequence;)LAllotmentLedger$Project;" } : Jvm.MethodName) prog_1_method_9_code (4 : Nat) (Option.some (Jvm.ClassFile.FieldType.object "AllotmentLedger$Project"))) ∈ lw_all := lw_g (lw_at lw_m3 106 rfl) rfl
theorem q622 : (Jvm.Cond.methodLink "AllotmentLedger" (67 : Nat) ({ cls := "java/util/ArrayList", name := "size", desc := "()I" } : Jvm.MethodName)) ∈ lw_all := lw_g (lw_at lw_m3 107 rfl) rfl
theorem q626 : (Jvm.Cond.methodLink "AllotmentLedger" (75 : Nat) ({ cls := "java/util/ArrayList", name := "get", desc := "(I)Ljava/lang/Object;" } : Jvm.MethodName)) ∈ lw_all := lw_g (lw_at lw_m3 111 rfl) rfl
theorem q640 : (Jvm.Cond.methodLink "AllotmentLedger" (89 : Nat) ({ cls := "java/lang/String", name := "contentEquals", desc := "(Ljava/lang/CharSequence;)Z" } : Jvm.MethodName)) ∈ lw_all := lw_g (lw_at lw_m3 125 rfl) rfl
theorem q833 : (Jvm.Cond.instanceMethod ({ cls := "AllotmentLedger", name := "projects", desc := "()I" } : Jvm.MethodName)) ∈ lw_all := lw_g (lw_at lw_m4 78 rfl) rfl
theorem q834 : (Jvm.Cond.selects "AllotmentLedger" ({ cls := "AllotmentLedger", name := "projects", desc := "()I" } : Jvm.MethodName) ({ cls := "AllotmentLedger", name := "projects", desc := "()I" } : Jvm.MethodName)) ∈ lw_all := lw_g (lw_at lw_m4 79 rfl) rfl
theorem q835 : (Jvm.Cond.code ({ cls := "AllotmentLedger", name := "projects", desc := "()I" } : Jvm.MethodName) prog_1_method_23_code (1 : Nat) (Option.some Jvm.ClassFile.FieldType.int)) ∈ lw_all := lw_g (lw_at lw_m4 80 rfl) rfl
theorem q837 : (Jvm.Cond.instanceMethod ({ cls := "AllotmentLedger", name := "beginRecount", desc := "()I" } : Jvm.MethodName)) ∈ lw_all := lw_g (lw_at lw_m4 82 rfl) rfl
theorem q838 : (Jvm.Cond.selects "AllotmentLedger" ({ cls := "AllotmentLedger", name := "beginRecount", desc := "()I" } : Jvm.MethodName) ({ cls := "AllotmentLedger", name := "beginRecount", desc := "()I" } : Jvm.MethodName)) ∈ lw_all := lw_g (lw_at lw_m4 83 rfl) rfl
theorem q839 : (Jvm.Cond.code ({ cls := "AllotmentLedger", name := "beginRecount", desc := "()I" } : Jvm.MethodName) prog_1_method_37_code (3 : Nat) (Option.some Jvm.ClassFile.FieldType.int)) ∈ lw_all := lw_g (lw_at lw_m4 84 rfl) rfl
theorem q846 : (Jvm.Cond.instanceMethod ({ cls := "AllotmentLedger", name := "type", desc := "(C)I" } : Jvm.MethodName)) ∈ lw_all := lw_g (lw_at lw_m4 91 rfl) rfl
theorem q847 : (Jvm.Cond.selects "AllotmentLedger" ({ cls := "AllotmentLedger", name := "type", desc := "(C)I" } : Jvm.MethodName) ({ cls := "AllotmentLedger", name := "type", desc := "(C)I" } : Jvm.MethodName)) ∈ lw_all := lw_g (lw_at lw_m4 92 rfl) rfl
theorem q848 : (Jvm.Cond.code ({ cls := "AllotmentLedger", name := "type", desc := "(C)I" } : Jvm.MethodName) prog_1_method_15_code (2 : Nat) (Option.some Jvm.ClassFile.FieldType.int)) ∈ lw_all := lw_g (lw_at lw_m4 93 rfl) rfl
theorem q849 : (Jvm.Cond.methodLink "AllotmentLedger" (158 : Nat) ({ cls := "AllotmentLedger", name := "requireArgument", desc := "(Z)V" } : Jvm.MethodName)) ∈ lw_all := lw_g (lw_at lw_m4 94 rfl) rfl
theorem q850 : (Jvm.Cond.static ({ cls := "AllotmentLedger", name := "requireArgument", desc := "(Z)V" } : Jvm.MethodName)) ∈ lw_all := lw_g (lw_at lw_m4 95 rfl) rfl
theorem q851 : (Jvm.Cond.code ({ cls := "AllotmentLedger", name := "requireArgument", desc := "(Z)V" } : Jvm.MethodName) prog_1_method_3_code (1 : Nat) (Option.none : Option Jvm.ClassFile.FieldType)) ∈ lw_all := lw_g (lw_at lw_m4 96 rfl) rfl
theorem q852 : (Jvm.Cond.classLink "AllotmentLedger" (7 : Nat) "java/lang/IllegalArgumentException") ∈ lw_all := lw_g (lw_at lw_m4 97 rfl) rfl
theorem q853 : (Jvm.Cond.methodLink "AllotmentLedger" (9 : Nat) ({ cls := "java/lang/IllegalArgumentException", name := "<init>", desc := "()V" } : Jvm.MethodName)) ∈ lw_all := lw_g (lw_at lw_m4 98 rfl) rfl
theorem q863 : (Jvm.Cond.methodLink "AllotmentLedger" (161 : Nat) ({ cls := "AllotmentLedger", name := "requireState", desc := "(Z)V" } : Jvm.MethodName)) ∈ lw_all := lw_g (lw_at lw_m4 108 rfl) rfl
theorem q864 : (Jvm.Cond.static ({ cls := "AllotmentLedger", name := "requireState", desc := "(Z)V" } : Jvm.MethodName)) ∈ lw_all := lw_g (lw_at lw_m4 109 rfl) rfl
theorem q865 : (Jvm.Cond.code ({ cls := "AllotmentLedger", name := "requireState", desc := "(Z)V" } : Jvm.MethodName) prog_1_method_4_code (1 : Nat) (Option.none : Option Jvm.ClassFile.FieldType)) ∈ lw_all := lw_g (lw_at lw_m4 110 rfl) rfl
theorem q866 : (Jvm.Cond.classLink "AllotmentLedger" (10 : Nat) "java/lang/IllegalStateException") ∈ lw_all := lw_g (lw_at lw_m4 111 rfl) rfl
theorem q875 : (Jvm.Cond.methodLink "AllotmentLedger" (12 : Nat) ({ cls := "java/lang/IllegalStateException", name := "<init>", desc := "()V" } : Jvm.MethodName)) ∈ lw_all := lw_g (lw_at lw_m4 120 rfl) rfl
theorem q881 : (Jvm.Cond.methodLink "AllotmentLedger" (164 : Nat) ({ cls := "java/lang/StringBuilder", name := "append", desc := "(C)Ljava/lang/StringBuilder;" } : Jvm.MethodName)) ∈ lw_all := lw_g (lw_at lw_m4 126 rfl) rfl
theorem q898 : (Jvm.Cond.instanceMethod ({ cls := "AllotmentLedger", name := "back", desc := "()I" } : Jvm.MethodName)) ∈ lw_all := lw_g (lw_at lw_m4 143 rfl) rfl
theorem q899 : (Jvm.Cond.selects "AllotmentLedger" ({ cls := "AllotmentLedger", name := "back", desc := "()I" } : Jvm.MethodName) ({ cls := "AllotmentLedger", name := "back", desc := "()I" } : Jvm.MethodName)) ∈ lw_all := lw_g (lw_at lw_m4 144 rfl) rfl
theorem q900 : (Jvm.Cond.code ({ cls := "AllotmentLedger", name := "back", desc := "()I" } : Jvm.MethodName) prog_1_method_16_code (1 : Nat) (Option.some Jvm.ClassFile.FieldType.int)) ∈ lw_all := lw_g (lw_at lw_m4 145 rfl) rfl
theorem q901 : (Jvm.Cond.methodLink "AllotmentLedger" (105 : Nat) ({ cls := "java/lang/StringBuilder", name := "deleteCharAt", desc := "(I)Ljava/lang/StringBuilder;" } : Jvm.MethodName)) ∈ lw_all := lw_g (lw_at lw_m4 146 rfl) rfl
theorem q917 : (Jvm.Cond.instanceMethod ({ cls := "AllotmentLedger", name := "makeProject", desc := "()I" } : Jvm.MethodName)) ∈ lw_all := lw_g (lw_at lw_m4 162 rfl) rfl
theorem q918 : (Jvm.Cond.selects "AllotmentLedger" ({ cls := "AllotmentLedger", name := "makeProject", desc := "()I" } : Jvm.MethodName) ({ cls := "AllotmentLedger", name := "makeProject", desc := "()I" } : Jvm.MethodName)) ∈ lw_all := lw_g (lw_at lw_m4 163 rfl) rfl
theorem q919 : (Jvm.Cond.code ({ cls := "AllotmentLedger", name := "makeProject", desc := "()I" } : Jvm.MethodName) prog_1_method_18_code (1 : Nat) (Option.some Jvm.ClassFile.FieldType.int)) ∈ lw_all := lw_g (lw_at lw_m4 164 rfl) rfl
theorem q920 : (Jvm.Cond.methodLink "AllotmentLedger" (171 : Nat) ({ cls := "java/lang/StringBuilder", name := "substring", desc := "(II)Ljava/lang/String;" } : Jvm.MethodName)) ∈ lw_all := lw_g (lw_at lw_m4 165 rfl) rfl
theorem q947 : (Jvm.Cond.methodLink "AllotmentLedger" (175 : Nat) ({ cls := "java/lang/StringBuilder", name := "toString", desc := "()Ljava/lang/String;" } : Jvm.MethodName)) ∈ lw_all := lw_g (lw_at lw_m4 192 rfl) rfl
theorem q955 : (Jvm.Cond.instanceMethod ({ cls := "AllotmentLedger", name := "moveProject", desc := "(I)I" } : Jvm.MethodName)) ∈ lw_all := lw_g (lw_at lw_m4 200 rfl) rfl
theorem q956 : (Jvm.Cond.selects "AllotmentLedger" ({ cls := "AllotmentLedger", name := "moveProject", desc := "(I)I" } : Jvm.MethodName) ({ cls := "AllotmentLedger", name := "moveProject", desc := "(I)I" } : Jvm.MethodName)) ∈ lw_all := lw_g (lw_at lw_m4 201 rfl) rfl
theorem q957 : (Jvm.Cond.code ({ cls := "AllotmentLedger", name := "moveProject", desc := "(I)I" } : Jvm.MethodName) prog_1_method_20_code (12 : Nat) (Option.some Jvm.ClassFile.FieldType.int)) ∈ lw_all := lw_g (lw_at lw_m4 202 rfl) rfl
theorem q958 : (Jvm.Cond.methodLink "AllotmentLedger" (180 : Nat) ({ cls := "AllotmentLedger", name := "projectAt", desc := "(I)LAllotmentLedger$Project;" } : Jvm.MethodName)) ∈ lw_all := lw_g (lw_at lw_m4 203 rfl) rfl
theorem q959 : (Jvm.Cond.privateMethod ({ cls := "AllotmentLedger", name := "projectAt", desc := "(I)LAllotmentLedger$Project;" } : Jvm.MethodName)) ∈ lw_tbl := lw_at lw_m4 204 rfl
theorem q960 : (Jvm.Cond.instanceMethod ({ cls := "AllotmentLedger", name := "projectAt", desc := "(I)LAllotmentLedger$Project;" } : Jvm.MethodName)) ∈ lw_all := lw_g (lw_at lw_m4 205 rfl) rfl
theorem q961 : (Jvm.Cond.code ({ cls := "AllotmentLedger", name := "projectAt", desc := "(I)LAllotmentLedger$Project;" } : Jvm.MethodName) prog_1_method_7_code (2 : Nat) (Option.some (Jvm.ClassFile.FieldType.object "AllotmentLedger$Project"))) ∈ lw_all := lw_g (lw_at lw_m4 206 rfl) rfl
theorem q962 : (Jvm.Cond.methodLink "AllotmentLedger" (63 : Nat) ({ cls := "AllotmentLedger", name := "inRange", desc := "(III)Z" } : Jvm.MethodName)) ∈ lw_all := lw_g (lw_at lw_m4 207 rfl) rfl
theorem q963 : (Jvm.Cond.static ({ cls := "AllotmentLedger", name := "inRange", desc := "(III)Z" } : Jvm.MethodName)) ∈ lw_all := lw_g (lw_at lw_m4 208 rfl) rfl
theorem q964 : (Jvm.Cond.code ({ cls := "AllotmentLedger", name := "inRange", desc := "(III)Z" } : Jvm.MethodName) prog_1_method_1_code (3 : Nat) (Option.some Jvm.ClassFile.FieldType.boolean)) ∈ lw_all := lw_g (lw_at lw_m4 209 rfl) rfl
theorem q965 : (Jvm.Cond.methodLink "AllotmentLedger" (71 : Nat) ({ cls := "AllotmentLedger", name := "requireIndex", desc := "(Z)V" } : Jvm.MethodName)) ∈ lw_all := lw_g (lw_at lw_m4 210 rfl) rfl
theorem q966 : (Jvm.Cond.static ({ cls := "AllotmentLedger", name := "requireIndex", desc := "(Z)V" } : Jvm.MethodName)) ∈ lw_all := lw_g (lw_at lw_m4 211 rfl) rfl
theorem q967 : (Jvm.Cond.code ({ cls := "AllotmentLedger", name := "requireIndex", desc := "(Z)V" } : Jvm.MethodName) prog_1_method_2_code (1 : Nat) (Option.none : Option Jvm.ClassFile.FieldType)) ∈ lw_all := lw_g (lw_at lw_m4 212 rfl) rfl
theorem q968 : (Jvm.Cond.classLink "AllotmentLedger" (1 : Nat) "java/lang/IndexOutOfBoundsException") ∈ lw_all := lw_g (lw_at lw_m4 213 rfl) rfl
theorem q977 : (Jvm.Cond.methodLink "AllotmentLedger" (3 : Nat) ({ cls := "java/lang/IndexOutOfBoundsException", name := "<init>", desc := "()V" } : Jvm.MethodName)) ∈ lw_all := lw_g (lw_at lw_m4 222 rfl) rfl
theorem q983 : (Jvm.Cond.methodLink "AllotmentLedger" (184 : Nat) ({ cls := "AllotmentLedger$Project", name := "isWithin", desc := "(LAllotmentLedger$Project;)Z" } : Jvm.MethodName)) ∈ lw_all := lw_g (lw_at lw_m4 228 rfl) rfl
theorem q999 : (Jvm.Cond.methodLink "AllotmentLedger" (188 : Nat) ({ cls := "java/lang/String", name := "length", desc := "()I" } : Jvm.MethodName)) ∈ lw_all := lw_g (lw_at lw_m5 4 rfl) rfl
theorem q1000 : (Jvm.Cond.methodLink "AllotmentLedger" (189 : Nat) ({ cls := "AllotmentLedger$Project", name := "moved", desc := "(Ljava/lang/String;I)Ljava/lang/String;" } : Jvm.MethodName)) ∈ lw_all := lw_g (lw_at lw_m5 5 rfl) rfl
theorem q1033 : (Jvm.Cond.methodLink "AllotmentLedger" (193 : Nat) ({ cls := "AllotmentLedger", name := "countAll", desc := "(I)V" } : Jvm.MethodName)) ∈ lw_all := lw_g (lw_at lw_m5 38 rfl) rfl
theorem q1034 : (Jvm.Cond.privateMethod ({ cls := "AllotmentLedger", name := "countAll", desc := "(I)V" } : Jvm.MethodName)) ∈ lw_tbl := lw_at lw_m5 39 rfl
theorem q1035 : (Jvm.Cond.instanceMethod ({ cls := "AllotmentLedger", name := "countAll", desc := "(I)V" } : Jvm.MethodName)) ∈ lw_all := lw_g (lw_at lw_m5 40 rfl) rfl
theorem q1036 : (Jvm.Cond.code ({ cls := "AllotmentLedger", name := "countAll", desc := "(I)V" } : Jvm.MethodName) prog_1_method_21_code (3 : Nat) (Option.none : Option Jvm.ClassFile.FieldType)) ∈ lw_all := lw_g (lw_at lw_m5 41 rfl) rfl
theorem q1037 : (Jvm.Cond.classLink "AllotmentLedger" (79 : Nat) "AllotmentLedger$Entry") ∈ lw_all := lw_g (lw_at lw_m5 42 rfl) rfl
theorem q1038 : (Jvm.Cond.methodLink "AllotmentLedger" (143 : Nat) ({ cls := "AllotmentLedger", name := "count", desc := "(LAllotmentLedger$Entry;I)V" } : Jvm.MethodName)) ∈ lw_all := lw_g (lw_at lw_m5 43 rfl) rfl
theorem q1039 : (Jvm.Cond.privateMethod ({ cls := "AllotmentLedger", name := "count", desc := "(LAllotmentLedger$Entry;I)V" } : Jvm.MethodName)) ∈ lw_tbl := lw_at lw_m5 44 rfl
theorem q1040 : (Jvm.Cond.instanceMethod ({ cls := "AllotmentLedger", name := "count", desc := "(LAllotmentLedger$Entry;I)V" } : Jvm.MethodName)) ∈ lw_all := lw_g (lw_at lw_m5 45 rfl) rfl
theorem q1041 : (Jvm.Cond.code ({ cls := "AllotmentLedger", name := "count", desc := "(LAllotmentLedger$Entry;I)V" } : Jvm.MethodName) prog_1_method_11_code (6 : Nat) (Option.none : Option Jvm.ClassFile.FieldType)) ∈ lw_all := lw_g (lw_at lw_m5 46 rfl) rfl
theorem q1042 : (Jvm.Cond.methodLink "AllotmentLedger" (116 : Nat) ({ cls := "AllotmentLedger", name := "accountsOf", desc := "(ILAllotmentLedger$Project;)Ljava/util/ArrayList;" } : Jvm.MethodName)) ∈ lw_all := lw_g (lw_at lw_m5 47 rfl) rfl
theorem q1043 : (Jvm.Cond.privateMethod ({ cls := "AllotmentLedger", name := "accountsOf", desc := "(ILAllotmentLedger$Project;)Ljava/util/ArrayList;" } : Jvm.MethodName)) ∈ lw_tbl := lw_at lw_m5 48 rfl
theorem q1044 : (Jvm.Cond.instanceMethod ({ cls := "AllotmentLedger", name := "accountsOf", desc := "(ILAllotmentLedger$Project;)Ljava/util/ArrayList;" } : Jvm.MethodName)) ∈ lw_all := lw_g (lw_at lw_m5 49 rfl) rfl
theorem q1045 : (Jvm.Cond.code ({ cls := "AllotmentLedger", name := "accountsOf", desc := "(ILAllotmentLedger$Project;)Ljava/util/ArrayList;" } : Jvm.MethodName) prog_1_method_10_code (5 : Nat) (Option.some (Jvm.ClassFile.FieldType.object "java/util/ArrayList"))) ∈ lw_all := lw_g (lw_at lw_m5 50 rfl) rfl
theorem q1046 : (Jvm.Cond.methodLink "AllotmentLedger" (95 : Nat) ({ cls := "java/lang/StringBuilder", name := "<init>", desc := "(Ljava/lang/String;)V" } : Jvm.MethodName)) ∈ lw_all := lw_g (lw_at lw_m5 51 rfl) rfl
theorem q1047 : (Jvm.Cond.methodLink "AllotmentLedger" (123 : Nat) ({ cls := "AllotmentLedger$Entry", name := "uses", desc := "()I" } : Jvm.MethodName)) ∈ lw_all := lw_g (lw_at lw_m5 52 rfl) rfl
theorem q1051 : (Jvm.Cond.methodLink "AllotmentLedger" (196 : Nat) ({ cls := "java/lang/String", name := "equals", desc := "(Ljava/lang/Object;)Z" } : Jvm.MethodName)) ∈ lw_all := lw_g (lw_at lw_m5 56 rfl) rfl
theorem q1052 : (Jvm.Cond.methodLink "AllotmentLedger" (151 : Nat) ({ cls := "AllotmentLedger", name := "lookAtAll", desc := "()V" } : Jvm.MethodName)) ∈ lw_all := lw_g (lw_at lw_m5 57 rfl) rfl
theorem q1053 : (Jvm.Cond.privateMethod ({ cls := "AllotmentLedger", name := "lookAtAll", desc := "()V" } : Jvm.MethodName)) ∈ lw_tbl := lw_at lw_m5 58 rfl
theorem q1054 : (Jvm.Cond.instanceMethod ({ cls := "AllotmentLedger", name := "lookAtAll", desc := "()V" } : Jvm.MethodName)) ∈ lw_all := lw_g (lw_at lw_m5 59 rfl) rfl
theorem q1055 : (Jvm.Cond.code ({ cls := "AllotmentLedger", name := "lookAtAll", desc := "()V" } : Jvm.MethodName) prog_1_method_12_code (2 : Nat) (Option.none : Option Jvm.ClassFile.FieldType)) ∈ lw_all := lw_g (lw_at lw_m5 60 rfl) rfl
theorem q1056 : (Jvm.Cond.methodLink "AllotmentLedger" (138 : Nat) ({ cls := "AllotmentLedger$Account", name := "look", desc := "(I)V" } : Jvm.MethodName)) ∈ lw_all := lw_g (lw_at lw_m5 61 rfl) rfl
theorem q1068 : (Jvm.Cond.methodLink "AllotmentLedger" (142 : Nat) ({ cls := "AllotmentLedger$Project", name := "look", desc := "(I)V" } : Jvm.MethodName)) ∈ lw_all := lw_g (lw_at lw_m5 73 rfl) rfl
theorem q1076 : (Jvm.Cond.instanceMethod ({ cls := "AllotmentLedger", name := "letterAt", desc := "(II)C" } : Jvm.MethodName)) ∈ lw_all := lw_g (lw_at lw_m5 81 rfl) rfl
theorem q1077 : (Jvm.Cond.selects "AllotmentLedger" ({ cls := "AllotmentLedger", name := "letterAt", desc := "(II)C" } : Jvm.MethodName) ({ cls := "AllotmentLedger", name := "letterAt", desc := "(II)C" } : Jvm.MethodName)) ∈ lw_all := lw_g (lw_at lw_m5 82 rfl) rfl
theorem q1078 : (Jvm.Cond.code ({ cls := "AllotmentLedger", name := "letterAt", desc := "(II)C" } : Jvm.MethodName) prog_1_method_22_code (4 : Nat) (Option.some Jvm.ClassFile.FieldType.char)) ∈ lw_all := lw_g (lw_at lw_m5 83 rfl) rfl
theorem q1079 : (Jvm.Cond.methodLink "AllotmentLedger" (199 : Nat) ({ cls := "java/lang/String", name := "charAt", desc := "(I)C" } : Jvm.MethodName)) ∈ lw_all := lw_g (lw_at lw_m5 84 rfl) rfl
theorem q1084 : (Jvm.Cond.instanceMethod ({ cls := "AllotmentLedger", name := "makeFile", desc := "(II)I" } : Jvm.MethodName)) ∈ lw_all := lw_g (lw_at lw_m5 89 rfl) rfl
theorem q1085 : (Jvm.Cond.selects "AllotmentLedger" ({ cls := "AllotmentLedger", name := "makeFile", desc := "(II)I" } : Jvm.MethodName) ({ cls := "AllotmentLedger", name := "makeFile", desc := "(II)I" } : Jvm.MethodName)) ∈ lw_all := lw_g (lw_at lw_m5 90 rfl) rfl
theorem q1086 : (Jvm.Cond.code ({ cls := "AllotmentLedger", name := "makeFile", desc := "(II)I" } : Jvm.MethodName) prog_1_method_24_code (6 : Nat) (Option.some Jvm.ClassFile.FieldType.int)) ∈ lw_all := lw_g (lw_at lw_m5 91 rfl) rfl
theorem q1087 : (Jvm.Cond.methodLink "AllotmentLedger" (203 : Nat) ({ cls := "AllotmentLedger$Account", name := "barsFile", desc := "()Z" } : Jvm.MethodName)) ∈ lw_all := lw_g (lw_at lw_m5 92 rfl) rfl
theorem q1094 : (Jvm.Cond.methodLink "AllotmentLedger" (207 : Nat) ({ cls := "AllotmentLedger$Entry", name := "<init>", desc := "(IILAllotmentLedger$Project;)V" } : Jvm.MethodName)) ∈ lw_all := lw_g (lw_at lw_m5 99 rfl) rfl
theorem q1099 : (Jvm.Cond.fieldLinkNest "AllotmentLedger" (132 : Nat) "AllotmentLedger$Entry" "number" "I" "AllotmentLedger") ∈ lw_tbl := lw_at lw_m5 104 rfl
theorem q1101 : (Jvm.Cond.fieldLinkNest "AllotmentLedger" (109 : Nat) "AllotmentLedger$Entry" "owner" "I" "AllotmentLedger") ∈ lw_tbl := lw_at lw_m5 106 rfl
theorem q1103 : (Jvm.Cond.fieldLinkNest "AllotmentLedger" (112 : Nat) "AllotmentLedger$Entry" "project" "LAllotmentLedger$Project;" "AllotmentLedger") ∈ lw_tbl := lw_at lw_m5 108 rfl
theorem q1105 : (Jvm.Cond.fieldLinkNest "AllotmentLedger" (147 : Nat) "AllotmentLedger$Entry" "blocks" "I" "AllotmentLedger") ∈ lw_tbl := lw_at lw_m5 110 rfl
theorem q1107 : (Jvm.Cond.fieldLinkNest "AllotmentLedger" (148 : Nat) "AllotmentLedger$Entry" "held" "I" "AllotmentLedger") ∈ lw_tbl := lw_at lw_m5 112 rfl
theorem q1108 : (Jvm.Cond.fieldLinkNest "AllotmentLedger" (81 : Nat) "AllotmentLedger$Entry" "isDeleted" "Z" "AllotmentLedger") ∈ lw_tbl := lw_at lw_m5 113 rfl
theorem q1126 : (Jvm.Cond.instanceMethod ({ cls := "AllotmentLedger", name := "write", desc := "(II)I" } : Jvm.MethodName)) ∈ lw_all := lw_g (lw_at lw_m5 131 rfl) rfl
theorem q1127 : (Jvm.Cond.selects "AllotmentLedger" ({ cls := "AllotmentLedger", name := "write", desc := "(II)I" } : Jvm.MethodName) ({ cls := "AllotmentLedger", name := "write", desc := "(II)I" } : Jvm.MethodName)) ∈ lw_all := lw_g (lw_at lw_m5 132 rfl) rfl
theorem q1128 : (Jvm.Cond.code ({ cls := "AllotmentLedger", name := "write", desc := "(II)I" } : Jvm.MethodName) prog_1_method_25_code (5 : Nat) (Option.some Jvm.ClassFile.FieldType.int)) ∈ lw_all := lw_g (lw_at lw_m5 133 rfl) rfl
theorem q1129 : (Jvm.Cond.methodLink "AllotmentLedger" (210 : Nat) ({ cls := "AllotmentLedger", name := "entryAt", desc := "(I)LAllotmentLedger$Entry;" } : Jvm.MethodName)) ∈ lw_all := lw_g (lw_at lw_m5 134 rfl) rfl
theorem q1130 : (Jvm.Cond.privateMethod ({ cls := "AllotmentLedger", name := "entryAt", desc := "(I)LAllotmentLedger$Entry;" } : Jvm.MethodName)) ∈ lw_tbl := lw_at lw_m5 135 rfl
theorem q1131 : (Jvm.Cond.instanceMethod ({ cls := "AllotmentLedger", name := "entryAt", desc := "(I)LAllotmentLedger$Entry;" } : Jvm.MethodName)) ∈ lw_all := lw_g (lw_at lw_m5 136 rfl) rfl
theorem q1132 : (Jvm.Cond.code ({ cls := "AllotmentLedger", name := "entryAt", desc := "(I)LAllotmentLedger$Entry;" } : Jvm.MethodName) prog_1_method_8_code (2 : Nat) (Option.some (Jvm.ClassFile.FieldType.object "AllotmentLedger$Entry"))) ∈ lw_all := lw_g (lw_at lw_m5 137 rfl) rfl
theorem q1133 : (Jvm.Cond.methodLink "AllotmentLedger" (214 : Nat) ({ cls := "AllotmentLedger", name := "barring", desc := "(LAllotmentLedger$Entry;I)I" } : Jvm.MethodName)) ∈ lw_all := lw_g (lw_at lw_m5 138 rfl) rfl
theorem q1134 : (Jvm.Cond.privateMethod ({ cls := "AllotmentLedger", name := "barring", desc := "(LAllotmentLedger$Entry;I)I" } : Jvm.MethodName)) ∈ lw_tbl := lw_at lw_m5 139 rfl
theorem q1135 : (Jvm.Cond.instanceMethod ({ cls := "AllotmentLedger", name := "barring", desc := "(LAllotmentLedger$Entry;I)I" } : Jvm.MethodName)) ∈ lw_all := lw_g (lw_at lw_m5 140 rfl) rfl
theorem q1136 : (Jvm.Cond.code ({ cls := "AllotmentLedger", name := "barring", desc := "(LAllotmentLedger$Entry;I)I" } : Jvm.MethodName) prog_1_method_14_code (5 : Nat) (Option.some Jvm.ClassFile.FieldType.int)) ∈ lw_all := lw_g (lw_at lw_m5 141 rfl) rfl
theorem q1137 : (Jvm.Cond.methodLink "AllotmentLedger" (154 : Nat) ({ cls := "AllotmentLedger$Account", name := "barsBlocks", desc := "(II)Z" } : Jvm.MethodName)) ∈ lw_all := lw_g (lw_at lw_m5 142 rfl) rfl
theorem q1149 : (Jvm.Cond.methodLink "AllotmentLedger" (218 : Nat) ({ cls := "AllotmentLedger", name := "change", desc := "(LAllotmentLedger$Entry;II)V" } : Jvm.MethodName)) ∈ lw_all := lw_g (lw_at lw_m5 154 rfl) rfl
theorem q1150 : (Jvm.Cond.privateMethod ({ cls := "AllotmentLedger", name := "change", desc := "(LAllotmentLedger$Entry;II)V" } : Jvm.MethodName)) ∈ lw_tbl := lw_at lw_m5 155 rfl
theorem q1151 : (Jvm.Cond.instanceMethod ({ cls := "AllotmentLedger", name := "change", desc := "(LAllotmentLedger$Entry;II)V" } : Jvm.MethodName)) ∈ lw_all := lw_g (lw_at lw_m5 156 rfl) rfl
theorem q1152 : (Jvm.Cond.code ({ cls := "AllotmentLedger", name := "change", desc := "(LAllotmentLedger$Entry;II)V" } : Jvm.MethodName) prog_1_method_13_code (4 : Nat) (Option.none : Option Jvm.ClassFile.FieldType)) ∈ lw_all := lw_g (lw_at lw_m5 157 rfl) rfl
theorem q1157 : (Jvm.Cond.instanceMethod ({ cls := "AllotmentLedger", name := "delete", desc := "(I)I" } : Jvm.MethodName)) ∈ lw_all := lw_g (lw_at lw_m5 162 rfl) rfl
theorem q1158 : (Jvm.Cond.selects "AllotmentLedger" ({ cls := "AllotmentLedger", name := "delete", desc := "(I)I" } : Jvm.MethodName) ({ cls := "AllotmentLedger", name := "delete", desc := "(I)I" } : Jvm.MethodName)) ∈ lw_all := lw_g (lw_at lw_m5 163 rfl) rfl
theorem q1159 : (Jvm.Cond.code ({ cls := "AllotmentLedger", name := "delete", desc := "(I)I" } : Jvm.MethodName) prog_1_method_26_code (6 : Nat) (Option.some Jvm.ClassFile.FieldType.int)) ∈ lw_all := lw_g (lw_at lw_m5 164 rfl) rfl
theorem q1160 : (Jvm.Cond.classLink "AllotmentLedger" (222 : Nat) "AllotmentLedger$Reservation") ∈ lw_all := lw_g (lw_at lw_m5 165 rfl) rfl
theorem q1165 : (Jvm.Cond.instanceMethod ({ cls := "AllotmentLedger", name := "moveFile", desc := "(II)I" } : Jvm.MethodName)) ∈ lw_all := lw_g (lw_at lw_m5 170 rfl) rfl
theorem q1166 : (Jvm.Cond.selects "AllotmentLedger" ({ cls := "AllotmentLedger", name := "moveFile", desc := "(II)I" } : Jvm.MethodName) ({ cls := "AllotmentLedger", name := "moveFile", desc := "(II)I" } : Jvm.MethodName)) ∈ lw_all := lw_g (lw_at lw_m5 171 rfl) rfl
theorem q1167 : (Jvm.Cond.code ({ cls := "AllotmentLedger", name := "moveFile", desc := "(II)I" } : Jvm.MethodName) prog_1_method_27_code (6 : Nat) (Option.some Jvm.ClassFile.FieldType.int)) ∈ lw_all := lw_g (lw_at lw_m5 172 rfl) rfl
theorem q1172 : (Jvm.Cond.instanceMethod ({ cls := "AllotmentLedger", name := "reserve", desc := "(II)I" } : Jvm.MethodName)) ∈ lw_all := lw_g (lw_at lw_m5 177 rfl) rfl
theorem q1173 : (Jvm.Cond.selects "AllotmentLedger" ({ cls := "AllotmentLedger", name := "reserve", desc := "(II)I" } : Jvm.MethodName) ({ cls := "AllotmentLedger", name := "reserve", desc := "(II)I" } : Jvm.MethodName)) ∈ lw_all := lw_g (lw_at lw_m5 178 rfl) rfl
theorem q1174 : (Jvm.Cond.code ({ cls := "AllotmentLedger", name := "reserve", desc := "(II)I" } : Jvm.MethodName) prog_1_method_28_code (5 : Nat) (Option.some Jvm.ClassFile.FieldType.int)) ∈ lw_all := lw_g (lw_at lw_m5 179 rfl) rfl
theorem q1176 : (Jvm.Cond.methodLink "AllotmentLedger" (231 : Nat) ({ cls := "AllotmentLedger$Reservation", name := "<init>", desc := "(LAllotmentLedger$Entry;I)V" } : Jvm.MethodName)) ∈ lw_all := lw_g (lw_at lw_m5 181 rfl) rfl
theorem q1181 : (Jvm.Cond.fieldLinkNest "AllotmentLedger" (227 : Nat) "AllotmentLedger$Reservation" "entry" "LAllotmentLedger$Entry;" "AllotmentLedger") ∈ lw_tbl := lw_at lw_m5 186 rfl
theorem q1183 : (Jvm.Cond.fieldLinkNest "AllotmentLedger" (233 : Nat) "AllotmentLedger$Reservation" "blocks" "I" "AllotmentLedger") ∈ lw_tbl := lw_at lw_m5 188 rfl
theorem q1184 : (Jvm.Cond.fieldLinkNest "AllotmentLedger" (224 : Nat) "AllotmentLedger$Reservation" "isClosed" "Z" "AllotmentLedger") ∈ lw_tbl := lw_at lw_m5 189 rfl
theorem q1196 : (Jvm.Cond.instanceMethod ({ cls := "AllotmentLedger", name := "settle", desc := "(II)I" } : Jvm.MethodName)) ∈ lw_all := lw_g (lw_at lw_m5 201 rfl) rfl
theorem q1197 : (Jvm.Cond.selects "AllotmentLedger" ({ cls := "AllotmentLedger", name := "settle", desc := "(II)I" } : Jvm.MethodName) ({ cls := "AllotmentLedger", name := "settle", desc := "(II)I" } : Jvm.MethodName)) ∈ lw_all := lw_g (lw_at lw_m5 202 rfl) rfl
theorem q1198 : (Jvm.Cond.code ({ cls := "AllotmentLedger", name := "settle", desc := "(II)I" } : Jvm.MethodName) prog_1_method_29_code (4 : Nat) (Option.some Jvm.ClassFile.FieldType.int)) ∈ lw_all := lw_g (lw_at lw_m5 203 rfl) rfl
theorem q1203 : (Jvm.Cond.instanceMethod ({ cls := "AllotmentLedger", name := "setLimits", desc := "(IIIII)V" } : Jvm.MethodName)) ∈ lw_all := lw_g (lw_at lw_m5 208 rfl) rfl
theorem q1204 : (Jvm.Cond.selects "AllotmentLedger" ({ cls := "AllotmentLedger", name := "setLimits", desc := "(IIIII)V" } : Jvm.MethodName) ({ cls := "AllotmentLedger", name := "setLimits", desc := "(IIIII)V" } : Jvm.MethodName)) ∈ lw_all := lw_g (lw_at lw_m5 209 rfl) rfl
theorem q1205 : (Jvm.Cond.code ({ cls := "AllotmentLedger", name := "setLimits", desc := "(IIIII)V" } : Jvm.MethodName) prog_1_method_30_code (7 : Nat) (Option.none : Option Jvm.ClassFile.FieldType)) ∈ lw_all := lw_g (lw_at lw_m5 210 rfl) rfl
theorem q1206 : (Jvm.Cond.methodLink "AllotmentLedger" (234 : Nat) ({ cls := "AllotmentLedger", name := "accountAt", desc := "(II)LAllotmentLedger$Account;" } : Jvm.MethodName)) ∈ lw_all := lw_g (lw_at lw_m5 211 rfl) rfl
theorem q1207 : (Jvm.Cond.privateMethod ({ cls := "AllotmentLedger", name := "accountAt", desc := "(II)LAllotmentLedger$Account;" } : Jvm.MethodName)) ∈ lw_tbl := lw_at lw_m5 212 rfl
theorem q1208 : (Jvm.Cond.instanceMethod ({ cls := "AllotmentLedger", name := "accountAt", desc := "(II)LAllotmentLedger$Account;" } : Jvm.MethodName)) ∈ lw_all := lw_g (lw_at lw_m5 213 rfl) rfl
theorem q1209 : (Jvm.Cond.code ({ cls := "AllotmentLedger", name := "accountAt", desc := "(II)LAllotmentLedger$Account;" } : Jvm.MethodName) prog_1_method_6_code (3 : Nat) (Option.some (Jvm.ClassFile.FieldType.object "AllotmentLedger$Account"))) ∈ lw_all := lw_g (lw_at lw_m5 214 rfl) rfl
theorem q1210 : (Jvm.Cond.constant "AllotmentLedger" (238 : Nat) (100000 : Int32)) ∈ lw_all := lw_g (lw_at lw_m5 215 rfl) rfl
theorem q1215 : (Jvm.Cond.instanceMethod ({ cls := "AllotmentLedger", name := "pass", desc := "(I)I" } : Jvm.MethodName)) ∈ lw_all := lw_g (lw_at lw_m5 220 rfl) rfl
theorem q1216 : (Jvm.Cond.selects "AllotmentLedger" ({ cls := "AllotmentLedger", name := "pass", desc := "(I)I" } : Jvm.MethodName) ({ cls := "AllotmentLedger", name := "pass", desc := "(I)I" } : Jvm.MethodName)) ∈ lw_all := lw_g (lw_at lw_m5 221 rfl) rfl
theorem q1217 : (Jvm.Cond.code ({ cls := "AllotmentLedger", name := "pass", desc := "(I)I" } : Jvm.MethodName) prog_1_method_31_code (2 : Nat) (Option.some Jvm.ClassFile.FieldType.int)) ∈ lw_all := lw_g (lw_at lw_m5 222 rfl) rfl
theorem q1222 : (Jvm.Cond.instanceMethod ({ cls := "AllotmentLedger", name := "used", desc := "(II)I" } : Jvm.MethodName)) ∈ lw_all := lw_g (lw_at lw_m5 227 rfl) rfl
theorem q1223 : (Jvm.Cond.selects "AllotmentLedger" ({ cls := "AllotmentLedger", name := "used", desc := "(II)I" } : Jvm.MethodName) ({ cls := "AllotmentLedger", name := "used", desc := "(II)I" } : Jvm.MethodName)) ∈ lw_all := lw_g (lw_at lw_m5 228 rfl) rfl
theorem q1224 : (Jvm.Cond.code ({ cls := "AllotmentLedger", name := "used", desc := "(II)I" } : Jvm.MethodName) prog_1_method_32_code (3 : Nat) (Option.some Jvm.ClassFile.FieldType.int)) ∈ lw_all := lw_g (lw_at lw_m5 229 rfl) rfl
theorem q1229 : (Jvm.Cond.instanceMethod ({ cls := "AllotmentLedger", name := "filesOf", desc := "(II)I" } : Jvm.MethodName)) ∈ lw_all := lw_g (lw_at lw_m5 234 rfl) rfl
theorem q1230 : (Jvm.Cond.selects "AllotmentLedger" ({ cls := "AllotmentLedger", name := "filesOf", desc := "(II)I" } : Jvm.MethodName) ({ cls := "AllotmentLedger", name := "filesOf", desc := "(II)I" } : Jvm.MethodName)) ∈ lw_all := lw_g (lw_at lw_m5 235 rfl) rfl
theorem q1231 : (Jvm.Cond.code ({ cls := "AllotmentLedger", name := "filesOf", desc := "(II)I" } : Jvm.MethodName) prog_1_method_33_code (3 : Nat) (Option.some Jvm.ClassFile.FieldType.int)) ∈ lw_all := lw_g (lw_at lw_m5 236 rfl) rfl
theorem q1236 : (Jvm.Cond.instanceMethod ({ cls := "AllotmentLedger", name := "usedByFiles", desc := "(II)I" } : Jvm.MethodName)) ∈ lw_all := lw_g (lw_at lw_m6 1 rfl) rfl
theorem q1237 : (Jvm.Cond.selects "AllotmentLedger" ({ cls := "AllotmentLedger", name := "usedByFiles", desc := "(II)I" } : Jvm.MethodName) ({ cls := "AllotmentLedger", name := "usedByFiles", desc := "(II)I" } : Jvm.MethodName)) ∈ lw_all := lw_g (lw_at lw_m6 2 rfl) rfl
theorem q1238 : (Jvm.Cond.code ({ cls := "AllotmentLedger", name := "usedByFiles", desc := "(II)I" } : Jvm.MethodName) prog_1_method_34_code (10 : Nat) (Option.some Jvm.ClassFile.FieldType.int)) ∈ lw_all := lw_g (lw_at lw_m6 3 rfl) rfl
theorem q1243 : (Jvm.Cond.instanceMethod ({ cls := "AllotmentLedger", name := "grace", desc := "(II)I" } : Jvm.MethodName)) ∈ lw_all := lw_g (lw_at lw_m6 8 rfl) rfl
theorem q1244 : (Jvm.Cond.selects "AllotmentLedger" ({ cls := "AllotmentLedger", name := "grace", desc := "(II)I" } : Jvm.MethodName) ({ cls := "AllotmentLedger", name := "grace", desc := "(II)I" } : Jvm.MethodName)) ∈ lw_all := lw_g (lw_at lw_m6 9 rfl) rfl
theorem q1245 : (Jvm.Cond.code ({ cls := "AllotmentLedger", name := "grace", desc := "(II)I" } : Jvm.MethodName) prog_1_method_35_code (4 : Nat) (Option.some Jvm.ClassFile.FieldType.int)) ∈ lw_all := lw_g (lw_at lw_m6 10 rfl) rfl
theorem q1246 : (Jvm.Cond.methodLink "AllotmentLedger" (251 : Nat) ({ cls := "java/lang/Math", name := "max", desc := "(II)I" } : Jvm.MethodName)) ∈ lw_all := lw_g (lw_at lw_m6 11 rfl) rfl
theorem q1251 : (Jvm.Cond.instanceMethod ({ cls := "AllotmentLedger", name := "room", desc := "(I)I" } : Jvm.MethodName)) ∈ lw_all := lw_g (lw_at lw_m6 16 rfl) rfl
theorem q1252 : (Jvm.Cond.selects "AllotmentLedger" ({ cls := "AllotmentLedger", name := "room", desc := "(I)I" } : Jvm.MethodName) ({ cls := "AllotmentLedger", name := "room", desc := "(I)I" } : Jvm.MethodName)) ∈ lw_all := lw_g (lw_at lw_m6 17 rfl) rfl
theorem q1253 : (Jvm.Cond.code ({ cls := "AllotmentLedger", name := "room", desc := "(I)I" } : Jvm.MethodName) prog_1_method_36_code (8 : Nat) (Option.some Jvm.ClassFile.FieldType.int)) ∈ lw_all := lw_g (lw_at lw_m6 18 rfl) rfl
theorem q1254 : (Jvm.Cond.methodLink "AllotmentLedger" (257 : Nat) ({ cls := "AllotmentLedger$Account", name := "isGone", desc := "(I)Z" } : Jvm.MethodName)) ∈ lw_all := lw_g (lw_at lw_m6 19 rfl) rfl
theorem q1255 : (Jvm.Cond.methodLink "AllotmentLedger" (261 : Nat) ({ cls := "java/lang/Math", name := "min", desc := "(II)I" } : Jvm.MethodName)) ∈ lw_all := lw_g (lw_at lw_m6 20 rfl) rfl
theorem q1260 : (Jvm.Cond.instanceMethod ({ cls := "AllotmentLedger", name := "recount", desc := "(I)I" } : Jvm.MethodName)) ∈ lw_all := lw_g (lw_at lw_m6 25 rfl) rfl
theorem q1261 : (Jvm.Cond.selects "AllotmentLedger" ({ cls := "AllotmentLedger", name := "recount", desc := "(I)I" } : Jvm.MethodName) ({ cls := "AllotmentLedger", name := "recount", desc := "(I)I" } : Jvm.MethodName)) ∈ lw_all := lw_g (lw_at lw_m6 26 rfl) rfl
theorem q1262 : (Jvm.Cond.code ({ cls := "AllotmentLedger", name := "recount", desc := "(I)I" } : Jvm.MethodName) prog_1_method_38_code (6 : Nat) (Option.some Jvm.ClassFile.FieldType.int)) ∈ lw_all := lw_g (lw_at lw_m6 27 rfl) rfl
theorem q1267 : (Jvm.Cond.instanceMethod ({ cls := "AllotmentLedger", name := "counted", desc := "(II)I" } : Jvm.MethodName)) ∈ lw_all := lw_g (lw_at lw_m6 32 rfl) rfl
theorem q1268 : (Jvm.Cond.selects "AllotmentLedger" ({ cls := "AllotmentLedger", name := "counted", desc := "(II)I" } : Jvm.MethodName) ({ cls := "AllotmentLedger", name := "counted", desc := "(II)I" } : Jvm.MethodName)) ∈ lw_all := lw_g (lw_at lw_m6 33 rfl) rfl
theorem q1269 : (Jvm.Cond.code ({ cls := "AllotmentLedger", name := "counted", desc := "(II)I" } : Jvm.MethodName) prog_1_method_39_code (4 : Nat) (Option.some Jvm.ClassFile.FieldType.int)) ∈ lw_all := lw_g (lw_at lw_m6 34 rfl) rfl
theorem q1562 : (Jvm.Cond.castable "AllotmentLedger" "java/lang/Object") ∈ lw_tbl := lw_at lw_m7 87 rfl
theorem in_X1 : ∀ w ∈ wsX10, w ∈ lw_all := lw_in wsX10 [264, 266, 268, 270, 272, 274, 276, 278] (by decide +kernel) (by decide +kernel)

/-! AllotmentLedger$Account -/
set_option maxRecDepth 100000
def RX2 : String := "AllotmentLedger$Account"
def TX2 : u_T := fun k => match k with
  | 0 => ("AllotmentLedger$Account", "soft", "I", false)
  | 1 => ("AllotmentLedger$Account", "hard", "I", false)
  | 2 => ("AllotmentLedger$Account", "fileLimit", "I", false)
  | 3 => ("AllotmentLedger$Account", "blocks", "I", false)
  | 4 => ("AllotmentLedger$Account", "files", "I", false)
  | 5 => ("AllotmentLedger$Account", "counted", "I", false)
  | _ => ("AllotmentLedger$Account", "since", "I", false)
def tyX2 : Nat → FieldType := fun k => match k with
  | 0 => .int
  | 1 => .int
  | 2 => .int
  | 3 => .int
  | 4 => .int
  | 5 => .int
  | _ => .int
abbrev wsX20 : List Cond := u_ws RX2 TX2 7
theorem nmX2 : ∀ a, a < 7 → ∀ b, b < 7 → a ≠ b → (TX2 a).2.1 ≠ (TX2 b).2.1 := by decide +kernel
theorem tyX2_ok : ∀ k, k < 7 → parseFieldDescriptor (TX2 k).2.2.1 = some (tyX2 k) := by decide +kernel
abbrev cX2_init : ByteArray := prog_2_method_1_code
def yX2_init : MethodName := ⟨RX2, "<init>", "()V"⟩
def dkwX2_init_1 : List UInt8 := [177]
abbrev dktX2_init_1 : List UInt8 := dkwX2_init_1 ++ []
def dkwX2_init_0 : List UInt8 := [42, 183, 0, 3, 42, 2, 181, 0, 9, 42, 2, 181, 0, 15, 42, 2, 181, 0, 18, 42, 2, 181, 0, 21]
abbrev dktX2_init_0 : List UInt8 := dkwX2_init_0 ++ dktX2_init_1
theorem dksX2_init_0 : cX2_init.data.toList.drop 0 = dktX2_init_0 := by decide +kernel
theorem dksX2_init_1 : cX2_init.data.toList.drop 24 = dktX2_init_1 := dk_seg dksX2_init_0 24 rfl rfl
theorem dX2_init_0 : decode cX2_init 0 = .ok (.aload_n 0, 1) := dk_42 (dk_at dksX2_init_0 0 rfl rfl)
theorem dX2_init_1 : decode cX2_init 1 = .ok (.invokespecial 3, 3) := dk_183 0 3 (dk_at dksX2_init_0 1 rfl rfl)
theorem dX2_init_4 : decode cX2_init 4 = .ok (.aload_n 0, 1) := dk_42 (dk_at dksX2_init_0 4 rfl rfl)
theorem dX2_init_5 : decode cX2_init 5 = .ok (.iconst (-1), 1) := dk_2 (dk_at dksX2_init_0 5 rfl rfl)
theorem dX2_init_6 : decode cX2_init 6 = .ok (.putfield 9, 3) := dk_181 0 9 (dk_at dksX2_init_0 6 rfl rfl)
theorem dX2_init_9 : decode cX2_init 9 = .ok (.aload_n 0, 1) := dk_42 (dk_at dksX2_init_0 9 rfl rfl)
theorem dX2_init_10 : decode cX2_init 10 = .ok (.iconst (-1), 1) := dk_2 (dk_at dksX2_init_0 10 rfl rfl)
theorem dX2_init_11 : decode cX2_init 11 = .ok (.putfield 15, 3) := dk_181 0 15 (dk_at dksX2_init_0 11 rfl rfl)
theorem dX2_init_14 : decode cX2_init 14 = .ok (.aload_n 0, 1) := dk_42 (dk_at dksX2_init_0 14 rfl rfl)
theorem dX2_init_15 : decode cX2_init 15 = .ok (.iconst (-1), 1) := dk_2 (dk_at dksX2_init_0 15 rfl rfl)
theorem dX2_init_16 : decode cX2_init 16 = .ok (.putfield 18, 3) := dk_181 0 18 (dk_at dksX2_init_0 16 rfl rfl)
theorem dX2_init_19 : decode cX2_init 19 = .ok (.aload_n 0, 1) := dk_42 (dk_at dksX2_init_0 19 rfl rfl)
theorem dX2_init_20 : decode cX2_init 20 = .ok (.iconst (-1), 1) := dk_2 (dk_at dksX2_init_0 20 rfl rfl)
theorem dX2_init_21 : decode cX2_init 21 = .ok (.putfield 21, 3) := dk_181 0 21 (dk_at dksX2_init_0 21 rfl rfl)
theorem dX2_init_24 : decode cX2_init 24 = .ok (.return_, 1) := dk_177 (dk_at dksX2_init_1 0 rfl rfl)
abbrev cX2_look : ByteArray := prog_2_method_3_code
def yX2_look : MethodName := ⟨RX2, "look", "(I)V"⟩
def dkwX2_look_1 : List UInt8 := [42, 180, 0, 21, 181, 0, 21, 177]
abbrev dktX2_look_1 : List UInt8 := dkwX2_look_1 ++ []
def dkwX2_look_0 : List UInt8 := [42, 42, 182, 0, 27, 154, 0, 7, 2, 167, 0, 19, 42, 180, 0, 21, 2, 160, 0, 7, 27, 167, 0, 7]
abbrev dktX2_look_0 : List UInt8 := dkwX2_look_0 ++ dktX2_look_1
theorem dksX2_look_0 : cX2_look.data.toList.drop 0 = dktX2_look_0 := by decide +kernel
theorem dksX2_look_1 : cX2_look.data.toList.drop 24 = dktX2_look_1 := dk_seg dksX2_look_0 24 rfl rfl
theorem dX2_look_0 : decode cX2_look 0 = .ok (.aload_n 0, 1) := dk_42 (dk_at dksX2_look_0 0 rfl rfl)
theorem dX2_look_1 : decode cX2_look 1 = .ok (.aload_n 0, 1) := dk_42 (dk_at dksX2_look_0 1 rfl rfl)
theorem dX2_look_2 : decode cX2_look 2 = .ok (.invokevirtual 27, 3) := dk_182 0 27 (dk_at dksX2_look_0 2 rfl rfl)
theorem dX2_look_5 : decode cX2_look 5 = .ok (.ifCond .ne 7, 3) := dk_154 0 7 (dk_at dksX2_look_0 5 rfl rfl)
theorem dX2_look_8 : decode cX2_look 8 = .ok (.iconst (-1), 1) := dk_2 (dk_at dksX2_look_0 8 rfl rfl)
theorem dX2_look_9 : decode cX2_look 9 = .ok (.goto 19, 3) := dk_167 0 19 (dk_at dksX2_look_0 9 rfl rfl)
theorem dX2_look_12 : decode cX2_look 12 = .ok (.aload_n 0, 1) := dk_42 (dk_at dksX2_look_0 12 rfl rfl)
theorem dX2_look_13 : decode cX2_look 13 = .ok (.getfield 21, 3) := dk_180 0 21 (dk_at dksX2_look_0 13 rfl rfl)
theorem dX2_look_16 : decode cX2_look 16 = .ok (.iconst (-1), 1) := dk_2 (dk_at dksX2_look_0 16 rfl rfl)
theorem dX2_look_17 : decode cX2_look 17 = .ok (.if_icmp .ne 7, 3) := dk_160 0 7 (dk_at dksX2_look_0 17 rfl rfl)
theorem dX2_look_20 : decode cX2_look 20 = .ok (.iload_n 1, 1) := dk_27 (dk_at dksX2_look_0 20 rfl rfl)
theorem dX2_look_21 : decode cX2_look 21 = .ok (.goto 7, 3) := dk_167 0 7 (dk_at dksX2_look_0 21 rfl rfl)
theorem dX2_look_24 : decode cX2_look 24 = .ok (.aload_n 0, 1) := dk_42 (dk_at dksX2_look_1 0 rfl rfl)
theorem dX2_look_25 : decode cX2_look 25 = .ok (.getfield 21, 3) := dk_180 0 21 (dk_at dksX2_look_1 1 rfl rfl)
theorem dX2_look_28 : decode cX2_look 28 = .ok (.putfield 21, 3) := dk_181 0 21 (dk_at dksX2_look_1 4 rfl rfl)
theorem dX2_look_31 : decode cX2_look 31 = .ok (.return_, 1) := dk_177 (dk_at dksX2_look_1 7 rfl rfl)
abbrev cX2_isOver : ByteArray := prog_2_method_2_code
def yX2_isOver : MethodName := ⟨RX2, "isOver", "()Z"⟩
def dkwX2_isOver_1 : List UInt8 := [172]
abbrev dktX2_isOver_1 : List UInt8 := dkwX2_isOver_1 ++ []
def dkwX2_isOver_0 : List UInt8 := [42, 180, 0, 9, 2, 159, 0, 18, 42, 180, 0, 24, 42, 180, 0, 9, 164, 0, 7, 4, 167, 0, 4, 3]
abbrev dktX2_isOver_0 : List UInt8 := dkwX2_isOver_0 ++ dktX2_isOver_1
theorem dksX2_isOver_0 : cX2_isOver.data.toList.drop 0 = dktX2_isOver_0 := by decide +kernel
theorem dksX2_isOver_1 : cX2_isOver.data.toList.drop 24 = dktX2_isOver_1 := dk_seg dksX2_isOver_0 24 rfl rfl
theorem dX2_isOver_0 : decode cX2_isOver 0 = .ok (.aload_n 0, 1) := dk_42 (dk_at dksX2_isOver_0 0 rfl rfl)
theorem dX2_isOver_1 : decode cX2_isOver 1 = .ok (.getfield 9, 3) := dk_180 0 9 (dk_at dksX2_isOver_0 1 rfl rfl)
theorem dX2_isOver_4 : decode cX2_isOver 4 = .ok (.iconst (-1), 1) := dk_2 (dk_at dksX2_isOver_0 4 rfl rfl)
theorem dX2_isOver_5 : decode cX2_isOver 5 = .ok (.if_icmp .eq 18, 3) := dk_159 0 18 (dk_at dksX2_isOver_0 5 rfl rfl)
theorem dX2_isOver_8 : decode cX2_isOver 8 = .ok (.aload_n 0, 1) := dk_42 (dk_at dksX2_isOver_0 8 rfl rfl)
theorem dX2_isOver_9 : decode cX2_isOver 9 = .ok (.getfield 24, 3) := dk_180 0 24 (dk_at dksX2_isOver_0 9 rfl rfl)
theorem dX2_isOver_12 : decode cX2_isOver 12 = .ok (.aload_n 0, 1) := dk_42 (dk_at dksX2_isOver_0 12 rfl rfl)
theorem dX2_isOver_13 : decode cX2_isOver 13 = .ok (.getfield 9, 3) := dk_180 0 9 (dk_at dksX2_isOver_0 13 rfl rfl)
theorem dX2_isOver_16 : decode cX2_isOver 16 = .ok (.if_icmp .le 7, 3) := dk_164 0 7 (dk_at dksX2_isOver_0 16 rfl rfl)
theorem dX2_isOver_19 : decode cX2_isOver 19 = .ok (.iconst 1, 1) := dk_4 (dk_at dksX2_isOver_0 19 rfl rfl)
theorem dX2_isOver_20 : decode cX2_isOver 20 = .ok (.goto 4, 3) := dk_167 0 4 (dk_at dksX2_isOver_0 20 rfl rfl)
theorem dX2_isOver_23 : decode cX2_isOver 23 = .ok (.iconst 0, 1) := dk_3 (dk_at dksX2_isOver_0 23 rfl rfl)
theorem dX2_isOver_24 : decode cX2_isOver 24 = .ok (.ireturn, 1) := dk_172 (dk_at dksX2_isOver_1 0 rfl rfl)
abbrev cX2_barsFile : ByteArray := prog_2_method_6_code
def yX2_barsFile : MethodName := ⟨RX2, "barsFile", "()Z"⟩
def dkwX2_barsFile_1 : List UInt8 := [167, 0, 4, 3, 172]
abbrev dktX2_barsFile_1 : List UInt8 := dkwX2_barsFile_1 ++ []
def dkwX2_barsFile_0 : List UInt8 := [42, 180, 0, 18, 2, 159, 0, 20, 42, 180, 0, 35, 4, 96, 42, 180, 0, 18, 164, 0, 7, 4]
abbrev dktX2_barsFile_0 : List UInt8 := dkwX2_barsFile_0 ++ dktX2_barsFile_1
theorem dksX2_barsFile_0 : cX2_barsFile.data.toList.drop 0 = dktX2_barsFile_0 := by decide +kernel
theorem dksX2_barsFile_1 : cX2_barsFile.data.toList.drop 22 = dktX2_barsFile_1 := dk_seg dksX2_barsFile_0 22 rfl rfl
theorem dX2_barsFile_0 : decode cX2_barsFile 0 = .ok (.aload_n 0, 1) := dk_42 (dk_at dksX2_barsFile_0 0 rfl rfl)
theorem dX2_barsFile_1 : decode cX2_barsFile 1 = .ok (.getfield 18, 3) := dk_180 0 18 (dk_at dksX2_barsFile_0 1 rfl rfl)
theorem dX2_barsFile_4 : decode cX2_barsFile 4 = .ok (.iconst (-1), 1) := dk_2 (dk_at dksX2_barsFile_0 4 rfl rfl)
theorem dX2_barsFile_5 : decode cX2_barsFile 5 = .ok (.if_icmp .eq 20, 3) := dk_159 0 20 (dk_at dksX2_barsFile_0 5 rfl rfl)
theorem dX2_barsFile_8 : decode cX2_barsFile 8 = .ok (.aload_n 0, 1) := dk_42 (dk_at dksX2_barsFile_0 8 rfl rfl)
theorem dX2_barsFile_9 : decode cX2_barsFile 9 = .ok (.getfield 35, 3) := dk_180 0 35 (dk_at dksX2_barsFile_0 9 rfl rfl)
theorem dX2_barsFile_12 : decode cX2_barsFile 12 = .ok (.iconst 1, 1) := dk_4 (dk_at dksX2_barsFile_0 12 rfl rfl)
theorem dX2_barsFile_13 : decode cX2_barsFile 13 = .ok (.iadd, 1) := dk_96 (dk_at dksX2_barsFile_0 13 rfl rfl)
theorem dX2_barsFile_14 : decode cX2_barsFile 14 = .ok (.aload_n 0, 1) := dk_42 (dk_at dksX2_barsFile_0 14 rfl rfl)
theorem dX2_barsFile_15 : decode cX2_barsFile 15 = .ok (.getfield 18, 3) := dk_180 0 18 (dk_at dksX2_barsFile_0 15 rfl rfl)
theorem dX2_barsFile_18 : decode cX2_barsFile 18 = .ok (.if_icmp .le 7, 3) := dk_164 0 7 (dk_at dksX2_barsFile_0 18 rfl rfl)
theorem dX2_barsFile_21 : decode cX2_barsFile 21 = .ok (.iconst 1, 1) := dk_4 (dk_at dksX2_barsFile_0 21 rfl rfl)
theorem dX2_barsFile_22 : decode cX2_barsFile 22 = .ok (.goto 4, 3) := dk_167 0 4 (dk_at dksX2_barsFile_1 0 rfl rfl)
theorem dX2_barsFile_25 : decode cX2_barsFile 25 = .ok (.iconst 0, 1) := dk_3 (dk_at dksX2_barsFile_1 3 rfl rfl)
theorem dX2_barsFile_26 : decode cX2_barsFile 26 = .ok (.ireturn, 1) := dk_172 (dk_at dksX2_barsFile_1 4 rfl rfl)
abbrev cX2_barsBlocks : ByteArray := prog_2_method_5_code
def yX2_barsBlocks : MethodName := ⟨RX2, "barsBlocks", "(II)Z"⟩
def dkwX2_barsBlocks_1 : List UInt8 := [182, 0, 31, 153, 0, 7, 4, 167, 0, 4, 3, 172]
abbrev dktX2_barsBlocks_1 : List UInt8 := dkwX2_barsBlocks_1 ++ []
def dkwX2_barsBlocks_0 : List UInt8 := [42, 180, 0, 15, 2, 159, 0, 16, 42, 180, 0, 24, 27, 96, 42, 180, 0, 15, 163, 0, 11, 42, 28]
abbrev dktX2_barsBlocks_0 : List UInt8 := dkwX2_barsBlocks_0 ++ dktX2_barsBlocks_1
theorem dksX2_barsBlocks_0 : cX2_barsBlocks.data.toList.drop 0 = dktX2_barsBlocks_0 := by decide +kernel
theorem dksX2_barsBlocks_1 : cX2_barsBlocks.data.toList.drop 23 = dktX2_barsBlocks_1 := dk_seg dksX2_barsBlocks_0 23 rfl rfl
theorem dX2_barsBlocks_0 : decode cX2_barsBlocks 0 = .ok (.aload_n 0, 1) := dk_42 (dk_at dksX2_barsBlocks_0 0 rfl rfl)
theorem dX2_barsBlocks_1 : decode cX2_barsBlocks 1 = .ok (.getfield 15, 3) := dk_180 0 15 (dk_at dksX2_barsBlocks_0 1 rfl rfl)
theorem dX2_barsBlocks_4 : decode cX2_barsBlocks 4 = .ok (.iconst (-1), 1) := dk_2 (dk_at dksX2_barsBlocks_0 4 rfl rfl)
theorem dX2_barsBlocks_5 : decode cX2_barsBlocks 5 = .ok (.if_icmp .eq 16, 3) := dk_159 0 16 (dk_at dksX2_barsBlocks_0 5 rfl rfl)
theorem dX2_barsBlocks_8 : decode cX2_barsBlocks 8 = .ok (.aload_n 0, 1) := dk_42 (dk_at dksX2_barsBlocks_0 8 rfl rfl)
theorem dX2_barsBlocks_9 : decode cX2_barsBlocks 9 = .ok (.getfield 24, 3) := dk_180 0 24 (dk_at dksX2_barsBlocks_0 9 rfl rfl)
theorem dX2_barsBlocks_12 : decode cX2_barsBlocks 12 = .ok (.iload_n 1, 1) := dk_27 (dk_at dksX2_barsBlocks_0 12 rfl rfl)
theorem dX2_barsBlocks_13 : decode cX2_barsBlocks 13 = .ok (.iadd, 1) := dk_96 (dk_at dksX2_barsBlocks_0 13 rfl rfl)
theorem dX2_barsBlocks_14 : decode cX2_barsBlocks 14 = .ok (.aload_n 0, 1) := dk_42 (dk_at dksX2_barsBlocks_0 14 rfl rfl)
theorem dX2_barsBlocks_15 : decode cX2_barsBlocks 15 = .ok (.getfield 15, 3) := dk_180 0 15 (dk_at dksX2_barsBlocks_0 15 rfl rfl)
theorem dX2_barsBlocks_18 : decode cX2_barsBlocks 18 = .ok (.if_icmp .gt 11, 3) := dk_163 0 11 (dk_at dksX2_barsBlocks_0 18 rfl rfl)
theorem dX2_barsBlocks_21 : decode cX2_barsBlocks 21 = .ok (.aload_n 0, 1) := dk_42 (dk_at dksX2_barsBlocks_0 21 rfl rfl)
theorem dX2_barsBlocks_22 : decode cX2_barsBlocks 22 = .ok (.iload_n 2, 1) := dk_28 (dk_at dksX2_barsBlocks_0 22 rfl rfl)
theorem dX2_barsBlocks_23 : decode cX2_barsBlocks 23 = .ok (.invokevirtual 31, 3) := dk_182 0 31 (dk_at dksX2_barsBlocks_1 0 rfl rfl)
theorem dX2_barsBlocks_26 : decode cX2_barsBlocks 26 = .ok (.ifCond .eq 7, 3) := dk_153 0 7 (dk_at dksX2_barsBlocks_1 3 rfl rfl)
theorem dX2_barsBlocks_29 : decode cX2_barsBlocks 29 = .ok (.iconst 1, 1) := dk_4 (dk_at dksX2_barsBlocks_1 6 rfl rfl)
theorem dX2_barsBlocks_30 : decode cX2_barsBlocks 30 = .ok (.goto 4, 3) := dk_167 0 4 (dk_at dksX2_barsBlocks_1 7 rfl rfl)
theorem dX2_barsBlocks_33 : decode cX2_barsBlocks 33 = .ok (.iconst 0, 1) := dk_3 (dk_at dksX2_barsBlocks_1 10 rfl rfl)
theorem dX2_barsBlocks_34 : decode cX2_barsBlocks 34 = .ok (.ireturn, 1) := dk_172 (dk_at dksX2_barsBlocks_1 11 rfl rfl)
abbrev cX2_isGone : ByteArray := prog_2_method_4_code
def yX2_isGone : MethodName := ⟨RX2, "isGone", "(I)Z"⟩
def dkwX2_isGone_1 : List UInt8 := [172]
abbrev dktX2_isGone_1 : List UInt8 := dkwX2_isGone_1 ++ []
def dkwX2_isGone_0 : List UInt8 := [42, 180, 0, 21, 2, 159, 0, 18, 27, 42, 180, 0, 21, 100, 16, 48, 161, 0, 7, 4, 167, 0, 4, 3]
abbrev dktX2_isGone_0 : List UInt8 := dkwX2_isGone_0 ++ dktX2_isGone_1
theorem dksX2_isGone_0 : cX2_isGone.data.toList.drop 0 = dktX2_isGone_0 := by decide +kernel
theorem dksX2_isGone_1 : cX2_isGone.data.toList.drop 24 = dktX2_isGone_1 := dk_seg dksX2_isGone_0 24 rfl rfl
theorem dX2_isGone_0 : decode cX2_isGone 0 = .ok (.aload_n 0, 1) := dk_42 (dk_at dksX2_isGone_0 0 rfl rfl)
theorem dX2_isGone_1 : decode cX2_isGone 1 = .ok (.getfield 21, 3) := dk_180 0 21 (dk_at dksX2_isGone_0 1 rfl rfl)
theorem dX2_isGone_4 : decode cX2_isGone 4 = .ok (.iconst (-1), 1) := dk_2 (dk_at dksX2_isGone_0 4 rfl rfl)
theorem dX2_isGone_5 : decode cX2_isGone 5 = .ok (.if_icmp .eq 18, 3) := dk_159 0 18 (dk_at dksX2_isGone_0 5 rfl rfl)
theorem dX2_isGone_8 : decode cX2_isGone 8 = .ok (.iload_n 1, 1) := dk_27 (dk_at dksX2_isGone_0 8 rfl rfl)
theorem dX2_isGone_9 : decode cX2_isGone 9 = .ok (.aload_n 0, 1) := dk_42 (dk_at dksX2_isGone_0 9 rfl rfl)
theorem dX2_isGone_10 : decode cX2_isGone 10 = .ok (.getfield 21, 3) := dk_180 0 21 (dk_at dksX2_isGone_0 10 rfl rfl)
theorem dX2_isGone_13 : decode cX2_isGone 13 = .ok (.isub, 1) := dk_100 (dk_at dksX2_isGone_0 13 rfl rfl)
theorem dX2_isGone_14 : decode cX2_isGone 14 = .ok (.bipush 48, 2) := dk_16 48 (dk_at dksX2_isGone_0 14 rfl rfl)
theorem dX2_isGone_16 : decode cX2_isGone 16 = .ok (.if_icmp .lt 7, 3) := dk_161 0 7 (dk_at dksX2_isGone_0 16 rfl rfl)
theorem dX2_isGone_19 : decode cX2_isGone 19 = .ok (.iconst 1, 1) := dk_4 (dk_at dksX2_isGone_0 19 rfl rfl)
theorem dX2_isGone_20 : decode cX2_isGone 20 = .ok (.goto 4, 3) := dk_167 0 4 (dk_at dksX2_isGone_0 20 rfl rfl)
theorem dX2_isGone_23 : decode cX2_isGone 23 = .ok (.iconst 0, 1) := dk_3 (dk_at dksX2_isGone_0 23 rfl rfl)
theorem dX2_isGone_24 : decode cX2_isGone 24 = .ok (.ireturn, 1) := dk_172 (dk_at dksX2_isGone_1 0 rfl rfl)
theorem q44 : (Jvm.Cond.initialized "AllotmentLedger$Account") ∈ lw_all := lw_g (lw_at lw_m1 9 rfl) rfl
theorem q138 : (Jvm.Cond.instantiable "AllotmentLedger$Account" (7 : Nat)) ∈ lw_all := lw_g (lw_at lw_m1 103 rfl) rfl
theorem q140 : (Jvm.Cond.instanceMethod ({ cls := "AllotmentLedger$Account", name := "<init>", desc := "()V" } : Jvm.MethodName)) ∈ lw_all := lw_g (lw_at lw_m1 105 rfl) rfl
theorem q141 : (Jvm.Cond.code ({ cls := "AllotmentLedger$Account", name := "<init>", desc := "()V" } : Jvm.MethodName) prog_2_method_1_code (1 : Nat) (Option.none : Option Jvm.ClassFile.FieldType)) ∈ lw_all := lw_g (lw_at lw_m1 106 rfl) rfl
theorem q142 : (Jvm.Cond.methodLink "AllotmentLedger$Account" (3 : Nat) ({ cls := "java/lang/Object", name := "<init>", desc := "()V" } : Jvm.MethodName)) ∈ lw_all := lw_g (lw_at lw_m1 107 rfl) rfl
theorem q143 : (Jvm.Cond.fieldLink "AllotmentLedger$Account" (9 : Nat) "AllotmentLedger$Account" "soft" "I") ∈ lw_all := lw_g (lw_at lw_m1 108 rfl) rfl
theorem q145 : (Jvm.Cond.fieldLink "AllotmentLedger$Account" (15 : Nat) "AllotmentLedger$Account" "hard" "I") ∈ lw_all := lw_g (lw_at lw_m1 110 rfl) rfl
theorem q147 : (Jvm.Cond.fieldLink "AllotmentLedger$Account" (18 : Nat) "AllotmentLedger$Account" "fileLimit" "I") ∈ lw_all := lw_g (lw_at lw_m1 112 rfl) rfl
theorem q149 : (Jvm.Cond.fieldLink "AllotmentLedger$Account" (24 : Nat) "AllotmentLedger$Account" "blocks" "I") ∈ lw_all := lw_g (lw_at lw_m1 114 rfl) rfl
theorem q151 : (Jvm.Cond.fieldLink "AllotmentLedger$Account" (35 : Nat) "AllotmentLedger$Account" "files" "I") ∈ lw_all := lw_g (lw_at lw_m1 116 rfl) rfl
theorem q154 : (Jvm.Cond.fieldLink "AllotmentLedger$Account" (21 : Nat) "AllotmentLedger$Account" "since" "I") ∈ lw_all := lw_g (lw_at lw_m1 119 rfl) rfl
theorem q156 : (Jvm.Cond.lays "AllotmentLedger$Account" "AllotmentLedger$Account" "soft" "I") ∈ lw_all := lw_g (lw_at lw_m1 121 rfl) rfl
theorem q157 : (Jvm.Cond.soleField "AllotmentLedger$Account" "soft") ∈ lw_all := lw_g (lw_at lw_m1 122 rfl) rfl
theorem q158 : (Jvm.Cond.lays "AllotmentLedger$Account" "AllotmentLedger$Account" "hard" "I") ∈ lw_all := lw_g (lw_at lw_m1 123 rfl) rfl
theorem q159 : (Jvm.Cond.soleField "AllotmentLedger$Account" "hard") ∈ lw_all := lw_g (lw_at lw_m1 124 rfl) rfl
theorem q160 : (Jvm.Cond.lays "AllotmentLedger$Account" "AllotmentLedger$Account" "fileLimit" "I") ∈ lw_all := lw_g (lw_at lw_m1 125 rfl) rfl
theorem q161 : (Jvm.Cond.soleField "AllotmentLedger$Account" "fileLimit") ∈ lw_all := lw_g (lw_at lw_m1 126 rfl) rfl
theorem q162 : (Jvm.Cond.lays "AllotmentLedger$Account" "AllotmentLedger$Account" "blocks" "I") ∈ lw_all := lw_g (lw_at lw_m1 127 rfl) rfl
theorem q163 : (Jvm.Cond.soleField "AllotmentLedger$Account" "blocks") ∈ lw_all := lw_g (lw_at lw_m1 128 rfl) rfl
theorem q164 : (Jvm.Cond.lays "AllotmentLedger$Account" "AllotmentLedger$Account" "files" "I") ∈ lw_all := lw_g (lw_at lw_m1 129 rfl) rfl
theorem q165 : (Jvm.Cond.soleField "AllotmentLedger$Account" "files") ∈ lw_all := lw_g (lw_at lw_m1 130 rfl) rfl
theorem q166 : (Jvm.Cond.lays "AllotmentLedger$Account" "AllotmentLedger$Account" "counted" "I") ∈ lw_all := lw_g (lw_at lw_m1 131 rfl) rfl
theorem q167 : (Jvm.Cond.soleField "AllotmentLedger$Account" "counted") ∈ lw_all := lw_g (lw_at lw_m1 132 rfl) rfl
theorem q168 : (Jvm.Cond.lays "AllotmentLedger$Account" "AllotmentLedger$Account" "since" "I") ∈ lw_all := lw_g (lw_at lw_m1 133 rfl) rfl
theorem q169 : (Jvm.Cond.soleField "AllotmentLedger$Account" "since") ∈ lw_all := lw_g (lw_at lw_m1 134 rfl) rfl
theorem q170 : (Jvm.Cond.superclass "AllotmentLedger$Account" "java/lang/Object") ∈ lw_all := lw_g (lw_at lw_m1 135 rfl) rfl
theorem q227 : (Jvm.Cond.selects "AllotmentLedger$Account" ({ cls := "java/lang/Object", name := "getClass", desc := "()Ljava/lang/Class;" } : Jvm.MethodName) ({ cls := "java/lang/Object", name := "getClass", desc := "()Ljava/lang/Class;" } : Jvm.MethodName)) ∈ lw_all := lw_g (lw_at lw_m1 192 rfl) rfl
theorem q1057 : (Jvm.Cond.instanceMethod ({ cls := "AllotmentLedger$Account", name := "look", desc := "(I)V" } : Jvm.MethodName)) ∈ lw_all := lw_g (lw_at lw_m5 62 rfl) rfl
theorem q1058 : (Jvm.Cond.selects "AllotmentLedger$Account" ({ cls := "AllotmentLedger$Account", name := "look", desc := "(I)V" } : Jvm.MethodName) ({ cls := "AllotmentLedger$Account", name := "look", desc := "(I)V" } : Jvm.MethodName)) ∈ lw_all := lw_g (lw_at lw_m5 63 rfl) rfl
theorem q1059 : (Jvm.Cond.sameMethod "AllotmentLedger$Account" "AllotmentLedger$Account" "look" "(I)V") ∈ lw_all := lw_g (lw_at lw_m5 64 rfl) rfl
theorem q1061 : (Jvm.Cond.code ({ cls := "AllotmentLedger$Account", name := "look", desc := "(I)V" } : Jvm.MethodName) prog_2_method_3_code (2 : Nat) (Option.none : Option Jvm.ClassFile.FieldType)) ∈ lw_all := lw_g (lw_at lw_m5 66 rfl) rfl
theorem q1062 : (Jvm.Cond.methodLink "AllotmentLedger$Account" (27 : Nat) ({ cls := "AllotmentLedger$Account", name := "isOver", desc := "()Z" } : Jvm.MethodName)) ∈ lw_all := lw_g (lw_at lw_m5 67 rfl) rfl
theorem q1063 : (Jvm.Cond.instanceMethod ({ cls := "AllotmentLedger$Account", name := "isOver", desc := "()Z" } : Jvm.MethodName)) ∈ lw_all := lw_g (lw_at lw_m5 68 rfl) rfl
theorem q1064 : (Jvm.Cond.selects "AllotmentLedger$Account" ({ cls := "AllotmentLedger$Account", name := "isOver", desc := "()Z" } : Jvm.MethodName) ({ cls := "AllotmentLedger$Account", name := "isOver", desc := "()Z" } : Jvm.MethodName)) ∈ lw_all := lw_g (lw_at lw_m5 69 rfl) rfl
theorem q1065 : (Jvm.Cond.sameMethod "AllotmentLedger$Account" "AllotmentLedger$Account" "isOver" "()Z") ∈ lw_all := lw_g (lw_at lw_m5 70 rfl) rfl
theorem q1067 : (Jvm.Cond.code ({ cls := "AllotmentLedger$Account", name := "isOver", desc := "()Z" } : Jvm.MethodName) prog_2_method_2_code (1 : Nat) (Option.some Jvm.ClassFile.FieldType.boolean)) ∈ lw_all := lw_g (lw_at lw_m5 72 rfl) rfl
theorem q1070 : (Jvm.Cond.declares ({ cls := "AllotmentLedger$Account", name := "look", desc := "(I)V" } : Jvm.MethodName)) ∈ lw_tbl := lw_at lw_m5 75 rfl
theorem q1088 : (Jvm.Cond.instanceMethod ({ cls := "AllotmentLedger$Account", name := "barsFile", desc := "()Z" } : Jvm.MethodName)) ∈ lw_all := lw_g (lw_at lw_m5 93 rfl) rfl
theorem q1089 : (Jvm.Cond.selects "AllotmentLedger$Account" ({ cls := "AllotmentLedger$Account", name := "barsFile", desc := "()Z" } : Jvm.MethodName) ({ cls := "AllotmentLedger$Account", name := "barsFile", desc := "()Z" } : Jvm.MethodName)) ∈ lw_all := lw_g (lw_at lw_m5 94 rfl) rfl
theorem q1090 : (Jvm.Cond.sameMethod "AllotmentLedger$Account" "AllotmentLedger$Account" "barsFile" "()Z") ∈ lw_all := lw_g (lw_at lw_m5 95 rfl) rfl
theorem q1092 : (Jvm.Cond.code ({ cls := "AllotmentLedger$Account", name := "barsFile", desc := "()Z" } : Jvm.MethodName) prog_2_method_6_code (1 : Nat) (Option.some Jvm.ClassFile.FieldType.boolean)) ∈ lw_all := lw_g (lw_at lw_m5 97 rfl) rfl
theorem q1138 : (Jvm.Cond.instanceMethod ({ cls := "AllotmentLedger$Account", name := "barsBlocks", desc := "(II)Z" } : Jvm.MethodName)) ∈ lw_all := lw_g (lw_at lw_m5 143 rfl) rfl
theorem q1139 : (Jvm.Cond.selects "AllotmentLedger$Account" ({ cls := "AllotmentLedger$Account", name := "barsBlocks", desc := "(II)Z" } : Jvm.MethodName) ({ cls := "AllotmentLedger$Account", name := "barsBlocks", desc := "(II)Z" } : Jvm.MethodName)) ∈ lw_all := lw_g (lw_at lw_m5 144 rfl) rfl
theorem q1140 : (Jvm.Cond.sameMethod "AllotmentLedger$Account" "AllotmentLedger$Account" "barsBlocks" "(II)Z") ∈ lw_all := lw_g (lw_at lw_m5 145 rfl) rfl
theorem q1142 : (Jvm.Cond.code ({ cls := "AllotmentLedger$Account", name := "barsBlocks", desc := "(II)Z" } : Jvm.MethodName) prog_2_method_5_code (3 : Nat) (Option.some Jvm.ClassFile.FieldType.boolean)) ∈ lw_all := lw_g (lw_at lw_m5 147 rfl) rfl
theorem q1143 : (Jvm.Cond.methodLink "AllotmentLedger$Account" (31 : Nat) ({ cls := "AllotmentLedger$Account", name := "isGone", desc := "(I)Z" } : Jvm.MethodName)) ∈ lw_all := lw_g (lw_at lw_m5 148 rfl) rfl
theorem q1144 : (Jvm.Cond.instanceMethod ({ cls := "AllotmentLedger$Account", name := "isGone", desc := "(I)Z" } : Jvm.MethodName)) ∈ lw_all := lw_g (lw_at lw_m5 149 rfl) rfl
theorem q1145 : (Jvm.Cond.selects "AllotmentLedger$Account" ({ cls := "AllotmentLedger$Account", name := "isGone", desc := "(I)Z" } : Jvm.MethodName) ({ cls := "AllotmentLedger$Account", name := "isGone", desc := "(I)Z" } : Jvm.MethodName)) ∈ lw_all := lw_g (lw_at lw_m5 150 rfl) rfl
theorem q1146 : (Jvm.Cond.sameMethod "AllotmentLedger$Account" "AllotmentLedger$Account" "isGone" "(I)Z") ∈ lw_all := lw_g (lw_at lw_m5 151 rfl) rfl
theorem q1148 : (Jvm.Cond.code ({ cls := "AllotmentLedger$Account", name := "isGone", desc := "(I)Z" } : Jvm.MethodName) prog_2_method_4_code (2 : Nat) (Option.some Jvm.ClassFile.FieldType.boolean)) ∈ lw_all := lw_g (lw_at lw_m5 153 rfl) rfl
theorem q1561 : (Jvm.Cond.castable "AllotmentLedger$Account" "java/lang/Object") ∈ lw_tbl := lw_at lw_m7 86 rfl
theorem in_X2 : ∀ w ∈ wsX20, w ∈ lw_all := lw_in wsX20 [156, 158, 160, 162, 164, 166, 168] (by decide +kernel) (by decide +kernel)

/-! AllotmentLedger$Project -/
set_option maxRecDepth 100000
def RX3 : String := "AllotmentLedger$Project"
def TX3 : u_T := fun k => match k with
  | 0 => ("AllotmentLedger$Account", "soft", "I", false)
  | 1 => ("AllotmentLedger$Account", "hard", "I", false)
  | 2 => ("AllotmentLedger$Account", "fileLimit", "I", false)
  | 3 => ("AllotmentLedger$Account", "blocks", "I", false)
  | 4 => ("AllotmentLedger$Account", "files", "I", false)
  | 5 => ("AllotmentLedger$Account", "counted", "I", false)
  | 6 => ("AllotmentLedger$Account", "since", "I", false)
  | 7 => ("AllotmentLedger$Project", "number", "I", true)
  | _ => ("AllotmentLedger$Project", "path", "Ljava/lang/String;", false)
def tyX3 : Nat → FieldType := fun k => match k with
  | 0 => .int
  | 1 => .int
  | 2 => .int
  | 3 => .int
  | 4 => .int
  | 5 => .int
  | 6 => .int
  | 7 => .int
  | _ => .object "java/lang/String"
abbrev wsX30 : List Cond := u_ws RX3 TX3 9
theorem nmX3 : ∀ a, a < 9 → ∀ b, b < 9 → a ≠ b → (TX3 a).2.1 ≠ (TX3 b).2.1 := by decide +kernel
theorem tyX3_ok : ∀ k, k < 9 → parseFieldDescriptor (TX3 k).2.2.1 = some (tyX3 k) := by decide +kernel
abbrev cX3_init : ByteArray := prog_4_method_1_code
def yX3_init : MethodName := ⟨RX3, "<init>", "(ILjava/lang/String;)V"⟩
def dkwX3_init_0 : List UInt8 := [42, 183, 0, 1, 42, 27, 181, 0, 7, 42, 44, 181, 0, 13, 177]
abbrev dktX3_init_0 : List UInt8 := dkwX3_init_0 ++ []
theorem dksX3_init_0 : cX3_init.data.toList.drop 0 = dktX3_init_0 := by decide +kernel
theorem dX3_init_0 : decode cX3_init 0 = .ok (.aload_n 0, 1) := dk_42 (dk_at dksX3_init_0 0 rfl rfl)
theorem dX3_init_1 : decode cX3_init 1 = .ok (.invokespecial 1, 3) := dk_183 0 1 (dk_at dksX3_init_0 1 rfl rfl)
theorem dX3_init_4 : decode cX3_init 4 = .ok (.aload_n 0, 1) := dk_42 (dk_at dksX3_init_0 4 rfl rfl)
theorem dX3_init_5 : decode cX3_init 5 = .ok (.iload_n 1, 1) := dk_27 (dk_at dksX3_init_0 5 rfl rfl)
theorem dX3_init_6 : decode cX3_init 6 = .ok (.putfield 7, 3) := dk_181 0 7 (dk_at dksX3_init_0 6 rfl rfl)
theorem dX3_init_9 : decode cX3_init 9 = .ok (.aload_n 0, 1) := dk_42 (dk_at dksX3_init_0 9 rfl rfl)
theorem dX3_init_10 : decode cX3_init 10 = .ok (.aload_n 2, 1) := dk_44 (dk_at dksX3_init_0 10 rfl rfl)
theorem dX3_init_11 : decode cX3_init 11 = .ok (.putfield 13, 3) := dk_181 0 13 (dk_at dksX3_init_0 11 rfl rfl)
theorem dX3_init_14 : decode cX3_init 14 = .ok (.return_, 1) := dk_177 (dk_at dksX3_init_0 14 rfl rfl)
abbrev cX3_isWithin : ByteArray := prog_4_method_2_code
def yX3_isWithin : MethodName := ⟨RX3, "isWithin", "(LAllotmentLedger$Project;)Z"⟩
def dkwX3_isWithin_0 : List UInt8 := [42, 180, 0, 13, 43, 180, 0, 13, 182, 0, 17, 172]
abbrev dktX3_isWithin_0 : List UInt8 := dkwX3_isWithin_0 ++ []
theorem dksX3_isWithin_0 : cX3_isWithin.data.toList.drop 0 = dktX3_isWithin_0 := by decide +kernel
theorem dX3_isWithin_0 : decode cX3_isWithin 0 = .ok (.aload_n 0, 1) := dk_42 (dk_at dksX3_isWithin_0 0 rfl rfl)
theorem dX3_isWithin_1 : decode cX3_isWithin 1 = .ok (.getfield 13, 3) := dk_180 0 13 (dk_at dksX3_isWithin_0 1 rfl rfl)
theorem dX3_isWithin_4 : decode cX3_isWithin 4 = .ok (.aload_n 1, 1) := dk_43 (dk_at dksX3_isWithin_0 4 rfl rfl)
theorem dX3_isWithin_5 : decode cX3_isWithin 5 = .ok (.getfield 13, 3) := dk_180 0 13 (dk_at dksX3_isWithin_0 5 rfl rfl)
theorem dX3_isWithin_8 : decode cX3_isWithin 8 = .ok (.invokevirtual 17, 3) := dk_182 0 17 (dk_at dksX3_isWithin_0 8 rfl rfl)
theorem dX3_isWithin_11 : decode cX3_isWithin 11 = .ok (.ireturn, 1) := dk_172 (dk_at dksX3_isWithin_0 11 rfl rfl)
abbrev cX3_moved : ByteArray := prog_4_method_3_code
def yX3_moved : MethodName := ⟨RX3, "moved", "(Ljava/lang/String;I)Ljava/lang/String;"⟩
def dkwX3_moved_1 : List UInt8 := [182, 0, 32, 87, 45, 182, 0, 36, 176]
abbrev dktX3_moved_1 : List UInt8 := dkwX3_moved_1 ++ []
def dkwX3_moved_0 : List UInt8 := [187, 0, 23, 89, 42, 180, 0, 13, 183, 0, 25, 78, 45, 3, 28, 182, 0, 28, 87, 45, 3, 43]
abbrev dktX3_moved_0 : List UInt8 := dkwX3_moved_0 ++ dktX3_moved_1
theorem dksX3_moved_0 : cX3_moved.data.toList.drop 0 = dktX3_moved_0 := by decide +kernel
theorem dksX3_moved_1 : cX3_moved.data.toList.drop 22 = dktX3_moved_1 := dk_seg dksX3_moved_0 22 rfl rfl
theorem dX3_moved_0 : decode cX3_moved 0 = .ok (.new 23, 3) := dk_187 0 23 (dk_at dksX3_moved_0 0 rfl rfl)
theorem dX3_moved_3 : decode cX3_moved 3 = .ok (.dup, 1) := dk_89 (dk_at dksX3_moved_0 3 rfl rfl)
theorem dX3_moved_4 : decode cX3_moved 4 = .ok (.aload_n 0, 1) := dk_42 (dk_at dksX3_moved_0 4 rfl rfl)
theorem dX3_moved_5 : decode cX3_moved 5 = .ok (.getfield 13, 3) := dk_180 0 13 (dk_at dksX3_moved_0 5 rfl rfl)
theorem dX3_moved_8 : decode cX3_moved 8 = .ok (.invokespecial 25, 3) := dk_183 0 25 (dk_at dksX3_moved_0 8 rfl rfl)
theorem dX3_moved_11 : decode cX3_moved 11 = .ok (.astore_n 3, 1) := dk_78 (dk_at dksX3_moved_0 11 rfl rfl)
theorem dX3_moved_12 : decode cX3_moved 12 = .ok (.aload_n 3, 1) := dk_45 (dk_at dksX3_moved_0 12 rfl rfl)
theorem dX3_moved_13 : decode cX3_moved 13 = .ok (.iconst 0, 1) := dk_3 (dk_at dksX3_moved_0 13 rfl rfl)
theorem dX3_moved_14 : decode cX3_moved 14 = .ok (.iload_n 2, 1) := dk_28 (dk_at dksX3_moved_0 14 rfl rfl)
theorem dX3_moved_15 : decode cX3_moved 15 = .ok (.invokevirtual 28, 3) := dk_182 0 28 (dk_at dksX3_moved_0 15 rfl rfl)
theorem dX3_moved_18 : decode cX3_moved 18 = .ok (.pop, 1) := dk_87 (dk_at dksX3_moved_0 18 rfl rfl)
theorem dX3_moved_19 : decode cX3_moved 19 = .ok (.aload_n 3, 1) := dk_45 (dk_at dksX3_moved_0 19 rfl rfl)
theorem dX3_moved_20 : decode cX3_moved 20 = .ok (.iconst 0, 1) := dk_3 (dk_at dksX3_moved_0 20 rfl rfl)
theorem dX3_moved_21 : decode cX3_moved 21 = .ok (.aload_n 1, 1) := dk_43 (dk_at dksX3_moved_0 21 rfl rfl)
theorem dX3_moved_22 : decode cX3_moved 22 = .ok (.invokevirtual 32, 3) := dk_182 0 32 (dk_at dksX3_moved_1 0 rfl rfl)
theorem dX3_moved_25 : decode cX3_moved 25 = .ok (.pop, 1) := dk_87 (dk_at dksX3_moved_1 3 rfl rfl)
theorem dX3_moved_26 : decode cX3_moved 26 = .ok (.aload_n 3, 1) := dk_45 (dk_at dksX3_moved_1 4 rfl rfl)
theorem dX3_moved_27 : decode cX3_moved 27 = .ok (.invokevirtual 36, 3) := dk_182 0 36 (dk_at dksX3_moved_1 5 rfl rfl)
theorem dX3_moved_30 : decode cX3_moved 30 = .ok (.areturn, 1) := dk_176 (dk_at dksX3_moved_1 8 rfl rfl)
theorem q45 : (Jvm.Cond.initialized "AllotmentLedger$Project") ∈ lw_all := lw_g (lw_at lw_m1 10 rfl) rfl
theorem q172 : (Jvm.Cond.instantiable "AllotmentLedger$Project" (9 : Nat)) ∈ lw_all := lw_g (lw_at lw_m1 137 rfl) rfl
theorem q175 : (Jvm.Cond.instanceMethod ({ cls := "AllotmentLedger$Project", name := "<init>", desc := "(ILjava/lang/String;)V" } : Jvm.MethodName)) ∈ lw_all := lw_g (lw_at lw_m1 140 rfl) rfl
theorem q176 : (Jvm.Cond.code ({ cls := "AllotmentLedger$Project", name := "<init>", desc := "(ILjava/lang/String;)V" } : Jvm.MethodName) prog_4_method_1_code (3 : Nat) (Option.none : Option Jvm.ClassFile.FieldType)) ∈ lw_all := lw_g (lw_at lw_m1 141 rfl) rfl
theorem q177 : (Jvm.Cond.methodLinkNest "AllotmentLedger$Project" (1 : Nat) ({ cls := "AllotmentLedger$Account", name := "<init>", desc := "()V" } : Jvm.MethodName) "AllotmentLedger") ∈ lw_tbl := lw_at lw_m1 142 rfl
theorem q178 : (Jvm.Cond.fieldLink "AllotmentLedger$Project" (7 : Nat) "AllotmentLedger$Project" "number" "I") ∈ lw_all := lw_g (lw_at lw_m1 143 rfl) rfl
theorem q180 : (Jvm.Cond.fieldLink "AllotmentLedger$Project" (13 : Nat) "AllotmentLedger$Project" "path" "Ljava/lang/String;") ∈ lw_all := lw_g (lw_at lw_m1 145 rfl) rfl
theorem q182 : (Jvm.Cond.laysFinal "AllotmentLedger$Project" "AllotmentLedger$Project" "number" "I") ∈ lw_all := lw_g (lw_at lw_m1 147 rfl) rfl
theorem q183 : (Jvm.Cond.soleField "AllotmentLedger$Project" "number") ∈ lw_all := lw_g (lw_at lw_m1 148 rfl) rfl
theorem q184 : (Jvm.Cond.lays "AllotmentLedger$Project" "AllotmentLedger$Project" "path" "Ljava/lang/String;") ∈ lw_all := lw_g (lw_at lw_m1 149 rfl) rfl
theorem q185 : (Jvm.Cond.soleField "AllotmentLedger$Project" "path") ∈ lw_all := lw_g (lw_at lw_m1 150 rfl) rfl
theorem q186 : (Jvm.Cond.lays "AllotmentLedger$Project" "AllotmentLedger$Account" "soft" "I") ∈ lw_all := lw_g (lw_at lw_m1 151 rfl) rfl
theorem q187 : (Jvm.Cond.lays "AllotmentLedger$Project" "AllotmentLedger$Account" "hard" "I") ∈ lw_all := lw_g (lw_at lw_m1 152 rfl) rfl
theorem q188 : (Jvm.Cond.lays "AllotmentLedger$Project" "AllotmentLedger$Account" "fileLimit" "I") ∈ lw_all := lw_g (lw_at lw_m1 153 rfl) rfl
theorem q189 : (Jvm.Cond.lays "AllotmentLedger$Project" "AllotmentLedger$Account" "blocks" "I") ∈ lw_all := lw_g (lw_at lw_m1 154 rfl) rfl
theorem q190 : (Jvm.Cond.lays "AllotmentLedger$Project" "AllotmentLedger$Account" "files" "I") ∈ lw_all := lw_g (lw_at lw_m1 155 rfl) rfl
theorem q191 : (Jvm.Cond.lays "AllotmentLedger$Project" "AllotmentLedger$Account" "counted" "I") ∈ lw_all := lw_g (lw_at lw_m1 156 rfl) rfl
theorem q192 : (Jvm.Cond.lays "AllotmentLedger$Project" "AllotmentLedger$Account" "since" "I") ∈ lw_all := lw_g (lw_at lw_m1 157 rfl) rfl
theorem q193 : (Jvm.Cond.superclass "AllotmentLedger$Project" "AllotmentLedger$Account") ∈ lw_all := lw_g (lw_at lw_m1 158 rfl) rfl
theorem q229 : (Jvm.Cond.selects "AllotmentLedger$Project" ({ cls := "java/lang/Object", name := "getClass", desc := "()Ljava/lang/Class;" } : Jvm.MethodName) ({ cls := "java/lang/Object", name := "getClass", desc := "()Ljava/lang/Class;" } : Jvm.MethodName)) ∈ lw_all := lw_g (lw_at lw_m1 194 rfl) rfl
theorem q984 : (Jvm.Cond.instanceMethod ({ cls := "AllotmentLedger$Project", name := "isWithin", desc := "(LAllotmentLedger$Project;)Z" } : Jvm.MethodName)) ∈ lw_all := lw_g (lw_at lw_m4 229 rfl) rfl
theorem q985 : (Jvm.Cond.selects "AllotmentLedger$Project" ({ cls := "AllotmentLedger$Project", name := "isWithin", desc := "(LAllotmentLedger$Project;)Z" } : Jvm.MethodName) ({ cls := "AllotmentLedger$Project", name := "isWithin", desc := "(LAllotmentLedger$Project;)Z" } : Jvm.MethodName)) ∈ lw_all := lw_g (lw_at lw_m4 230 rfl) rfl
theorem q986 : (Jvm.Cond.code ({ cls := "AllotmentLedger$Project", name := "isWithin", desc := "(LAllotmentLedger$Project;)Z" } : Jvm.MethodName) prog_4_method_2_code (2 : Nat) (Option.some Jvm.ClassFile.FieldType.boolean)) ∈ lw_all := lw_g (lw_at lw_m4 231 rfl) rfl
theorem q987 : (Jvm.Cond.methodLink "AllotmentLedger$Project" (17 : Nat) ({ cls := "java/lang/String", name := "startsWith", desc := "(Ljava/lang/String;)Z" } : Jvm.MethodName)) ∈ lw_all := lw_g (lw_at lw_m4 232 rfl) rfl
theorem q1001 : (Jvm.Cond.instanceMethod ({ cls := "AllotmentLedger$Project", name := "moved", desc := "(Ljava/lang/String;I)Ljava/lang/String;" } : Jvm.MethodName)) ∈ lw_all := lw_g (lw_at lw_m5 6 rfl) rfl
theorem q1002 : (Jvm.Cond.selects "AllotmentLedger$Project" ({ cls := "AllotmentLedger$Project", name := "moved", desc := "(Ljava/lang/String;I)Ljava/lang/String;" } : Jvm.MethodName) ({ cls := "AllotmentLedger$Project", name := "moved", desc := "(Ljava/lang/String;I)Ljava/lang/String;" } : Jvm.MethodName)) ∈ lw_all := lw_g (lw_at lw_m5 7 rfl) rfl
theorem q1003 : (Jvm.Cond.code ({ cls := "AllotmentLedger$Project", name := "moved", desc := "(Ljava/lang/String;I)Ljava/lang/String;" } : Jvm.MethodName) prog_4_method_3_code (4 : Nat) (Option.some (Jvm.ClassFile.FieldType.object "java/lang/String"))) ∈ lw_all := lw_g (lw_at lw_m5 8 rfl) rfl
theorem q1004 : (Jvm.Cond.classLink "AllotmentLedger$Project" (23 : Nat) "java/lang/StringBuilder") ∈ lw_all := lw_g (lw_at lw_m5 9 rfl) rfl
theorem q1005 : (Jvm.Cond.methodLink "AllotmentLedger$Project" (25 : Nat) ({ cls := "java/lang/StringBuilder", name := "<init>", desc := "(Ljava/lang/String;)V" } : Jvm.MethodName)) ∈ lw_all := lw_g (lw_at lw_m5 10 rfl) rfl
theorem q1016 : (Jvm.Cond.methodLink "AllotmentLedger$Project" (28 : Nat) ({ cls := "java/lang/StringBuilder", name := "delete", desc := "(II)Ljava/lang/StringBuilder;" } : Jvm.MethodName)) ∈ lw_all := lw_g (lw_at lw_m5 21 rfl) rfl
theorem q1023 : (Jvm.Cond.methodLink "AllotmentLedger$Project" (32 : Nat) ({ cls := "java/lang/StringBuilder", name := "insert", desc := "(ILjava/lang/String;)Ljava/lang/StringBuilder;" } : Jvm.MethodName)) ∈ lw_all := lw_g (lw_at lw_m5 28 rfl) rfl
theorem q1032 : (Jvm.Cond.methodLink "AllotmentLedger$Project" (36 : Nat) ({ cls := "java/lang/StringBuilder", name := "toString", desc := "()Ljava/lang/String;" } : Jvm.MethodName)) ∈ lw_all := lw_g (lw_at lw_m5 37 rfl) rfl
theorem q1060 : (Jvm.Cond.selects "AllotmentLedger$Project" ({ cls := "AllotmentLedger$Account", name := "look", desc := "(I)V" } : Jvm.MethodName) ({ cls := "AllotmentLedger$Account", name := "look", desc := "(I)V" } : Jvm.MethodName)) ∈ lw_all := lw_g (lw_at lw_m5 65 rfl) rfl
theorem q1066 : (Jvm.Cond.selects "AllotmentLedger$Project" ({ cls := "AllotmentLedger$Account", name := "isOver", desc := "()Z" } : Jvm.MethodName) ({ cls := "AllotmentLedger$Account", name := "isOver", desc := "()Z" } : Jvm.MethodName)) ∈ lw_all := lw_g (lw_at lw_m5 71 rfl) rfl
theorem q1069 : (Jvm.Cond.sameMethod "AllotmentLedger$Project" "AllotmentLedger$Account" "look" "(I)V") ∈ lw_all := lw_g (lw_at lw_m5 74 rfl) rfl
theorem q1071 : (Jvm.Cond.selects "AllotmentLedger$Project" ({ cls := "AllotmentLedger$Project", name := "look", desc := "(I)V" } : Jvm.MethodName) ({ cls := "AllotmentLedger$Account", name := "look", desc := "(I)V" } : Jvm.MethodName)) ∈ lw_all := lw_g (lw_at lw_m5 76 rfl) rfl
theorem q1091 : (Jvm.Cond.selects "AllotmentLedger$Project" ({ cls := "AllotmentLedger$Account", name := "barsFile", desc := "()Z" } : Jvm.MethodName) ({ cls := "AllotmentLedger$Account", name := "barsFile", desc := "()Z" } : Jvm.MethodName)) ∈ lw_all := lw_g (lw_at lw_m5 96 rfl) rfl
theorem q1141 : (Jvm.Cond.selects "AllotmentLedger$Project" ({ cls := "AllotmentLedger$Account", name := "barsBlocks", desc := "(II)Z" } : Jvm.MethodName) ({ cls := "AllotmentLedger$Account", name := "barsBlocks", desc := "(II)Z" } : Jvm.MethodName)) ∈ lw_all := lw_g (lw_at lw_m5 146 rfl) rfl
theorem q1147 : (Jvm.Cond.selects "AllotmentLedger$Project" ({ cls := "AllotmentLedger$Account", name := "isGone", desc := "(I)Z" } : Jvm.MethodName) ({ cls := "AllotmentLedger$Account", name := "isGone", desc := "(I)Z" } : Jvm.MethodName)) ∈ lw_all := lw_g (lw_at lw_m5 152 rfl) rfl
theorem q1560 : (Jvm.Cond.castable "AllotmentLedger$Project" "AllotmentLedger$Account") ∈ lw_tbl := lw_at lw_m7 85 rfl
theorem q1565 : (Jvm.Cond.castable "AllotmentLedger$Project" "java/lang/Object") ∈ lw_tbl := lw_at lw_m7 90 rfl
theorem in_X3 : ∀ w ∈ wsX30, w ∈ lw_all := lw_in wsX30 [186, 187, 188, 189, 190, 191, 192, 182, 184] (by decide +kernel) (by decide +kernel)

/-! AllotmentLedger$Entry -/
set_option maxRecDepth 100000
def RX5 : String := "AllotmentLedger$Entry"
def TX5 : u_T := fun k => match k with
  | 0 => ("AllotmentLedger$Entry", "number", "I", true)
  | 1 => ("AllotmentLedger$Entry", "owner", "I", true)
  | 2 => ("AllotmentLedger$Entry", "project", "LAllotmentLedger$Project;", false)
  | 3 => ("AllotmentLedger$Entry", "blocks", "I", false)
  | 4 => ("AllotmentLedger$Entry", "held", "I", false)
  | _ => ("AllotmentLedger$Entry", "isDeleted", "Z", false)
def tyX5 : Nat → FieldType := fun k => match k with
  | 0 => .int
  | 1 => .int
  | 2 => .object "AllotmentLedger$Project"
  | 3 => .int
  | 4 => .int
  | _ => .boolean
abbrev wsX50 : List Cond := u_ws RX5 TX5 6
theorem nmX5 : ∀ a, a < 6 → ∀ b, b < 6 → a ≠ b → (TX5 a).2.1 ≠ (TX5 b).2.1 := by decide +kernel
theorem tyX5_ok : ∀ k, k < 6 → parseFieldDescriptor (TX5 k).2.2.1 = some (tyX5 k) := by decide +kernel
abbrev cX5_uses : ByteArray := prog_3_method_2_code
def yX5_uses : MethodName := ⟨RX5, "uses", "()I"⟩
def dkwX5_uses_0 : List UInt8 := [42, 180, 0, 20, 42, 180, 0, 23, 96, 172]
abbrev dktX5_uses_0 : List UInt8 := dkwX5_uses_0 ++ []
theorem dksX5_uses_0 : cX5_uses.data.toList.drop 0 = dktX5_uses_0 := by decide +kernel
theorem dX5_uses_0 : decode cX5_uses 0 = .ok (.aload_n 0, 1) := dk_42 (dk_at dksX5_uses_0 0 rfl rfl)
theorem dX5_uses_1 : decode cX5_uses 1 = .ok (.getfield 20, 3) := dk_180 0 20 (dk_at dksX5_uses_0 1 rfl rfl)
theorem dX5_uses_4 : decode cX5_uses 4 = .ok (.aload_n 0, 1) := dk_42 (dk_at dksX5_uses_0 4 rfl rfl)
theorem dX5_uses_5 : decode cX5_uses 5 = .ok (.getfield 23, 3) := dk_180 0 23 (dk_at dksX5_uses_0 5 rfl rfl)
theorem dX5_uses_8 : decode cX5_uses 8 = .ok (.iadd, 1) := dk_96 (dk_at dksX5_uses_0 8 rfl rfl)
theorem dX5_uses_9 : decode cX5_uses 9 = .ok (.ireturn, 1) := dk_172 (dk_at dksX5_uses_0 9 rfl rfl)
abbrev cX5_init : ByteArray := prog_3_method_1_code
def yX5_init : MethodName := ⟨RX5, "<init>", "(IILAllotmentLedger$Project;)V"⟩
def dkwX5_init_0 : List UInt8 := [42, 183, 0, 1, 42, 27, 181, 0, 7, 42, 28, 181, 0, 13, 42, 45, 181, 0, 16, 177]
abbrev dktX5_init_0 : List UInt8 := dkwX5_init_0 ++ []
theorem dksX5_init_0 : cX5_init.data.toList.drop 0 = dktX5_init_0 := by decide +kernel
theorem dX5_init_0 : decode cX5_init 0 = .ok (.aload_n 0, 1) := dk_42 (dk_at dksX5_init_0 0 rfl rfl)
theorem dX5_init_1 : decode cX5_init 1 = .ok (.invokespecial 1, 3) := dk_183 0 1 (dk_at dksX5_init_0 1 rfl rfl)
theorem dX5_init_4 : decode cX5_init 4 = .ok (.aload_n 0, 1) := dk_42 (dk_at dksX5_init_0 4 rfl rfl)
theorem dX5_init_5 : decode cX5_init 5 = .ok (.iload_n 1, 1) := dk_27 (dk_at dksX5_init_0 5 rfl rfl)
theorem dX5_init_6 : decode cX5_init 6 = .ok (.putfield 7, 3) := dk_181 0 7 (dk_at dksX5_init_0 6 rfl rfl)
theorem dX5_init_9 : decode cX5_init 9 = .ok (.aload_n 0, 1) := dk_42 (dk_at dksX5_init_0 9 rfl rfl)
theorem dX5_init_10 : decode cX5_init 10 = .ok (.iload_n 2, 1) := dk_28 (dk_at dksX5_init_0 10 rfl rfl)
theorem dX5_init_11 : decode cX5_init 11 = .ok (.putfield 13, 3) := dk_181 0 13 (dk_at dksX5_init_0 11 rfl rfl)
theorem dX5_init_14 : decode cX5_init 14 = .ok (.aload_n 0, 1) := dk_42 (dk_at dksX5_init_0 14 rfl rfl)
theorem dX5_init_15 : decode cX5_init 15 = .ok (.aload_n 3, 1) := dk_45 (dk_at dksX5_init_0 15 rfl rfl)
theorem dX5_init_16 : decode cX5_init 16 = .ok (.putfield 16, 3) := dk_181 0 16 (dk_at dksX5_init_0 16 rfl rfl)
theorem dX5_init_19 : decode cX5_init 19 = .ok (.return_, 1) := dk_177 (dk_at dksX5_init_0 19 rfl rfl)
theorem q67 : (Jvm.Cond.initialized "AllotmentLedger$Entry") ∈ lw_all := lw_g (lw_at lw_m1 32 rfl) rfl
theorem q228 : (Jvm.Cond.selects "AllotmentLedger$Entry" ({ cls := "java/lang/Object", name := "getClass", desc := "()Ljava/lang/Class;" } : Jvm.MethodName) ({ cls := "java/lang/Object", name := "getClass", desc := "()Ljava/lang/Class;" } : Jvm.MethodName)) ∈ lw_all := lw_g (lw_at lw_m1 193 rfl) rfl
theorem q1048 : (Jvm.Cond.instanceMethod ({ cls := "AllotmentLedger$Entry", name := "uses", desc := "()I" } : Jvm.MethodName)) ∈ lw_all := lw_g (lw_at lw_m5 53 rfl) rfl
theorem q1049 : (Jvm.Cond.selects "AllotmentLedger$Entry" ({ cls := "AllotmentLedger$Entry", name := "uses", desc := "()I" } : Jvm.MethodName) ({ cls := "AllotmentLedger$Entry", name := "uses", desc := "()I" } : Jvm.MethodName)) ∈ lw_all := lw_g (lw_at lw_m5 54 rfl) rfl
theorem q1050 : (Jvm.Cond.code ({ cls := "AllotmentLedger$Entry", name := "uses", desc := "()I" } : Jvm.MethodName) prog_3_method_2_code (1 : Nat) (Option.some Jvm.ClassFile.FieldType.int)) ∈ lw_all := lw_g (lw_at lw_m5 55 rfl) rfl
theorem q1093 : (Jvm.Cond.instantiable "AllotmentLedger$Entry" (6 : Nat)) ∈ lw_all := lw_g (lw_at lw_m5 98 rfl) rfl
theorem q1095 : (Jvm.Cond.instanceMethod ({ cls := "AllotmentLedger$Entry", name := "<init>", desc := "(IILAllotmentLedger$Project;)V" } : Jvm.MethodName)) ∈ lw_all := lw_g (lw_at lw_m5 100 rfl) rfl
theorem q1096 : (Jvm.Cond.code ({ cls := "AllotmentLedger$Entry", name := "<init>", desc := "(IILAllotmentLedger$Project;)V" } : Jvm.MethodName) prog_3_method_1_code (4 : Nat) (Option.none : Option Jvm.ClassFile.FieldType)) ∈ lw_all := lw_g (lw_at lw_m5 101 rfl) rfl
theorem q1097 : (Jvm.Cond.methodLink "AllotmentLedger$Entry" (1 : Nat) ({ cls := "java/lang/Object", name := "<init>", desc := "()V" } : Jvm.MethodName)) ∈ lw_all := lw_g (lw_at lw_m5 102 rfl) rfl
theorem q1098 : (Jvm.Cond.fieldLink "AllotmentLedger$Entry" (7 : Nat) "AllotmentLedger$Entry" "number" "I") ∈ lw_all := lw_g (lw_at lw_m5 103 rfl) rfl
theorem q1100 : (Jvm.Cond.fieldLink "AllotmentLedger$Entry" (13 : Nat) "AllotmentLedger$Entry" "owner" "I") ∈ lw_all := lw_g (lw_at lw_m5 105 rfl) rfl
theorem q1102 : (Jvm.Cond.fieldLink "AllotmentLedger$Entry" (16 : Nat) "AllotmentLedger$Entry" "project" "LAllotmentLedger$Project;") ∈ lw_all := lw_g (lw_at lw_m5 107 rfl) rfl
theorem q1104 : (Jvm.Cond.fieldLink "AllotmentLedger$Entry" (20 : Nat) "AllotmentLedger$Entry" "blocks" "I") ∈ lw_all := lw_g (lw_at lw_m5 109 rfl) rfl
theorem q1106 : (Jvm.Cond.fieldLink "AllotmentLedger$Entry" (23 : Nat) "AllotmentLedger$Entry" "held" "I") ∈ lw_all := lw_g (lw_at lw_m5 111 rfl) rfl
theorem q1109 : (Jvm.Cond.laysFinal "AllotmentLedger$Entry" "AllotmentLedger$Entry" "number" "I") ∈ lw_all := lw_g (lw_at lw_m5 114 rfl) rfl
theorem q1110 : (Jvm.Cond.soleField "AllotmentLedger$Entry" "number") ∈ lw_all := lw_g (lw_at lw_m5 115 rfl) rfl
theorem q1111 : (Jvm.Cond.laysFinal "AllotmentLedger$Entry" "AllotmentLedger$Entry" "owner" "I") ∈ lw_all := lw_g (lw_at lw_m5 116 rfl) rfl
theorem q1112 : (Jvm.Cond.soleField "AllotmentLedger$Entry" "owner") ∈ lw_all := lw_g (lw_at lw_m5 117 rfl) rfl
theorem q1113 : (Jvm.Cond.lays "AllotmentLedger$Entry" "AllotmentLedger$Entry" "project" "LAllotmentLedger$Project;") ∈ lw_all := lw_g (lw_at lw_m5 118 rfl) rfl
theorem q1114 : (Jvm.Cond.soleField "AllotmentLedger$Entry" "project") ∈ lw_all := lw_g (lw_at lw_m5 119 rfl) rfl
theorem q1115 : (Jvm.Cond.lays "AllotmentLedger$Entry" "AllotmentLedger$Entry" "blocks" "I") ∈ lw_all := lw_g (lw_at lw_m5 120 rfl) rfl
theorem q1116 : (Jvm.Cond.soleField "AllotmentLedger$Entry" "blocks") ∈ lw_all := lw_g (lw_at lw_m5 121 rfl) rfl
theorem q1117 : (Jvm.Cond.lays "AllotmentLedger$Entry" "AllotmentLedger$Entry" "held" "I") ∈ lw_all := lw_g (lw_at lw_m5 122 rfl) rfl
theorem q1118 : (Jvm.Cond.soleField "AllotmentLedger$Entry" "held") ∈ lw_all := lw_g (lw_at lw_m5 123 rfl) rfl
theorem q1119 : (Jvm.Cond.lays "AllotmentLedger$Entry" "AllotmentLedger$Entry" "isDeleted" "Z") ∈ lw_all := lw_g (lw_at lw_m5 124 rfl) rfl
theorem q1120 : (Jvm.Cond.soleField "AllotmentLedger$Entry" "isDeleted") ∈ lw_all := lw_g (lw_at lw_m5 125 rfl) rfl
theorem q1121 : (Jvm.Cond.superclass "AllotmentLedger$Entry" "java/lang/Object") ∈ lw_all := lw_g (lw_at lw_m5 126 rfl) rfl
theorem q1574 : (Jvm.Cond.castable "AllotmentLedger$Entry" "java/lang/Object") ∈ lw_tbl := lw_at lw_m7 99 rfl
theorem in_X5 : ∀ w ∈ wsX50, w ∈ lw_all := lw_in wsX50 [1109, 1111, 1113, 1115, 1117, 1119] (by decide +kernel) (by decide +kernel)

/-! AllotmentLedger$Reservation -/
set_option maxRecDepth 100000
def RX6 : String := "AllotmentLedger$Reservation"
def TX6 : u_T := fun k => match k with
  | 0 => ("AllotmentLedger$Reservation", "entry", "LAllotmentLedger$Entry;", true)
  | 1 => ("AllotmentLedger$Reservation", "blocks", "I", true)
  | _ => ("AllotmentLedger$Reservation", "isClosed", "Z", false)
def tyX6 : Nat → FieldType := fun k => match k with
  | 0 => .object "AllotmentLedger$Entry"
  | 1 => .int
  | _ => .boolean
abbrev wsX60 : List Cond := u_ws RX6 TX6 3
theorem nmX6 : ∀ a, a < 3 → ∀ b, b < 3 → a ≠ b → (TX6 a).2.1 ≠ (TX6 b).2.1 := by decide +kernel
theorem tyX6_ok : ∀ k, k < 3 → parseFieldDescriptor (TX6 k).2.2.1 = some (tyX6 k) := by decide +kernel
abbrev cX6_init : ByteArray := prog_5_method_1_code
def yX6_init : MethodName := ⟨RX6, "<init>", "(LAllotmentLedger$Entry;I)V"⟩
def dkwX6_init_0 : List UInt8 := [42, 183, 0, 1, 42, 43, 181, 0, 7, 42, 28, 181, 0, 13, 177]
abbrev dktX6_init_0 : List UInt8 := dkwX6_init_0 ++ []
theorem dksX6_init_0 : cX6_init.data.toList.drop 0 = dktX6_init_0 := by decide +kernel
theorem dX6_init_0 : decode cX6_init 0 = .ok (.aload_n 0, 1) := dk_42 (dk_at dksX6_init_0 0 rfl rfl)
theorem dX6_init_1 : decode cX6_init 1 = .ok (.invokespecial 1, 3) := dk_183 0 1 (dk_at dksX6_init_0 1 rfl rfl)
theorem dX6_init_4 : decode cX6_init 4 = .ok (.aload_n 0, 1) := dk_42 (dk_at dksX6_init_0 4 rfl rfl)
theorem dX6_init_5 : decode cX6_init 5 = .ok (.aload_n 1, 1) := dk_43 (dk_at dksX6_init_0 5 rfl rfl)
theorem dX6_init_6 : decode cX6_init 6 = .ok (.putfield 7, 3) := dk_181 0 7 (dk_at dksX6_init_0 6 rfl rfl)
theorem dX6_init_9 : decode cX6_init 9 = .ok (.aload_n 0, 1) := dk_42 (dk_at dksX6_init_0 9 rfl rfl)
theorem dX6_init_10 : decode cX6_init 10 = .ok (.iload_n 2, 1) := dk_28 (dk_at dksX6_init_0 10 rfl rfl)
theorem dX6_init_11 : decode cX6_init 11 = .ok (.putfield 13, 3) := dk_181 0 13 (dk_at dksX6_init_0 11 rfl rfl)
theorem dX6_init_14 : decode cX6_init 14 = .ok (.return_, 1) := dk_177 (dk_at dksX6_init_0 14 rfl rfl)
theorem q68 : (Jvm.Cond.initialized "AllotmentLedger$Reservation") ∈ lw_all := lw_g (lw_at lw_m1 33 rfl) rfl
theorem q230 : (Jvm.Cond.selects "AllotmentLedger$Reservation" ({ cls := "java/lang/Object", name := "getClass", desc := "()Ljava/lang/Class;" } : Jvm.MethodName) ({ cls := "java/lang/Object", name := "getClass", desc := "()Ljava/lang/Class;" } : Jvm.MethodName)) ∈ lw_all := lw_g (lw_at lw_m1 195 rfl) rfl
theorem q1175 : (Jvm.Cond.instantiable "AllotmentLedger$Reservation" (3 : Nat)) ∈ lw_all := lw_g (lw_at lw_m5 180 rfl) rfl
theorem q1177 : (Jvm.Cond.instanceMethod ({ cls := "AllotmentLedger$Reservation", name := "<init>", desc := "(LAllotmentLedger$Entry;I)V" } : Jvm.MethodName)) ∈ lw_all := lw_g (lw_at lw_m5 182 rfl) rfl
theorem q1178 : (Jvm.Cond.code ({ cls := "AllotmentLedger$Reservation", name := "<init>", desc := "(LAllotmentLedger$Entry;I)V" } : Jvm.MethodName) prog_5_method_1_code (3 : Nat) (Option.none : Option Jvm.ClassFile.FieldType)) ∈ lw_all := lw_g (lw_at lw_m5 183 rfl) rfl
theorem q1179 : (Jvm.Cond.methodLink "AllotmentLedger$Reservation" (1 : Nat) ({ cls := "java/lang/Object", name := "<init>", desc := "()V" } : Jvm.MethodName)) ∈ lw_all := lw_g (lw_at lw_m5 184 rfl) rfl
theorem q1180 : (Jvm.Cond.fieldLink "AllotmentLedger$Reservation" (7 : Nat) "AllotmentLedger$Reservation" "entry" "LAllotmentLedger$Entry;") ∈ lw_all := lw_g (lw_at lw_m5 185 rfl) rfl
theorem q1182 : (Jvm.Cond.fieldLink "AllotmentLedger$Reservation" (13 : Nat) "AllotmentLedger$Reservation" "blocks" "I") ∈ lw_all := lw_g (lw_at lw_m5 187 rfl) rfl
theorem q1185 : (Jvm.Cond.laysFinal "AllotmentLedger$Reservation" "AllotmentLedger$Reservation" "entry" "LAllotmentLedger$Entry;") ∈ lw_all := lw_g (lw_at lw_m5 190 rfl) rfl
theorem q1186 : (Jvm.Cond.soleField "AllotmentLedger$Reservation" "entry") ∈ lw_all := lw_g (lw_at lw_m5 191 rfl) rfl
theorem q1187 : (Jvm.Cond.laysFinal "AllotmentLedger$Reservation" "AllotmentLedger$Reservation" "blocks" "I") ∈ lw_all := lw_g (lw_at lw_m5 192 rfl) rfl
theorem q1188 : (Jvm.Cond.soleField "AllotmentLedger$Reservation" "blocks") ∈ lw_all := lw_g (lw_at lw_m5 193 rfl) rfl
theorem q1189 : (Jvm.Cond.lays "AllotmentLedger$Reservation" "AllotmentLedger$Reservation" "isClosed" "Z") ∈ lw_all := lw_g (lw_at lw_m5 194 rfl) rfl
theorem q1190 : (Jvm.Cond.soleField "AllotmentLedger$Reservation" "isClosed") ∈ lw_all := lw_g (lw_at lw_m5 195 rfl) rfl
theorem q1191 : (Jvm.Cond.superclass "AllotmentLedger$Reservation" "java/lang/Object") ∈ lw_all := lw_g (lw_at lw_m5 196 rfl) rfl
theorem q1575 : (Jvm.Cond.castable "AllotmentLedger$Reservation" "java/lang/Object") ∈ lw_tbl := lw_at lw_m7 100 rfl
theorem in_X6 : ∀ w ∈ wsX60, w ∈ lw_all := lw_in wsX60 [1185, 1187, 1189] (by decide +kernel) (by decide +kernel)

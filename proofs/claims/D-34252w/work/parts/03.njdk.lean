theorem q109 : (Jvm.Cond.arrayClass Jvm.ClassFile.FieldType.byte) ∈ lw_all := lw_g (lw_at lw_m1 74 rfl) rfl
set_option maxRecDepth 100000
theorem q111 : (Jvm.Cond.arrayOver (Jvm.ClassFile.FieldType.object "AllotmentLedger$Account")) ∈ lw_tbl := lw_at lw_m1 76 rfl
theorem q246 : (Jvm.Cond.arrayOver (Jvm.ClassFile.FieldType.object "java/lang/Object")) ∈ lw_tbl := lw_at lw_m1 211 rfl
theorem q1346 : (Jvm.Cond.arrayClass Jvm.ClassFile.FieldType.char) ∈ lw_all := lw_g (lw_at lw_m6 111 rfl) rfl
theorem q1347 : (Jvm.Cond.arrayClass Jvm.ClassFile.FieldType.int) ∈ lw_all := lw_g (lw_at lw_m6 112 rfl) rfl
theorem q1348 : (Jvm.Cond.arrayClass Jvm.ClassFile.FieldType.boolean) ∈ lw_all := lw_g (lw_at lw_m6 113 rfl) rfl
theorem q1534 : (Jvm.Cond.arrayClass Jvm.ClassFile.FieldType.long) ∈ lw_all := lw_g (lw_at lw_m7 59 rfl) rfl

theorem q332 : (Jvm.Cond.sameMethod "[B" "java/lang/Object" "clone" "()Ljava/lang/Object;") ∈ lw_all := lw_g (lw_at lw_m2 57 rfl) rfl
set_option maxRecDepth 100000
theorem q335 : (Jvm.Cond.selects "[B" ({ cls := "[B", name := "clone", desc := "()Ljava/lang/Object;" } : Jvm.MethodName) ({ cls := "java/lang/Object", name := "clone", desc := "()Ljava/lang/Object;" } : Jvm.MethodName)) ∈ lw_all := lw_g (lw_at lw_m2 60 rfl) rfl
theorem q336 : (Jvm.Cond.castable "[B" "java/lang/Cloneable") ∈ lw_tbl := lw_at lw_m2 61 rfl
theorem q1580 : (Jvm.Cond.castable "[B" "java/lang/Object") ∈ lw_tbl := lw_at lw_m7 105 rfl

theorem q1583 : (Jvm.Cond.castable "[C" "java/lang/Object") ∈ lw_tbl := lw_at lw_m7 108 rfl
set_option maxRecDepth 100000

theorem q1584 : (Jvm.Cond.castable "[I" "java/lang/Object") ∈ lw_tbl := lw_at lw_m7 109 rfl
set_option maxRecDepth 100000

theorem q1586 : (Jvm.Cond.castable "[J" "java/lang/Object") ∈ lw_tbl := lw_at lw_m7 111 rfl
set_option maxRecDepth 100000

theorem q1581 : (Jvm.Cond.castable "[LAllotmentLedger$Account;" "java/lang/Object") ∈ lw_tbl := lw_at lw_m7 106 rfl
set_option maxRecDepth 100000

theorem q1577 : (Jvm.Cond.sameMethod "[Ljava/lang/Object;" "java/lang/Object" "getClass" "()Ljava/lang/Class;") ∈ lw_all := lw_g (lw_at lw_m7 102 rfl) rfl
set_option maxRecDepth 100000
theorem q1578 : (Jvm.Cond.selects "[Ljava/lang/Object;" ({ cls := "java/lang/Object", name := "getClass", desc := "()Ljava/lang/Class;" } : Jvm.MethodName) ({ cls := "java/lang/Object", name := "getClass", desc := "()Ljava/lang/Class;" } : Jvm.MethodName)) ∈ lw_all := lw_g (lw_at lw_m7 103 rfl) rfl
theorem q1582 : (Jvm.Cond.castable "[Ljava/lang/Object;" "java/lang/Object") ∈ lw_tbl := lw_at lw_m7 107 rfl

theorem q1585 : (Jvm.Cond.castable "[Z" "java/lang/Object") ∈ lw_tbl := lw_at lw_m7 110 rfl
set_option maxRecDepth 100000

theorem q49 : (Jvm.Cond.initialized "java/lang/System") ∈ lw_all := lw_g (lw_at lw_m1 14 rfl) rfl
set_option maxRecDepth 100000
theorem q252 : (Jvm.Cond.static ({ cls := "java/lang/System", name := "arraycopy", desc := "(Ljava/lang/Object;ILjava/lang/Object;II)V" } : Jvm.MethodName)) ∈ lw_all := lw_g (lw_at lw_m1 217 rfl) rfl
theorem q253 : (Jvm.Cond.native ({ cls := "java/lang/System", name := "arraycopy", desc := "(Ljava/lang/Object;ILjava/lang/Object;II)V" } : Jvm.MethodName)) ∈ lw_all := lw_g (lw_at lw_m1 218 rfl) rfl

theorem q773 : (Jvm.Cond.interfaceMethod "java/lang/CharSequence" "java/lang/CharSequence" "length" "()I") ∈ lw_tbl := lw_at lw_m4 18 rfl
set_option maxRecDepth 100000
theorem q774 : (Jvm.Cond.declares ({ cls := "java/lang/CharSequence", name := "length", desc := "()I" } : Jvm.MethodName)) ∈ lw_tbl := lw_at lw_m4 19 rfl
theorem q789 : (Jvm.Cond.interfaceMethod "java/lang/CharSequence" "java/lang/CharSequence" "charAt" "(I)C") ∈ lw_tbl := lw_at lw_m4 34 rfl
theorem q790 : (Jvm.Cond.declares ({ cls := "java/lang/CharSequence", name := "charAt", desc := "(I)C" } : Jvm.MethodName)) ∈ lw_tbl := lw_at lw_m4 35 rfl

/-! java/lang/Object -/
set_option maxRecDepth 100000
def RJ24 : String := "java/lang/Object"
abbrev cJ24_init : ByteArray := object_method_1_code
def yJ24_init : MethodName := ⟨RJ24, "<init>", "()V"⟩
theorem dJ24_init_0 : decode cJ24_init 0 = .ok (.return_, 1) := by decide +kernel
theorem q75 : (Jvm.Cond.instanceMethod ({ cls := "java/lang/Object", name := "<init>", desc := "()V" } : Jvm.MethodName)) ∈ lw_all := lw_g (lw_at lw_m1 40 rfl) rfl
theorem q76 : (Jvm.Cond.code ({ cls := "java/lang/Object", name := "<init>", desc := "()V" } : Jvm.MethodName) object_method_1_code (1 : Nat) (Option.none : Option Jvm.ClassFile.FieldType)) ∈ lw_all := lw_g (lw_at lw_m1 41 rfl) rfl
theorem q224 : (Jvm.Cond.instanceMethod ({ cls := "java/lang/Object", name := "getClass", desc := "()Ljava/lang/Class;" } : Jvm.MethodName)) ∈ lw_all := lw_g (lw_at lw_m1 189 rfl) rfl
theorem q225 : (Jvm.Cond.sameMethod "java/lang/Object" "java/lang/Object" "getClass" "()Ljava/lang/Class;") ∈ lw_all := lw_g (lw_at lw_m1 190 rfl) rfl
theorem q241 : (Jvm.Cond.native ({ cls := "java/lang/Object", name := "getClass", desc := "()Ljava/lang/Class;" } : Jvm.MethodName)) ∈ lw_all := lw_g (lw_at lw_m1 206 rfl) rfl
theorem q333 : (Jvm.Cond.native ({ cls := "java/lang/Object", name := "clone", desc := "()Ljava/lang/Object;" } : Jvm.MethodName)) ∈ lw_all := lw_g (lw_at lw_m2 58 rfl) rfl
theorem q334 : (Jvm.Cond.instanceMethod ({ cls := "java/lang/Object", name := "clone", desc := "()Ljava/lang/Object;" } : Jvm.MethodName)) ∈ lw_all := lw_g (lw_at lw_m2 59 rfl) rfl
theorem q1556 : (Jvm.Cond.initialized "java/lang/Object") ∈ lw_all := lw_g (lw_at lw_m7 81 rfl) rfl
theorem q1579 : (Jvm.Cond.declares ({ cls := "java/lang/Object", name := "getClass", desc := "()Ljava/lang/Class;" } : Jvm.MethodName)) ∈ lw_tbl := lw_at lw_m7 104 rfl

/-! java/lang/StringBuilder -/
set_option maxRecDepth 100000
def RJ1 : String := "java/lang/StringBuilder"
def TJ1 : u_T := fun k => match k with
  | 0 => ("java/lang/AbstractStringBuilder", "value", "[B", false)
  | 1 => ("java/lang/AbstractStringBuilder", "coder", "B", false)
  | 2 => ("java/lang/AbstractStringBuilder", "maybeLatin1", "Z", false)
  | _ => ("java/lang/AbstractStringBuilder", "count", "I", false)
def tyJ1 : Nat → FieldType := fun k => match k with
  | 0 => .array .byte
  | 1 => .byte
  | 2 => .boolean
  | _ => .int
abbrev wsJ10 : List Cond := u_ws RJ1 TJ1 4
theorem nmJ1 : ∀ a, a < 4 → ∀ b, b < 4 → a ≠ b → (TJ1 a).2.1 ≠ (TJ1 b).2.1 := by decide +kernel
theorem tyJ1_ok : ∀ k, k < 4 → parseFieldDescriptor (TJ1 k).2.2.1 = some (tyJ1 k) := by decide +kernel
abbrev cJ1_init : ByteArray := prog_27_method_1_code
def yJ1_init : MethodName := ⟨RJ1, "<init>", "()V"⟩
def dkwJ1_init_0 : List UInt8 := [42, 16, 16, 183, 0, 1, 177]
abbrev dktJ1_init_0 : List UInt8 := dkwJ1_init_0 ++ []
theorem dksJ1_init_0 : cJ1_init.data.toList.drop 0 = dktJ1_init_0 := by decide +kernel
theorem dJ1_init_0 : decode cJ1_init 0 = .ok (.aload_n 0, 1) := dk_42 (dk_at dksJ1_init_0 0 rfl rfl)
theorem dJ1_init_1 : decode cJ1_init 1 = .ok (.bipush 16, 2) := dk_16 16 (dk_at dksJ1_init_0 1 rfl rfl)
theorem dJ1_init_3 : decode cJ1_init 3 = .ok (.invokespecial 1, 3) := dk_183 0 1 (dk_at dksJ1_init_0 3 rfl rfl)
theorem dJ1_init_6 : decode cJ1_init 6 = .ok (.return_, 1) := dk_177 (dk_at dksJ1_init_0 6 rfl rfl)
abbrev cJ1_length : ByteArray := prog_27_method_93_code
def yJ1_length : MethodName := ⟨RJ1, "length", "()I"⟩
theorem dJ1_length_0 : decode cJ1_length 0 = .ok (.aload_n 0, 1) := by decide +kernel
theorem dJ1_length_1 : decode cJ1_length 1 = .ok (.invokespecial 343, 3) := by decide +kernel
theorem dJ1_length_4 : decode cJ1_length 4 = .ok (.ireturn, 1) := by decide +kernel
abbrev cJ1_setLength : ByteArray := prog_27_method_89_code
def yJ1_setLength : MethodName := ⟨RJ1, "setLength", "(I)V"⟩
def dkwJ1_setLength_0 : List UInt8 := [42, 27, 183, 1, 77, 177]
abbrev dktJ1_setLength_0 : List UInt8 := dkwJ1_setLength_0 ++ []
theorem dksJ1_setLength_0 : cJ1_setLength.data.toList.drop 0 = dktJ1_setLength_0 := by decide +kernel
theorem dJ1_setLength_0 : decode cJ1_setLength 0 = .ok (.aload_n 0, 1) := dk_42 (dk_at dksJ1_setLength_0 0 rfl rfl)
theorem dJ1_setLength_1 : decode cJ1_setLength 1 = .ok (.iload_n 1, 1) := dk_27 (dk_at dksJ1_setLength_0 1 rfl rfl)
theorem dJ1_setLength_2 : decode cJ1_setLength 2 = .ok (.invokespecial 333, 3) := dk_183 1 77 (dk_at dksJ1_setLength_0 2 rfl rfl)
theorem dJ1_setLength_5 : decode cJ1_setLength 5 = .ok (.return_, 1) := dk_177 (dk_at dksJ1_setLength_0 5 rfl rfl)
abbrev cJ1_append : ByteArray := prog_27_method_7_code
def yJ1_append : MethodName := ⟨RJ1, "append", "(Ljava/lang/String;)Ljava/lang/StringBuilder;"⟩
def dkwJ1_append_0 : List UInt8 := [42, 43, 183, 0, 29, 87, 42, 176]
abbrev dktJ1_append_0 : List UInt8 := dkwJ1_append_0 ++ []
theorem dksJ1_append_0 : cJ1_append.data.toList.drop 0 = dktJ1_append_0 := by decide +kernel
theorem dJ1_append_0 : decode cJ1_append 0 = .ok (.aload_n 0, 1) := dk_42 (dk_at dksJ1_append_0 0 rfl rfl)
theorem dJ1_append_1 : decode cJ1_append 1 = .ok (.aload_n 1, 1) := dk_43 (dk_at dksJ1_append_0 1 rfl rfl)
theorem dJ1_append_2 : decode cJ1_append 2 = .ok (.invokespecial 29, 3) := dk_183 0 29 (dk_at dksJ1_append_0 2 rfl rfl)
theorem dJ1_append_5 : decode cJ1_append 5 = .ok (.pop, 1) := dk_87 (dk_at dksJ1_append_0 5 rfl rfl)
theorem dJ1_append_6 : decode cJ1_append 6 = .ok (.aload_n 0, 1) := dk_42 (dk_at dksJ1_append_0 6 rfl rfl)
theorem dJ1_append_7 : decode cJ1_append 7 = .ok (.areturn, 1) := dk_176 (dk_at dksJ1_append_0 7 rfl rfl)
abbrev cJ1_append_2 : ByteArray := prog_27_method_15_code
def yJ1_append_2 : MethodName := ⟨RJ1, "append", "(I)Ljava/lang/StringBuilder;"⟩
def dkwJ1_append_2_0 : List UInt8 := [42, 27, 183, 0, 53, 87, 42, 176]
abbrev dktJ1_append_2_0 : List UInt8 := dkwJ1_append_2_0 ++ []
theorem dksJ1_append_2_0 : cJ1_append_2.data.toList.drop 0 = dktJ1_append_2_0 := by decide +kernel
theorem dJ1_append_2_0 : decode cJ1_append_2 0 = .ok (.aload_n 0, 1) := dk_42 (dk_at dksJ1_append_2_0 0 rfl rfl)
theorem dJ1_append_2_1 : decode cJ1_append_2 1 = .ok (.iload_n 1, 1) := dk_27 (dk_at dksJ1_append_2_0 1 rfl rfl)
theorem dJ1_append_2_2 : decode cJ1_append_2 2 = .ok (.invokespecial 53, 3) := dk_183 0 53 (dk_at dksJ1_append_2_0 2 rfl rfl)
theorem dJ1_append_2_5 : decode cJ1_append_2 5 = .ok (.pop, 1) := dk_87 (dk_at dksJ1_append_2_0 5 rfl rfl)
theorem dJ1_append_2_6 : decode cJ1_append_2 6 = .ok (.aload_n 0, 1) := dk_42 (dk_at dksJ1_append_2_0 6 rfl rfl)
theorem dJ1_append_2_7 : decode cJ1_append_2 7 = .ok (.areturn, 1) := dk_176 (dk_at dksJ1_append_2_0 7 rfl rfl)
abbrev cJ1_toString : ByteArray := prog_27_method_42_code
def yJ1_toString : MethodName := ⟨RJ1, "toString", "()Ljava/lang/String;"⟩
def dkwJ1_toString_0 : List UInt8 := [187, 0, 18, 89, 42, 183, 0, 137, 176]
abbrev dktJ1_toString_0 : List UInt8 := dkwJ1_toString_0 ++ []
theorem dksJ1_toString_0 : cJ1_toString.data.toList.drop 0 = dktJ1_toString_0 := by decide +kernel
theorem dJ1_toString_0 : decode cJ1_toString 0 = .ok (.new 18, 3) := dk_187 0 18 (dk_at dksJ1_toString_0 0 rfl rfl)
theorem dJ1_toString_3 : decode cJ1_toString 3 = .ok (.dup, 1) := dk_89 (dk_at dksJ1_toString_0 3 rfl rfl)
theorem dJ1_toString_4 : decode cJ1_toString 4 = .ok (.aload_n 0, 1) := dk_42 (dk_at dksJ1_toString_0 4 rfl rfl)
theorem dJ1_toString_5 : decode cJ1_toString 5 = .ok (.invokespecial 137, 3) := dk_183 0 137 (dk_at dksJ1_toString_0 5 rfl rfl)
theorem dJ1_toString_8 : decode cJ1_toString 8 = .ok (.areturn, 1) := dk_176 (dk_at dksJ1_toString_0 8 rfl rfl)
abbrev cJ1_charAt : ByteArray := prog_27_method_88_code
def yJ1_charAt : MethodName := ⟨RJ1, "charAt", "(I)C"⟩
def dkwJ1_charAt_0 : List UInt8 := [42, 27, 183, 1, 73, 172]
abbrev dktJ1_charAt_0 : List UInt8 := dkwJ1_charAt_0 ++ []
theorem dksJ1_charAt_0 : cJ1_charAt.data.toList.drop 0 = dktJ1_charAt_0 := by decide +kernel
theorem dJ1_charAt_0 : decode cJ1_charAt 0 = .ok (.aload_n 0, 1) := dk_42 (dk_at dksJ1_charAt_0 0 rfl rfl)
theorem dJ1_charAt_1 : decode cJ1_charAt 1 = .ok (.iload_n 1, 1) := dk_27 (dk_at dksJ1_charAt_0 1 rfl rfl)
theorem dJ1_charAt_2 : decode cJ1_charAt 2 = .ok (.invokespecial 329, 3) := dk_183 1 73 (dk_at dksJ1_charAt_0 2 rfl rfl)
theorem dJ1_charAt_5 : decode cJ1_charAt 5 = .ok (.ireturn, 1) := dk_172 (dk_at dksJ1_charAt_0 5 rfl rfl)
abbrev cJ1_append_3 : ByteArray := prog_27_method_14_code
def yJ1_append_3 : MethodName := ⟨RJ1, "append", "(C)Ljava/lang/StringBuilder;"⟩
def dkwJ1_append_3_0 : List UInt8 := [42, 27, 183, 0, 50, 87, 42, 176]
abbrev dktJ1_append_3_0 : List UInt8 := dkwJ1_append_3_0 ++ []
theorem dksJ1_append_3_0 : cJ1_append_3.data.toList.drop 0 = dktJ1_append_3_0 := by decide +kernel
theorem dJ1_append_3_0 : decode cJ1_append_3 0 = .ok (.aload_n 0, 1) := dk_42 (dk_at dksJ1_append_3_0 0 rfl rfl)
theorem dJ1_append_3_1 : decode cJ1_append_3 1 = .ok (.iload_n 1, 1) := dk_27 (dk_at dksJ1_append_3_0 1 rfl rfl)
theorem dJ1_append_3_2 : decode cJ1_append_3 2 = .ok (.invokespecial 50, 3) := dk_183 0 50 (dk_at dksJ1_append_3_0 2 rfl rfl)
theorem dJ1_append_3_5 : decode cJ1_append_3 5 = .ok (.pop, 1) := dk_87 (dk_at dksJ1_append_3_0 5 rfl rfl)
theorem dJ1_append_3_6 : decode cJ1_append_3 6 = .ok (.aload_n 0, 1) := dk_42 (dk_at dksJ1_append_3_0 6 rfl rfl)
theorem dJ1_append_3_7 : decode cJ1_append_3 7 = .ok (.areturn, 1) := dk_176 (dk_at dksJ1_append_3_0 7 rfl rfl)
abbrev cJ1_deleteCharAt : ByteArray := prog_27_method_21_code
def yJ1_deleteCharAt : MethodName := ⟨RJ1, "deleteCharAt", "(I)Ljava/lang/StringBuilder;"⟩
def dkwJ1_deleteCharAt_0 : List UInt8 := [42, 27, 183, 0, 72, 87, 42, 176]
abbrev dktJ1_deleteCharAt_0 : List UInt8 := dkwJ1_deleteCharAt_0 ++ []
theorem dksJ1_deleteCharAt_0 : cJ1_deleteCharAt.data.toList.drop 0 = dktJ1_deleteCharAt_0 := by decide +kernel
theorem dJ1_deleteCharAt_0 : decode cJ1_deleteCharAt 0 = .ok (.aload_n 0, 1) := dk_42 (dk_at dksJ1_deleteCharAt_0 0 rfl rfl)
theorem dJ1_deleteCharAt_1 : decode cJ1_deleteCharAt 1 = .ok (.iload_n 1, 1) := dk_27 (dk_at dksJ1_deleteCharAt_0 1 rfl rfl)
theorem dJ1_deleteCharAt_2 : decode cJ1_deleteCharAt 2 = .ok (.invokespecial 72, 3) := dk_183 0 72 (dk_at dksJ1_deleteCharAt_0 2 rfl rfl)
theorem dJ1_deleteCharAt_5 : decode cJ1_deleteCharAt 5 = .ok (.pop, 1) := dk_87 (dk_at dksJ1_deleteCharAt_0 5 rfl rfl)
theorem dJ1_deleteCharAt_6 : decode cJ1_deleteCharAt 6 = .ok (.aload_n 0, 1) := dk_42 (dk_at dksJ1_deleteCharAt_0 6 rfl rfl)
theorem dJ1_deleteCharAt_7 : decode cJ1_deleteCharAt 7 = .ok (.areturn, 1) := dk_176 (dk_at dksJ1_deleteCharAt_0 7 rfl rfl)
abbrev cJ1_substring : ByteArray := prog_27_method_62_code
def yJ1_substring : MethodName := ⟨RJ1, "substring", "(II)Ljava/lang/String;"⟩
def dkwJ1_substring_0 : List UInt8 := [42, 27, 28, 183, 0, 252, 176]
abbrev dktJ1_substring_0 : List UInt8 := dkwJ1_substring_0 ++ []
theorem dksJ1_substring_0 : cJ1_substring.data.toList.drop 0 = dktJ1_substring_0 := by decide +kernel
theorem dJ1_substring_0 : decode cJ1_substring 0 = .ok (.aload_n 0, 1) := dk_42 (dk_at dksJ1_substring_0 0 rfl rfl)
theorem dJ1_substring_1 : decode cJ1_substring 1 = .ok (.iload_n 1, 1) := dk_27 (dk_at dksJ1_substring_0 1 rfl rfl)
theorem dJ1_substring_2 : decode cJ1_substring 2 = .ok (.iload_n 2, 1) := dk_28 (dk_at dksJ1_substring_0 2 rfl rfl)
theorem dJ1_substring_3 : decode cJ1_substring 3 = .ok (.invokespecial 252, 3) := dk_183 0 252 (dk_at dksJ1_substring_0 3 rfl rfl)
theorem dJ1_substring_6 : decode cJ1_substring 6 = .ok (.areturn, 1) := dk_176 (dk_at dksJ1_substring_0 6 rfl rfl)
abbrev cJ1_init_2 : ByteArray := prog_27_method_3_code
def yJ1_init_2 : MethodName := ⟨RJ1, "<init>", "(Ljava/lang/String;)V"⟩
def dkwJ1_init_2_0 : List UInt8 := [42, 43, 183, 0, 7, 177]
abbrev dktJ1_init_2_0 : List UInt8 := dkwJ1_init_2_0 ++ []
theorem dksJ1_init_2_0 : cJ1_init_2.data.toList.drop 0 = dktJ1_init_2_0 := by decide +kernel
theorem dJ1_init_2_0 : decode cJ1_init_2 0 = .ok (.aload_n 0, 1) := dk_42 (dk_at dksJ1_init_2_0 0 rfl rfl)
theorem dJ1_init_2_1 : decode cJ1_init_2 1 = .ok (.aload_n 1, 1) := dk_43 (dk_at dksJ1_init_2_0 1 rfl rfl)
theorem dJ1_init_2_2 : decode cJ1_init_2 2 = .ok (.invokespecial 7, 3) := dk_183 0 7 (dk_at dksJ1_init_2_0 2 rfl rfl)
theorem dJ1_init_2_5 : decode cJ1_init_2 5 = .ok (.return_, 1) := dk_177 (dk_at dksJ1_init_2_0 5 rfl rfl)
abbrev cJ1_append_4 : ByteArray := prog_27_method_80_code
def yJ1_append_4 : MethodName := ⟨RJ1, "append", "(Ljava/lang/String;)Ljava/lang/AbstractStringBuilder;"⟩
def dkwJ1_append_4_0 : List UInt8 := [42, 43, 182, 0, 23, 176]
abbrev dktJ1_append_4_0 : List UInt8 := dkwJ1_append_4_0 ++ []
theorem dksJ1_append_4_0 : cJ1_append_4.data.toList.drop 0 = dktJ1_append_4_0 := by decide +kernel
theorem dJ1_append_4_0 : decode cJ1_append_4 0 = .ok (.aload_n 0, 1) := dk_42 (dk_at dksJ1_append_4_0 0 rfl rfl)
theorem dJ1_append_4_1 : decode cJ1_append_4 1 = .ok (.aload_n 1, 1) := dk_43 (dk_at dksJ1_append_4_0 1 rfl rfl)
theorem dJ1_append_4_2 : decode cJ1_append_4 2 = .ok (.invokevirtual 23, 3) := dk_182 0 23 (dk_at dksJ1_append_4_0 2 rfl rfl)
theorem dJ1_append_4_5 : decode cJ1_append_4 5 = .ok (.areturn, 1) := dk_176 (dk_at dksJ1_append_4_0 5 rfl rfl)
abbrev cJ1_delete : ByteArray := prog_27_method_20_code
def yJ1_delete : MethodName := ⟨RJ1, "delete", "(II)Ljava/lang/StringBuilder;"⟩
def dkwJ1_delete_0 : List UInt8 := [42, 27, 28, 183, 0, 68, 87, 42, 176]
abbrev dktJ1_delete_0 : List UInt8 := dkwJ1_delete_0 ++ []
theorem dksJ1_delete_0 : cJ1_delete.data.toList.drop 0 = dktJ1_delete_0 := by decide +kernel
theorem dJ1_delete_0 : decode cJ1_delete 0 = .ok (.aload_n 0, 1) := dk_42 (dk_at dksJ1_delete_0 0 rfl rfl)
theorem dJ1_delete_1 : decode cJ1_delete 1 = .ok (.iload_n 1, 1) := dk_27 (dk_at dksJ1_delete_0 1 rfl rfl)
theorem dJ1_delete_2 : decode cJ1_delete 2 = .ok (.iload_n 2, 1) := dk_28 (dk_at dksJ1_delete_0 2 rfl rfl)
theorem dJ1_delete_3 : decode cJ1_delete 3 = .ok (.invokespecial 68, 3) := dk_183 0 68 (dk_at dksJ1_delete_0 3 rfl rfl)
theorem dJ1_delete_6 : decode cJ1_delete 6 = .ok (.pop, 1) := dk_87 (dk_at dksJ1_delete_0 6 rfl rfl)
theorem dJ1_delete_7 : decode cJ1_delete 7 = .ok (.aload_n 0, 1) := dk_42 (dk_at dksJ1_delete_0 7 rfl rfl)
theorem dJ1_delete_8 : decode cJ1_delete 8 = .ok (.areturn, 1) := dk_176 (dk_at dksJ1_delete_0 8 rfl rfl)
abbrev cJ1_insert : ByteArray := prog_27_method_25_code
def yJ1_insert : MethodName := ⟨RJ1, "insert", "(ILjava/lang/String;)Ljava/lang/StringBuilder;"⟩
def dkwJ1_insert_0 : List UInt8 := [42, 27, 44, 183, 0, 86, 87, 42, 176]
abbrev dktJ1_insert_0 : List UInt8 := dkwJ1_insert_0 ++ []
theorem dksJ1_insert_0 : cJ1_insert.data.toList.drop 0 = dktJ1_insert_0 := by decide +kernel
theorem dJ1_insert_0 : decode cJ1_insert 0 = .ok (.aload_n 0, 1) := dk_42 (dk_at dksJ1_insert_0 0 rfl rfl)
theorem dJ1_insert_1 : decode cJ1_insert 1 = .ok (.iload_n 1, 1) := dk_27 (dk_at dksJ1_insert_0 1 rfl rfl)
theorem dJ1_insert_2 : decode cJ1_insert 2 = .ok (.aload_n 2, 1) := dk_44 (dk_at dksJ1_insert_0 2 rfl rfl)
theorem dJ1_insert_3 : decode cJ1_insert 3 = .ok (.invokespecial 86, 3) := dk_183 0 86 (dk_at dksJ1_insert_0 3 rfl rfl)
theorem dJ1_insert_6 : decode cJ1_insert 6 = .ok (.pop, 1) := dk_87 (dk_at dksJ1_insert_0 6 rfl rfl)
theorem dJ1_insert_7 : decode cJ1_insert 7 = .ok (.aload_n 0, 1) := dk_42 (dk_at dksJ1_insert_0 7 rfl rfl)
theorem dJ1_insert_8 : decode cJ1_insert 8 = .ok (.areturn, 1) := dk_176 (dk_at dksJ1_insert_0 8 rfl rfl)
theorem q38 : (Jvm.Cond.initialized "java/lang/StringBuilder") ∈ lw_all := lw_g (lw_at lw_m1 3 rfl) rfl
theorem q78 : (Jvm.Cond.instantiable "java/lang/StringBuilder" (4 : Nat)) ∈ lw_all := lw_g (lw_at lw_m1 43 rfl) rfl
theorem q80 : (Jvm.Cond.instanceMethod ({ cls := "java/lang/StringBuilder", name := "<init>", desc := "()V" } : Jvm.MethodName)) ∈ lw_all := lw_g (lw_at lw_m1 45 rfl) rfl
theorem q81 : (Jvm.Cond.code ({ cls := "java/lang/StringBuilder", name := "<init>", desc := "()V" } : Jvm.MethodName) prog_27_method_1_code (1 : Nat) (Option.none : Option Jvm.ClassFile.FieldType)) ∈ lw_all := lw_g (lw_at lw_m1 46 rfl) rfl
theorem q82 : (Jvm.Cond.methodLink "java/lang/StringBuilder" (1 : Nat) ({ cls := "java/lang/AbstractStringBuilder", name := "<init>", desc := "(I)V" } : Jvm.MethodName)) ∈ lw_all := lw_g (lw_at lw_m1 47 rfl) rfl
theorem q100 : (Jvm.Cond.lays "java/lang/StringBuilder" "java/lang/AbstractStringBuilder" "value" "[B") ∈ lw_all := lw_g (lw_at lw_m1 65 rfl) rfl
theorem q102 : (Jvm.Cond.lays "java/lang/StringBuilder" "java/lang/AbstractStringBuilder" "coder" "B") ∈ lw_all := lw_g (lw_at lw_m1 67 rfl) rfl
theorem q104 : (Jvm.Cond.lays "java/lang/StringBuilder" "java/lang/AbstractStringBuilder" "maybeLatin1" "Z") ∈ lw_all := lw_g (lw_at lw_m1 69 rfl) rfl
theorem q106 : (Jvm.Cond.lays "java/lang/StringBuilder" "java/lang/AbstractStringBuilder" "count" "I") ∈ lw_all := lw_g (lw_at lw_m1 71 rfl) rfl
theorem q108 : (Jvm.Cond.superclass "java/lang/StringBuilder" "java/lang/AbstractStringBuilder") ∈ lw_all := lw_g (lw_at lw_m1 73 rfl) rfl
theorem q237 : (Jvm.Cond.selects "java/lang/StringBuilder" ({ cls := "java/lang/Object", name := "getClass", desc := "()Ljava/lang/Class;" } : Jvm.MethodName) ({ cls := "java/lang/Object", name := "getClass", desc := "()Ljava/lang/Class;" } : Jvm.MethodName)) ∈ lw_all := lw_g (lw_at lw_m1 202 rfl) rfl
theorem q286 : (Jvm.Cond.instanceMethod ({ cls := "java/lang/StringBuilder", name := "length", desc := "()I" } : Jvm.MethodName)) ∈ lw_all := lw_g (lw_at lw_m2 11 rfl) rfl
theorem q287 : (Jvm.Cond.selects "java/lang/StringBuilder" ({ cls := "java/lang/StringBuilder", name := "length", desc := "()I" } : Jvm.MethodName) ({ cls := "java/lang/StringBuilder", name := "length", desc := "()I" } : Jvm.MethodName)) ∈ lw_all := lw_g (lw_at lw_m2 12 rfl) rfl
theorem q288 : (Jvm.Cond.code ({ cls := "java/lang/StringBuilder", name := "length", desc := "()I" } : Jvm.MethodName) prog_27_method_93_code (1 : Nat) (Option.some Jvm.ClassFile.FieldType.int)) ∈ lw_all := lw_g (lw_at lw_m2 13 rfl) rfl
theorem q289 : (Jvm.Cond.methodLink "java/lang/StringBuilder" (343 : Nat) ({ cls := "java/lang/AbstractStringBuilder", name := "length", desc := "()I" } : Jvm.MethodName)) ∈ lw_all := lw_g (lw_at lw_m2 14 rfl) rfl
theorem q293 : (Jvm.Cond.instanceMethod ({ cls := "java/lang/StringBuilder", name := "setLength", desc := "(I)V" } : Jvm.MethodName)) ∈ lw_all := lw_g (lw_at lw_m2 18 rfl) rfl
theorem q294 : (Jvm.Cond.selects "java/lang/StringBuilder" ({ cls := "java/lang/StringBuilder", name := "setLength", desc := "(I)V" } : Jvm.MethodName) ({ cls := "java/lang/StringBuilder", name := "setLength", desc := "(I)V" } : Jvm.MethodName)) ∈ lw_all := lw_g (lw_at lw_m2 19 rfl) rfl
theorem q295 : (Jvm.Cond.code ({ cls := "java/lang/StringBuilder", name := "setLength", desc := "(I)V" } : Jvm.MethodName) prog_27_method_89_code (2 : Nat) (Option.none : Option Jvm.ClassFile.FieldType)) ∈ lw_all := lw_g (lw_at lw_m2 20 rfl) rfl
theorem q296 : (Jvm.Cond.methodLink "java/lang/StringBuilder" (333 : Nat) ({ cls := "java/lang/AbstractStringBuilder", name := "setLength", desc := "(I)V" } : Jvm.MethodName)) ∈ lw_all := lw_g (lw_at lw_m2 21 rfl) rfl
theorem q308 : (Jvm.Cond.instanceMethod ({ cls := "java/lang/StringBuilder", name := "append", desc := "(Ljava/lang/String;)Ljava/lang/StringBuilder;" } : Jvm.MethodName)) ∈ lw_all := lw_g (lw_at lw_m2 33 rfl) rfl
theorem q309 : (Jvm.Cond.selects "java/lang/StringBuilder" ({ cls := "java/lang/StringBuilder", name := "append", desc := "(Ljava/lang/String;)Ljava/lang/StringBuilder;" } : Jvm.MethodName) ({ cls := "java/lang/StringBuilder", name := "append", desc := "(Ljava/lang/String;)Ljava/lang/StringBuilder;" } : Jvm.MethodName)) ∈ lw_all := lw_g (lw_at lw_m2 34 rfl) rfl
theorem q310 : (Jvm.Cond.code ({ cls := "java/lang/StringBuilder", name := "append", desc := "(Ljava/lang/String;)Ljava/lang/StringBuilder;" } : Jvm.MethodName) prog_27_method_7_code (2 : Nat) (Option.some (Jvm.ClassFile.FieldType.object "java/lang/StringBuilder"))) ∈ lw_all := lw_g (lw_at lw_m2 35 rfl) rfl
theorem q311 : (Jvm.Cond.methodLink "java/lang/StringBuilder" (29 : Nat) ({ cls := "java/lang/AbstractStringBuilder", name := "append", desc := "(Ljava/lang/String;)Ljava/lang/AbstractStringBuilder;" } : Jvm.MethodName)) ∈ lw_all := lw_g (lw_at lw_m2 36 rfl) rfl
theorem q341 : (Jvm.Cond.selects "java/lang/StringBuilder" ({ cls := "java/lang/AbstractStringBuilder", name := "isLatin1", desc := "()Z" } : Jvm.MethodName) ({ cls := "java/lang/AbstractStringBuilder", name := "isLatin1", desc := "()Z" } : Jvm.MethodName)) ∈ lw_all := lw_g (lw_at lw_m2 66 rfl) rfl
theorem q413 : (Jvm.Cond.instanceMethod ({ cls := "java/lang/StringBuilder", name := "append", desc := "(I)Ljava/lang/StringBuilder;" } : Jvm.MethodName)) ∈ lw_all := lw_g (lw_at lw_m2 138 rfl) rfl
theorem q414 : (Jvm.Cond.selects "java/lang/StringBuilder" ({ cls := "java/lang/StringBuilder", name := "append", desc := "(I)Ljava/lang/StringBuilder;" } : Jvm.MethodName) ({ cls := "java/lang/StringBuilder", name := "append", desc := "(I)Ljava/lang/StringBuilder;" } : Jvm.MethodName)) ∈ lw_all := lw_g (lw_at lw_m2 139 rfl) rfl
theorem q415 : (Jvm.Cond.code ({ cls := "java/lang/StringBuilder", name := "append", desc := "(I)Ljava/lang/StringBuilder;" } : Jvm.MethodName) prog_27_method_15_code (2 : Nat) (Option.some (Jvm.ClassFile.FieldType.object "java/lang/StringBuilder"))) ∈ lw_all := lw_g (lw_at lw_m2 140 rfl) rfl
theorem q416 : (Jvm.Cond.methodLink "java/lang/StringBuilder" (53 : Nat) ({ cls := "java/lang/AbstractStringBuilder", name := "append", desc := "(I)Ljava/lang/AbstractStringBuilder;" } : Jvm.MethodName)) ∈ lw_all := lw_g (lw_at lw_m2 141 rfl) rfl
theorem q438 : (Jvm.Cond.instanceMethod ({ cls := "java/lang/StringBuilder", name := "toString", desc := "()Ljava/lang/String;" } : Jvm.MethodName)) ∈ lw_all := lw_g (lw_at lw_m2 163 rfl) rfl
theorem q439 : (Jvm.Cond.selects "java/lang/StringBuilder" ({ cls := "java/lang/StringBuilder", name := "toString", desc := "()Ljava/lang/String;" } : Jvm.MethodName) ({ cls := "java/lang/StringBuilder", name := "toString", desc := "()Ljava/lang/String;" } : Jvm.MethodName)) ∈ lw_all := lw_g (lw_at lw_m2 164 rfl) rfl
theorem q440 : (Jvm.Cond.code ({ cls := "java/lang/StringBuilder", name := "toString", desc := "()Ljava/lang/String;" } : Jvm.MethodName) prog_27_method_42_code (1 : Nat) (Option.some (Jvm.ClassFile.FieldType.object "java/lang/String"))) ∈ lw_all := lw_g (lw_at lw_m2 165 rfl) rfl
theorem q441 : (Jvm.Cond.classLink "java/lang/StringBuilder" (18 : Nat) "java/lang/String") ∈ lw_all := lw_g (lw_at lw_m2 166 rfl) rfl
theorem q443 : (Jvm.Cond.methodLink "java/lang/StringBuilder" (137 : Nat) ({ cls := "java/lang/String", name := "<init>", desc := "(Ljava/lang/StringBuilder;)V" } : Jvm.MethodName)) ∈ lw_all := lw_g (lw_at lw_m2 168 rfl) rfl
theorem q453 : (Jvm.Cond.selects "java/lang/StringBuilder" ({ cls := "java/lang/AbstractStringBuilder", name := "getValue", desc := "()[B" } : Jvm.MethodName) ({ cls := "java/lang/AbstractStringBuilder", name := "getValue", desc := "()[B" } : Jvm.MethodName)) ∈ lw_all := lw_g (lw_at lw_m2 178 rfl) rfl
theorem q654 : (Jvm.Cond.selects "java/lang/StringBuilder" ({ cls := "java/lang/AbstractStringBuilder", name := "getCoder", desc := "()B" } : Jvm.MethodName) ({ cls := "java/lang/AbstractStringBuilder", name := "getCoder", desc := "()B" } : Jvm.MethodName)) ∈ lw_all := lw_g (lw_at lw_m3 139 rfl) rfl
theorem q779 : (Jvm.Cond.castable "java/lang/StringBuilder" "java/lang/CharSequence") ∈ lw_tbl := lw_at lw_m4 24 rfl
theorem q780 : (Jvm.Cond.selects "java/lang/StringBuilder" ({ cls := "java/lang/CharSequence", name := "length", desc := "()I" } : Jvm.MethodName) ({ cls := "java/lang/StringBuilder", name := "length", desc := "()I" } : Jvm.MethodName)) ∈ lw_all := lw_g (lw_at lw_m4 25 rfl) rfl
theorem q781 : (Jvm.Cond.unhidden "java/lang/StringBuilder" "length" "()I") ∈ lw_tbl := lw_at lw_m4 26 rfl
theorem q782 : (Jvm.Cond.publicMethod ({ cls := "java/lang/StringBuilder", name := "length", desc := "()I" } : Jvm.MethodName)) ∈ lw_tbl := lw_at lw_m4 27 rfl
theorem q810 : (Jvm.Cond.selects "java/lang/StringBuilder" ({ cls := "java/lang/CharSequence", name := "charAt", desc := "(I)C" } : Jvm.MethodName) ({ cls := "java/lang/StringBuilder", name := "charAt", desc := "(I)C" } : Jvm.MethodName)) ∈ lw_all := lw_g (lw_at lw_m4 55 rfl) rfl
theorem q811 : (Jvm.Cond.unhidden "java/lang/StringBuilder" "charAt" "(I)C") ∈ lw_tbl := lw_at lw_m4 56 rfl
theorem q812 : (Jvm.Cond.instanceMethod ({ cls := "java/lang/StringBuilder", name := "charAt", desc := "(I)C" } : Jvm.MethodName)) ∈ lw_all := lw_g (lw_at lw_m4 57 rfl) rfl
theorem q813 : (Jvm.Cond.publicMethod ({ cls := "java/lang/StringBuilder", name := "charAt", desc := "(I)C" } : Jvm.MethodName)) ∈ lw_tbl := lw_at lw_m4 58 rfl
theorem q814 : (Jvm.Cond.code ({ cls := "java/lang/StringBuilder", name := "charAt", desc := "(I)C" } : Jvm.MethodName) prog_27_method_88_code (2 : Nat) (Option.some Jvm.ClassFile.FieldType.char)) ∈ lw_all := lw_g (lw_at lw_m4 59 rfl) rfl
theorem q815 : (Jvm.Cond.methodLink "java/lang/StringBuilder" (329 : Nat) ({ cls := "java/lang/AbstractStringBuilder", name := "charAt", desc := "(I)C" } : Jvm.MethodName)) ∈ lw_all := lw_g (lw_at lw_m4 60 rfl) rfl
theorem q882 : (Jvm.Cond.instanceMethod ({ cls := "java/lang/StringBuilder", name := "append", desc := "(C)Ljava/lang/StringBuilder;" } : Jvm.MethodName)) ∈ lw_all := lw_g (lw_at lw_m4 127 rfl) rfl
theorem q883 : (Jvm.Cond.selects "java/lang/StringBuilder" ({ cls := "java/lang/StringBuilder", name := "append", desc := "(C)Ljava/lang/StringBuilder;" } : Jvm.MethodName) ({ cls := "java/lang/StringBuilder", name := "append", desc := "(C)Ljava/lang/StringBuilder;" } : Jvm.MethodName)) ∈ lw_all := lw_g (lw_at lw_m4 128 rfl) rfl
theorem q884 : (Jvm.Cond.code ({ cls := "java/lang/StringBuilder", name := "append", desc := "(C)Ljava/lang/StringBuilder;" } : Jvm.MethodName) prog_27_method_14_code (2 : Nat) (Option.some (Jvm.ClassFile.FieldType.object "java/lang/StringBuilder"))) ∈ lw_all := lw_g (lw_at lw_m4 129 rfl) rfl
theorem q885 : (Jvm.Cond.methodLink "java/lang/StringBuilder" (50 : Nat) ({ cls := "java/lang/AbstractStringBuilder", name := "append", desc := "(C)Ljava/lang/AbstractStringBuilder;" } : Jvm.MethodName)) ∈ lw_all := lw_g (lw_at lw_m4 130 rfl) rfl
theorem q902 : (Jvm.Cond.instanceMethod ({ cls := "java/lang/StringBuilder", name := "deleteCharAt", desc := "(I)Ljava/lang/StringBuilder;" } : Jvm.MethodName)) ∈ lw_all := lw_g (lw_at lw_m4 147 rfl) rfl
theorem q903 : (Jvm.Cond.selects "java/lang/StringBuilder" ({ cls := "java/lang/StringBuilder", name := "deleteCharAt", desc := "(I)Ljava/lang/StringBuilder;" } : Jvm.MethodName) ({ cls := "java/lang/StringBuilder", name := "deleteCharAt", desc := "(I)Ljava/lang/StringBuilder;" } : Jvm.MethodName)) ∈ lw_all := lw_g (lw_at lw_m4 148 rfl) rfl
theorem q904 : (Jvm.Cond.code ({ cls := "java/lang/StringBuilder", name := "deleteCharAt", desc := "(I)Ljava/lang/StringBuilder;" } : Jvm.MethodName) prog_27_method_21_code (2 : Nat) (Option.some (Jvm.ClassFile.FieldType.object "java/lang/StringBuilder"))) ∈ lw_all := lw_g (lw_at lw_m4 149 rfl) rfl
theorem q905 : (Jvm.Cond.methodLink "java/lang/StringBuilder" (72 : Nat) ({ cls := "java/lang/AbstractStringBuilder", name := "deleteCharAt", desc := "(I)Ljava/lang/AbstractStringBuilder;" } : Jvm.MethodName)) ∈ lw_all := lw_g (lw_at lw_m4 150 rfl) rfl
theorem q921 : (Jvm.Cond.instanceMethod ({ cls := "java/lang/StringBuilder", name := "substring", desc := "(II)Ljava/lang/String;" } : Jvm.MethodName)) ∈ lw_all := lw_g (lw_at lw_m4 166 rfl) rfl
theorem q922 : (Jvm.Cond.selects "java/lang/StringBuilder" ({ cls := "java/lang/StringBuilder", name := "substring", desc := "(II)Ljava/lang/String;" } : Jvm.MethodName) ({ cls := "java/lang/StringBuilder", name := "substring", desc := "(II)Ljava/lang/String;" } : Jvm.MethodName)) ∈ lw_all := lw_g (lw_at lw_m4 167 rfl) rfl
theorem q923 : (Jvm.Cond.code ({ cls := "java/lang/StringBuilder", name := "substring", desc := "(II)Ljava/lang/String;" } : Jvm.MethodName) prog_27_method_62_code (3 : Nat) (Option.some (Jvm.ClassFile.FieldType.object "java/lang/String"))) ∈ lw_all := lw_g (lw_at lw_m4 168 rfl) rfl
theorem q924 : (Jvm.Cond.methodLink "java/lang/StringBuilder" (252 : Nat) ({ cls := "java/lang/AbstractStringBuilder", name := "substring", desc := "(II)Ljava/lang/String;" } : Jvm.MethodName)) ∈ lw_all := lw_g (lw_at lw_m4 169 rfl) rfl
theorem q1006 : (Jvm.Cond.instanceMethod ({ cls := "java/lang/StringBuilder", name := "<init>", desc := "(Ljava/lang/String;)V" } : Jvm.MethodName)) ∈ lw_all := lw_g (lw_at lw_m5 11 rfl) rfl
theorem q1007 : (Jvm.Cond.code ({ cls := "java/lang/StringBuilder", name := "<init>", desc := "(Ljava/lang/String;)V" } : Jvm.MethodName) prog_27_method_3_code (2 : Nat) (Option.none : Option Jvm.ClassFile.FieldType)) ∈ lw_all := lw_g (lw_at lw_m5 12 rfl) rfl
theorem q1008 : (Jvm.Cond.methodLink "java/lang/StringBuilder" (7 : Nat) ({ cls := "java/lang/AbstractStringBuilder", name := "<init>", desc := "(Ljava/lang/String;)V" } : Jvm.MethodName)) ∈ lw_all := lw_g (lw_at lw_m5 13 rfl) rfl
theorem q1013 : (Jvm.Cond.instanceMethod ({ cls := "java/lang/StringBuilder", name := "append", desc := "(Ljava/lang/String;)Ljava/lang/AbstractStringBuilder;" } : Jvm.MethodName)) ∈ lw_all := lw_g (lw_at lw_m5 18 rfl) rfl
theorem q1014 : (Jvm.Cond.code ({ cls := "java/lang/StringBuilder", name := "append", desc := "(Ljava/lang/String;)Ljava/lang/AbstractStringBuilder;" } : Jvm.MethodName) prog_27_method_80_code (2 : Nat) (Option.some (Jvm.ClassFile.FieldType.object "java/lang/AbstractStringBuilder"))) ∈ lw_all := lw_g (lw_at lw_m5 19 rfl) rfl
theorem q1015 : (Jvm.Cond.methodLink "java/lang/StringBuilder" (23 : Nat) ({ cls := "java/lang/StringBuilder", name := "append", desc := "(Ljava/lang/String;)Ljava/lang/StringBuilder;" } : Jvm.MethodName)) ∈ lw_all := lw_g (lw_at lw_m5 20 rfl) rfl
theorem q1017 : (Jvm.Cond.instanceMethod ({ cls := "java/lang/StringBuilder", name := "delete", desc := "(II)Ljava/lang/StringBuilder;" } : Jvm.MethodName)) ∈ lw_all := lw_g (lw_at lw_m5 22 rfl) rfl
theorem q1018 : (Jvm.Cond.selects "java/lang/StringBuilder" ({ cls := "java/lang/StringBuilder", name := "delete", desc := "(II)Ljava/lang/StringBuilder;" } : Jvm.MethodName) ({ cls := "java/lang/StringBuilder", name := "delete", desc := "(II)Ljava/lang/StringBuilder;" } : Jvm.MethodName)) ∈ lw_all := lw_g (lw_at lw_m5 23 rfl) rfl
theorem q1019 : (Jvm.Cond.code ({ cls := "java/lang/StringBuilder", name := "delete", desc := "(II)Ljava/lang/StringBuilder;" } : Jvm.MethodName) prog_27_method_20_code (3 : Nat) (Option.some (Jvm.ClassFile.FieldType.object "java/lang/StringBuilder"))) ∈ lw_all := lw_g (lw_at lw_m5 24 rfl) rfl
theorem q1020 : (Jvm.Cond.methodLink "java/lang/StringBuilder" (68 : Nat) ({ cls := "java/lang/AbstractStringBuilder", name := "delete", desc := "(II)Ljava/lang/AbstractStringBuilder;" } : Jvm.MethodName)) ∈ lw_all := lw_g (lw_at lw_m5 25 rfl) rfl
theorem q1024 : (Jvm.Cond.instanceMethod ({ cls := "java/lang/StringBuilder", name := "insert", desc := "(ILjava/lang/String;)Ljava/lang/StringBuilder;" } : Jvm.MethodName)) ∈ lw_all := lw_g (lw_at lw_m5 29 rfl) rfl
theorem q1025 : (Jvm.Cond.selects "java/lang/StringBuilder" ({ cls := "java/lang/StringBuilder", name := "insert", desc := "(ILjava/lang/String;)Ljava/lang/StringBuilder;" } : Jvm.MethodName) ({ cls := "java/lang/StringBuilder", name := "insert", desc := "(ILjava/lang/String;)Ljava/lang/StringBuilder;" } : Jvm.MethodName)) ∈ lw_all := lw_g (lw_at lw_m5 30 rfl) rfl
theorem q1026 : (Jvm.Cond.code ({ cls := "java/lang/StringBuilder", name := "insert", desc := "(ILjava/lang/String;)Ljava/lang/StringBuilder;" } : Jvm.MethodName) prog_27_method_25_code (3 : Nat) (Option.some (Jvm.ClassFile.FieldType.object "java/lang/StringBuilder"))) ∈ lw_all := lw_g (lw_at lw_m5 31 rfl) rfl
theorem q1027 : (Jvm.Cond.methodLink "java/lang/StringBuilder" (86 : Nat) ({ cls := "java/lang/AbstractStringBuilder", name := "insert", desc := "(ILjava/lang/String;)Ljava/lang/AbstractStringBuilder;" } : Jvm.MethodName)) ∈ lw_all := lw_g (lw_at lw_m5 32 rfl) rfl
theorem q1545 : (Jvm.Cond.selects "java/lang/StringBuilder" ({ cls := "java/lang/AbstractStringBuilder", name := "length", desc := "()I" } : Jvm.MethodName) ({ cls := "java/lang/StringBuilder", name := "length", desc := "()I" } : Jvm.MethodName)) ∈ lw_all := lw_g (lw_at lw_m7 70 rfl) rfl
theorem q1552 : (Jvm.Cond.selects "java/lang/StringBuilder" ({ cls := "java/lang/AbstractStringBuilder", name := "append", desc := "(Ljava/lang/String;)Ljava/lang/AbstractStringBuilder;" } : Jvm.MethodName) ({ cls := "java/lang/StringBuilder", name := "append", desc := "(Ljava/lang/String;)Ljava/lang/AbstractStringBuilder;" } : Jvm.MethodName)) ∈ lw_all := lw_g (lw_at lw_m7 77 rfl) rfl
theorem q1559 : (Jvm.Cond.castable "java/lang/StringBuilder" "java/lang/AbstractStringBuilder") ∈ lw_tbl := lw_at lw_m7 84 rfl
theorem q1563 : (Jvm.Cond.castable "java/lang/StringBuilder" "java/lang/Object") ∈ lw_tbl := lw_at lw_m7 88 rfl
theorem in_J1 : ∀ w ∈ wsJ10, w ∈ lw_all := lw_in wsJ10 [100, 102, 104, 106] (by decide +kernel) (by decide +kernel)

/-! java/lang/String -/
set_option maxRecDepth 100000
def RJ2 : String := "java/lang/String"
def TJ2 : u_T := fun k => match k with
  | 0 => ("java/lang/String", "value", "[B", true)
  | 1 => ("java/lang/String", "coder", "B", true)
  | 2 => ("java/lang/String", "hash", "I", false)
  | _ => ("java/lang/String", "hashIsZero", "Z", false)
def tyJ2 : Nat → FieldType := fun k => match k with
  | 0 => .array .byte
  | 1 => .byte
  | 2 => .int
  | _ => .boolean
abbrev wsJ20 : List Cond := u_ws RJ2 TJ2 4
theorem nmJ2 : ∀ a, a < 4 → ∀ b, b < 4 → a ≠ b → (TJ2 a).2.1 ≠ (TJ2 b).2.1 := by decide +kernel
theorem tyJ2_ok : ∀ k, k < 4 → parseFieldDescriptor (TJ2 k).2.2.1 = some (tyJ2 k) := by decide +kernel
abbrev cJ2_checkBoundsBeginEnd : ByteArray := prog_25_method_158_code
def yJ2_checkBoundsBeginEnd : MethodName := ⟨RJ2, "checkBoundsBeginEnd", "(III)V"⟩
def dkwJ2_checkBoundsBeginEnd_0 : List UInt8 := [26, 27, 28, 178, 4, 29, 184, 4, 38, 87, 177]
abbrev dktJ2_checkBoundsBeginEnd_0 : List UInt8 := dkwJ2_checkBoundsBeginEnd_0 ++ []
theorem dksJ2_checkBoundsBeginEnd_0 : cJ2_checkBoundsBeginEnd.data.toList.drop 0 = dktJ2_checkBoundsBeginEnd_0 := by decide +kernel
theorem dJ2_checkBoundsBeginEnd_0 : decode cJ2_checkBoundsBeginEnd 0 = .ok (.iload_n 0, 1) := dk_26 (dk_at dksJ2_checkBoundsBeginEnd_0 0 rfl rfl)
theorem dJ2_checkBoundsBeginEnd_1 : decode cJ2_checkBoundsBeginEnd 1 = .ok (.iload_n 1, 1) := dk_27 (dk_at dksJ2_checkBoundsBeginEnd_0 1 rfl rfl)
theorem dJ2_checkBoundsBeginEnd_2 : decode cJ2_checkBoundsBeginEnd 2 = .ok (.iload_n 2, 1) := dk_28 (dk_at dksJ2_checkBoundsBeginEnd_0 2 rfl rfl)
theorem dJ2_checkBoundsBeginEnd_3 : decode cJ2_checkBoundsBeginEnd 3 = .ok (.getstatic 1053, 3) := dk_178 4 29 (dk_at dksJ2_checkBoundsBeginEnd_0 3 rfl rfl)
theorem dJ2_checkBoundsBeginEnd_6 : decode cJ2_checkBoundsBeginEnd 6 = .ok (.invokestatic 1062, 3) := dk_184 4 38 (dk_at dksJ2_checkBoundsBeginEnd_0 6 rfl rfl)
theorem dJ2_checkBoundsBeginEnd_9 : decode cJ2_checkBoundsBeginEnd 9 = .ok (.pop, 1) := dk_87 (dk_at dksJ2_checkBoundsBeginEnd_0 9 rfl rfl)
theorem dJ2_checkBoundsBeginEnd_10 : decode cJ2_checkBoundsBeginEnd 10 = .ok (.return_, 1) := dk_177 (dk_at dksJ2_checkBoundsBeginEnd_0 10 rfl rfl)
abbrev cJ2_length : ByteArray := prog_25_method_54_code
def yJ2_length : MethodName := ⟨RJ2, "length", "()I"⟩
def dkwJ2_length_0 : List UInt8 := [42, 180, 0, 9, 190, 42, 182, 1, 79, 122, 172]
abbrev dktJ2_length_0 : List UInt8 := dkwJ2_length_0 ++ []
theorem dksJ2_length_0 : cJ2_length.data.toList.drop 0 = dktJ2_length_0 := by decide +kernel
theorem dJ2_length_0 : decode cJ2_length 0 = .ok (.aload_n 0, 1) := dk_42 (dk_at dksJ2_length_0 0 rfl rfl)
theorem dJ2_length_1 : decode cJ2_length 1 = .ok (.getfield 9, 3) := dk_180 0 9 (dk_at dksJ2_length_0 1 rfl rfl)
theorem dJ2_length_4 : decode cJ2_length 4 = .ok (.arraylength, 1) := dk_190 (dk_at dksJ2_length_0 4 rfl rfl)
theorem dJ2_length_5 : decode cJ2_length 5 = .ok (.aload_n 0, 1) := dk_42 (dk_at dksJ2_length_0 5 rfl rfl)
theorem dJ2_length_6 : decode cJ2_length 6 = .ok (.invokevirtual 335, 3) := dk_182 1 79 (dk_at dksJ2_length_0 6 rfl rfl)
theorem dJ2_length_9 : decode cJ2_length 9 = .ok (.ishr, 1) := dk_122 (dk_at dksJ2_length_0 9 rfl rfl)
theorem dJ2_length_10 : decode cJ2_length 10 = .ok (.ireturn, 1) := dk_172 (dk_at dksJ2_length_0 10 rfl rfl)
abbrev cJ2_coder : ByteArray := prog_25_method_152_code
def yJ2_coder : MethodName := ⟨RJ2, "coder", "()B"⟩
def dkwJ2_coder_0 : List UInt8 := [178, 0, 38, 153, 0, 10, 42, 180, 0, 15, 167, 0, 4, 4, 172]
abbrev dktJ2_coder_0 : List UInt8 := dkwJ2_coder_0 ++ []
theorem dksJ2_coder_0 : cJ2_coder.data.toList.drop 0 = dktJ2_coder_0 := by decide +kernel
theorem dJ2_coder_0 : decode cJ2_coder 0 = .ok (.getstatic 38, 3) := dk_178 0 38 (dk_at dksJ2_coder_0 0 rfl rfl)
theorem dJ2_coder_3 : decode cJ2_coder 3 = .ok (.ifCond .eq 10, 3) := dk_153 0 10 (dk_at dksJ2_coder_0 3 rfl rfl)
theorem dJ2_coder_6 : decode cJ2_coder 6 = .ok (.aload_n 0, 1) := dk_42 (dk_at dksJ2_coder_0 6 rfl rfl)
theorem dJ2_coder_7 : decode cJ2_coder 7 = .ok (.getfield 15, 3) := dk_180 0 15 (dk_at dksJ2_coder_0 7 rfl rfl)
theorem dJ2_coder_10 : decode cJ2_coder 10 = .ok (.goto 4, 3) := dk_167 0 4 (dk_at dksJ2_coder_0 10 rfl rfl)
theorem dJ2_coder_13 : decode cJ2_coder 13 = .ok (.iconst 1, 1) := dk_4 (dk_at dksJ2_coder_0 13 rfl rfl)
theorem dJ2_coder_14 : decode cJ2_coder 14 = .ok (.ireturn, 1) := dk_172 (dk_at dksJ2_coder_0 14 rfl rfl)
abbrev cJ2_checkBoundsOffCount : ByteArray := prog_25_method_157_code
def yJ2_checkBoundsOffCount : MethodName := ⟨RJ2, "checkBoundsOffCount", "(III)I"⟩
def dkwJ2_checkBoundsOffCount_0 : List UInt8 := [26, 27, 28, 178, 4, 29, 184, 4, 41, 172]
abbrev dktJ2_checkBoundsOffCount_0 : List UInt8 := dkwJ2_checkBoundsOffCount_0 ++ []
theorem dksJ2_checkBoundsOffCount_0 : cJ2_checkBoundsOffCount.data.toList.drop 0 = dktJ2_checkBoundsOffCount_0 := by decide +kernel
theorem dJ2_checkBoundsOffCount_0 : decode cJ2_checkBoundsOffCount 0 = .ok (.iload_n 0, 1) := dk_26 (dk_at dksJ2_checkBoundsOffCount_0 0 rfl rfl)
theorem dJ2_checkBoundsOffCount_1 : decode cJ2_checkBoundsOffCount 1 = .ok (.iload_n 1, 1) := dk_27 (dk_at dksJ2_checkBoundsOffCount_0 1 rfl rfl)
theorem dJ2_checkBoundsOffCount_2 : decode cJ2_checkBoundsOffCount 2 = .ok (.iload_n 2, 1) := dk_28 (dk_at dksJ2_checkBoundsOffCount_0 2 rfl rfl)
theorem dJ2_checkBoundsOffCount_3 : decode cJ2_checkBoundsOffCount 3 = .ok (.getstatic 1053, 3) := dk_178 4 29 (dk_at dksJ2_checkBoundsOffCount_0 3 rfl rfl)
theorem dJ2_checkBoundsOffCount_6 : decode cJ2_checkBoundsOffCount 6 = .ok (.invokestatic 1065, 3) := dk_184 4 41 (dk_at dksJ2_checkBoundsOffCount_0 6 rfl rfl)
theorem dJ2_checkBoundsOffCount_9 : decode cJ2_checkBoundsOffCount 9 = .ok (.ireturn, 1) := dk_172 (dk_at dksJ2_checkBoundsOffCount_0 9 rfl rfl)
abbrev cJ2_getBytes : ByteArray := prog_25_method_147_code
def yJ2_getBytes : MethodName := ⟨RJ2, "getBytes", "([BIB)V"⟩
def dkwJ2_getBytes_1 : List UInt8 := [184, 0, 212, 167, 0, 18, 42, 180, 0, 9, 3, 43, 28, 42, 180, 0, 9, 190, 184, 0, 106, 177]
abbrev dktJ2_getBytes_1 : List UInt8 := dkwJ2_getBytes_1 ++ []
def dkwJ2_getBytes_0 : List UInt8 := [42, 182, 1, 79, 29, 160, 0, 23, 42, 180, 0, 9, 3, 43, 28, 29, 120, 42, 180, 0, 9, 190]
abbrev dktJ2_getBytes_0 : List UInt8 := dkwJ2_getBytes_0 ++ dktJ2_getBytes_1
theorem dksJ2_getBytes_0 : cJ2_getBytes.data.toList.drop 0 = dktJ2_getBytes_0 := by decide +kernel
theorem dksJ2_getBytes_1 : cJ2_getBytes.data.toList.drop 22 = dktJ2_getBytes_1 := dk_seg dksJ2_getBytes_0 22 rfl rfl
theorem dJ2_getBytes_0 : decode cJ2_getBytes 0 = .ok (.aload_n 0, 1) := dk_42 (dk_at dksJ2_getBytes_0 0 rfl rfl)
theorem dJ2_getBytes_1 : decode cJ2_getBytes 1 = .ok (.invokevirtual 335, 3) := dk_182 1 79 (dk_at dksJ2_getBytes_0 1 rfl rfl)
theorem dJ2_getBytes_4 : decode cJ2_getBytes 4 = .ok (.iload_n 3, 1) := dk_29 (dk_at dksJ2_getBytes_0 4 rfl rfl)
theorem dJ2_getBytes_5 : decode cJ2_getBytes 5 = .ok (.if_icmp .ne 23, 3) := dk_160 0 23 (dk_at dksJ2_getBytes_0 5 rfl rfl)
theorem dJ2_getBytes_8 : decode cJ2_getBytes 8 = .ok (.aload_n 0, 1) := dk_42 (dk_at dksJ2_getBytes_0 8 rfl rfl)
theorem dJ2_getBytes_9 : decode cJ2_getBytes 9 = .ok (.getfield 9, 3) := dk_180 0 9 (dk_at dksJ2_getBytes_0 9 rfl rfl)
theorem dJ2_getBytes_12 : decode cJ2_getBytes 12 = .ok (.iconst 0, 1) := dk_3 (dk_at dksJ2_getBytes_0 12 rfl rfl)
theorem dJ2_getBytes_13 : decode cJ2_getBytes 13 = .ok (.aload_n 1, 1) := dk_43 (dk_at dksJ2_getBytes_0 13 rfl rfl)
theorem dJ2_getBytes_14 : decode cJ2_getBytes 14 = .ok (.iload_n 2, 1) := dk_28 (dk_at dksJ2_getBytes_0 14 rfl rfl)
theorem dJ2_getBytes_15 : decode cJ2_getBytes 15 = .ok (.iload_n 3, 1) := dk_29 (dk_at dksJ2_getBytes_0 15 rfl rfl)
theorem dJ2_getBytes_16 : decode cJ2_getBytes 16 = .ok (.ishl, 1) := dk_120 (dk_at dksJ2_getBytes_0 16 rfl rfl)
theorem dJ2_getBytes_17 : decode cJ2_getBytes 17 = .ok (.aload_n 0, 1) := dk_42 (dk_at dksJ2_getBytes_0 17 rfl rfl)
theorem dJ2_getBytes_18 : decode cJ2_getBytes 18 = .ok (.getfield 9, 3) := dk_180 0 9 (dk_at dksJ2_getBytes_0 18 rfl rfl)
theorem dJ2_getBytes_21 : decode cJ2_getBytes 21 = .ok (.arraylength, 1) := dk_190 (dk_at dksJ2_getBytes_0 21 rfl rfl)
theorem dJ2_getBytes_22 : decode cJ2_getBytes 22 = .ok (.invokestatic 212, 3) := dk_184 0 212 (dk_at dksJ2_getBytes_1 0 rfl rfl)
theorem dJ2_getBytes_25 : decode cJ2_getBytes 25 = .ok (.goto 18, 3) := dk_167 0 18 (dk_at dksJ2_getBytes_1 3 rfl rfl)
theorem dJ2_getBytes_28 : decode cJ2_getBytes 28 = .ok (.aload_n 0, 1) := dk_42 (dk_at dksJ2_getBytes_1 6 rfl rfl)
theorem dJ2_getBytes_29 : decode cJ2_getBytes 29 = .ok (.getfield 9, 3) := dk_180 0 9 (dk_at dksJ2_getBytes_1 7 rfl rfl)
theorem dJ2_getBytes_32 : decode cJ2_getBytes 32 = .ok (.iconst 0, 1) := dk_3 (dk_at dksJ2_getBytes_1 10 rfl rfl)
theorem dJ2_getBytes_33 : decode cJ2_getBytes 33 = .ok (.aload_n 1, 1) := dk_43 (dk_at dksJ2_getBytes_1 11 rfl rfl)
theorem dJ2_getBytes_34 : decode cJ2_getBytes 34 = .ok (.iload_n 2, 1) := dk_28 (dk_at dksJ2_getBytes_1 12 rfl rfl)
theorem dJ2_getBytes_35 : decode cJ2_getBytes 35 = .ok (.aload_n 0, 1) := dk_42 (dk_at dksJ2_getBytes_1 13 rfl rfl)
theorem dJ2_getBytes_36 : decode cJ2_getBytes 36 = .ok (.getfield 9, 3) := dk_180 0 9 (dk_at dksJ2_getBytes_1 14 rfl rfl)
theorem dJ2_getBytes_39 : decode cJ2_getBytes 39 = .ok (.arraylength, 1) := dk_190 (dk_at dksJ2_getBytes_1 17 rfl rfl)
theorem dJ2_getBytes_40 : decode cJ2_getBytes 40 = .ok (.invokestatic 106, 3) := dk_184 0 106 (dk_at dksJ2_getBytes_1 18 rfl rfl)
theorem dJ2_getBytes_43 : decode cJ2_getBytes 43 = .ok (.return_, 1) := dk_177 (dk_at dksJ2_getBytes_1 21 rfl rfl)
abbrev cJ2_init : ByteArray := prog_25_method_53_code
def yJ2_init : MethodName := ⟨RJ2, "<init>", "(Ljava/lang/StringBuilder;)V"⟩
def dkwJ2_init_0 : List UInt8 := [42, 43, 1, 183, 1, 233, 177]
abbrev dktJ2_init_0 : List UInt8 := dkwJ2_init_0 ++ []
theorem dksJ2_init_0 : cJ2_init.data.toList.drop 0 = dktJ2_init_0 := by decide +kernel
theorem dJ2_init_0 : decode cJ2_init 0 = .ok (.aload_n 0, 1) := dk_42 (dk_at dksJ2_init_0 0 rfl rfl)
theorem dJ2_init_1 : decode cJ2_init 1 = .ok (.aload_n 1, 1) := dk_43 (dk_at dksJ2_init_0 1 rfl rfl)
theorem dJ2_init_2 : decode cJ2_init 2 = .ok (.aconst_null, 1) := dk_1 (dk_at dksJ2_init_0 2 rfl rfl)
theorem dJ2_init_3 : decode cJ2_init 3 = .ok (.invokespecial 489, 3) := dk_183 1 233 (dk_at dksJ2_init_0 3 rfl rfl)
theorem dJ2_init_6 : decode cJ2_init 6 = .ok (.return_, 1) := dk_177 (dk_at dksJ2_init_0 6 rfl rfl)
abbrev cJ2_init_2 : ByteArray := prog_25_method_150_code
def yJ2_init_2 : MethodName := ⟨RJ2, "<init>", "(Ljava/lang/AbstractStringBuilder;Ljava/lang/Void;)V"⟩
def dkwJ2_init_2_4 : List UInt8 := [181, 0, 9, 177]
abbrev dktJ2_init_2_4 : List UInt8 := dkwJ2_init_2_4 ++ []
def dkwJ2_init_2_3 : List UInt8 := [184, 0, 47, 181, 0, 15, 177, 42, 4, 181, 0, 15, 42, 45, 3, 21, 4, 4, 120, 184, 0, 54]
abbrev dktJ2_init_2_3 : List UInt8 := dkwJ2_init_2_3 ++ dktJ2_init_2_4
def dkwJ2_init_2_2 : List UInt8 := [180, 4, 24, 153, 0, 28, 42, 45, 3, 21, 4, 184, 4, 27, 181, 0, 9, 42, 42, 180, 0, 9, 21, 4]
abbrev dktJ2_init_2_2 : List UInt8 := dkwJ2_init_2_2 ++ dktJ2_init_2_3
def dkwJ2_init_2_1 : List UInt8 := [181, 0, 15, 42, 45, 3, 21, 4, 184, 0, 54, 181, 0, 9, 167, 0, 59, 178, 0, 38, 153, 0, 35, 43]
abbrev dktJ2_init_2_1 : List UInt8 := dkwJ2_init_2_1 ++ dktJ2_init_2_2
def dkwJ2_init_2_0 : List UInt8 := [42, 183, 0, 1, 43, 182, 2, 40, 78, 43, 182, 2, 37, 54, 4, 43, 182, 4, 23, 153, 0, 22, 42, 3]
abbrev dktJ2_init_2_0 : List UInt8 := dkwJ2_init_2_0 ++ dktJ2_init_2_1
theorem dksJ2_init_2_0 : cJ2_init_2.data.toList.drop 0 = dktJ2_init_2_0 := by decide +kernel
theorem dksJ2_init_2_1 : cJ2_init_2.data.toList.drop 24 = dktJ2_init_2_1 := dk_seg dksJ2_init_2_0 24 rfl rfl
theorem dksJ2_init_2_2 : cJ2_init_2.data.toList.drop 48 = dktJ2_init_2_2 := dk_seg dksJ2_init_2_1 24 rfl rfl
theorem dksJ2_init_2_3 : cJ2_init_2.data.toList.drop 72 = dktJ2_init_2_3 := dk_seg dksJ2_init_2_2 24 rfl rfl
theorem dksJ2_init_2_4 : cJ2_init_2.data.toList.drop 94 = dktJ2_init_2_4 := dk_seg dksJ2_init_2_3 22 rfl rfl
theorem dJ2_init_2_0 : decode cJ2_init_2 0 = .ok (.aload_n 0, 1) := dk_42 (dk_at dksJ2_init_2_0 0 rfl rfl)
theorem dJ2_init_2_1 : decode cJ2_init_2 1 = .ok (.invokespecial 1, 3) := dk_183 0 1 (dk_at dksJ2_init_2_0 1 rfl rfl)
theorem dJ2_init_2_4 : decode cJ2_init_2 4 = .ok (.aload_n 1, 1) := dk_43 (dk_at dksJ2_init_2_0 4 rfl rfl)
theorem dJ2_init_2_5 : decode cJ2_init_2 5 = .ok (.invokevirtual 552, 3) := dk_182 2 40 (dk_at dksJ2_init_2_0 5 rfl rfl)
theorem dJ2_init_2_8 : decode cJ2_init_2 8 = .ok (.astore_n 3, 1) := dk_78 (dk_at dksJ2_init_2_0 8 rfl rfl)
theorem dJ2_init_2_9 : decode cJ2_init_2 9 = .ok (.aload_n 1, 1) := dk_43 (dk_at dksJ2_init_2_0 9 rfl rfl)
theorem dJ2_init_2_10 : decode cJ2_init_2 10 = .ok (.invokevirtual 549, 3) := dk_182 2 37 (dk_at dksJ2_init_2_0 10 rfl rfl)
theorem dJ2_init_2_13 : decode cJ2_init_2 13 = .ok (.istore 4, 2) := dk_54 4 (dk_at dksJ2_init_2_0 13 rfl rfl)
theorem dJ2_init_2_15 : decode cJ2_init_2 15 = .ok (.aload_n 1, 1) := dk_43 (dk_at dksJ2_init_2_0 15 rfl rfl)
theorem dJ2_init_2_16 : decode cJ2_init_2 16 = .ok (.invokevirtual 1047, 3) := dk_182 4 23 (dk_at dksJ2_init_2_0 16 rfl rfl)
theorem dJ2_init_2_19 : decode cJ2_init_2 19 = .ok (.ifCond .eq 22, 3) := dk_153 0 22 (dk_at dksJ2_init_2_0 19 rfl rfl)
theorem dJ2_init_2_22 : decode cJ2_init_2 22 = .ok (.aload_n 0, 1) := dk_42 (dk_at dksJ2_init_2_0 22 rfl rfl)
theorem dJ2_init_2_23 : decode cJ2_init_2 23 = .ok (.iconst 0, 1) := dk_3 (dk_at dksJ2_init_2_0 23 rfl rfl)
theorem dJ2_init_2_24 : decode cJ2_init_2 24 = .ok (.putfield 15, 3) := dk_181 0 15 (dk_at dksJ2_init_2_1 0 rfl rfl)
theorem dJ2_init_2_27 : decode cJ2_init_2 27 = .ok (.aload_n 0, 1) := dk_42 (dk_at dksJ2_init_2_1 3 rfl rfl)
theorem dJ2_init_2_28 : decode cJ2_init_2 28 = .ok (.aload_n 3, 1) := dk_45 (dk_at dksJ2_init_2_1 4 rfl rfl)
theorem dJ2_init_2_29 : decode cJ2_init_2 29 = .ok (.iconst 0, 1) := dk_3 (dk_at dksJ2_init_2_1 5 rfl rfl)
theorem dJ2_init_2_30 : decode cJ2_init_2 30 = .ok (.iload 4, 2) := dk_21 4 (dk_at dksJ2_init_2_1 6 rfl rfl)
theorem dJ2_init_2_32 : decode cJ2_init_2 32 = .ok (.invokestatic 54, 3) := dk_184 0 54 (dk_at dksJ2_init_2_1 8 rfl rfl)
theorem dJ2_init_2_35 : decode cJ2_init_2 35 = .ok (.putfield 9, 3) := dk_181 0 9 (dk_at dksJ2_init_2_1 11 rfl rfl)
theorem dJ2_init_2_38 : decode cJ2_init_2 38 = .ok (.goto 59, 3) := dk_167 0 59 (dk_at dksJ2_init_2_1 14 rfl rfl)
theorem dJ2_init_2_41 : decode cJ2_init_2 41 = .ok (.getstatic 38, 3) := dk_178 0 38 (dk_at dksJ2_init_2_1 17 rfl rfl)
theorem dJ2_init_2_44 : decode cJ2_init_2 44 = .ok (.ifCond .eq 35, 3) := dk_153 0 35 (dk_at dksJ2_init_2_1 20 rfl rfl)
theorem dJ2_init_2_47 : decode cJ2_init_2 47 = .ok (.aload_n 1, 1) := dk_43 (dk_at dksJ2_init_2_1 23 rfl rfl)
theorem dJ2_init_2_48 : decode cJ2_init_2 48 = .ok (.getfield 1048, 3) := dk_180 4 24 (dk_at dksJ2_init_2_2 0 rfl rfl)
theorem dJ2_init_2_51 : decode cJ2_init_2 51 = .ok (.ifCond .eq 28, 3) := dk_153 0 28 (dk_at dksJ2_init_2_2 3 rfl rfl)
theorem dJ2_init_2_54 : decode cJ2_init_2 54 = .ok (.aload_n 0, 1) := dk_42 (dk_at dksJ2_init_2_2 6 rfl rfl)
theorem dJ2_init_2_55 : decode cJ2_init_2 55 = .ok (.aload_n 3, 1) := dk_45 (dk_at dksJ2_init_2_2 7 rfl rfl)
theorem dJ2_init_2_56 : decode cJ2_init_2 56 = .ok (.iconst 0, 1) := dk_3 (dk_at dksJ2_init_2_2 8 rfl rfl)
theorem dJ2_init_2_57 : decode cJ2_init_2 57 = .ok (.iload 4, 2) := dk_21 4 (dk_at dksJ2_init_2_2 9 rfl rfl)
theorem dJ2_init_2_59 : decode cJ2_init_2 59 = .ok (.invokestatic 1051, 3) := dk_184 4 27 (dk_at dksJ2_init_2_2 11 rfl rfl)
theorem dJ2_init_2_62 : decode cJ2_init_2 62 = .ok (.putfield 9, 3) := dk_181 0 9 (dk_at dksJ2_init_2_2 14 rfl rfl)
theorem dJ2_init_2_65 : decode cJ2_init_2 65 = .ok (.aload_n 0, 1) := dk_42 (dk_at dksJ2_init_2_2 17 rfl rfl)
theorem dJ2_init_2_66 : decode cJ2_init_2 66 = .ok (.aload_n 0, 1) := dk_42 (dk_at dksJ2_init_2_2 18 rfl rfl)
theorem dJ2_init_2_67 : decode cJ2_init_2 67 = .ok (.getfield 9, 3) := dk_180 0 9 (dk_at dksJ2_init_2_2 19 rfl rfl)
theorem dJ2_init_2_70 : decode cJ2_init_2 70 = .ok (.iload 4, 2) := dk_21 4 (dk_at dksJ2_init_2_2 22 rfl rfl)
theorem dJ2_init_2_72 : decode cJ2_init_2 72 = .ok (.invokestatic 47, 3) := dk_184 0 47 (dk_at dksJ2_init_2_3 0 rfl rfl)
theorem dJ2_init_2_75 : decode cJ2_init_2 75 = .ok (.putfield 15, 3) := dk_181 0 15 (dk_at dksJ2_init_2_3 3 rfl rfl)
theorem dJ2_init_2_78 : decode cJ2_init_2 78 = .ok (.return_, 1) := dk_177 (dk_at dksJ2_init_2_3 6 rfl rfl)
theorem dJ2_init_2_79 : decode cJ2_init_2 79 = .ok (.aload_n 0, 1) := dk_42 (dk_at dksJ2_init_2_3 7 rfl rfl)
theorem dJ2_init_2_80 : decode cJ2_init_2 80 = .ok (.iconst 1, 1) := dk_4 (dk_at dksJ2_init_2_3 8 rfl rfl)
theorem dJ2_init_2_81 : decode cJ2_init_2 81 = .ok (.putfield 15, 3) := dk_181 0 15 (dk_at dksJ2_init_2_3 9 rfl rfl)
theorem dJ2_init_2_84 : decode cJ2_init_2 84 = .ok (.aload_n 0, 1) := dk_42 (dk_at dksJ2_init_2_3 12 rfl rfl)
theorem dJ2_init_2_85 : decode cJ2_init_2 85 = .ok (.aload_n 3, 1) := dk_45 (dk_at dksJ2_init_2_3 13 rfl rfl)
theorem dJ2_init_2_86 : decode cJ2_init_2 86 = .ok (.iconst 0, 1) := dk_3 (dk_at dksJ2_init_2_3 14 rfl rfl)
theorem dJ2_init_2_87 : decode cJ2_init_2 87 = .ok (.iload 4, 2) := dk_21 4 (dk_at dksJ2_init_2_3 15 rfl rfl)
theorem dJ2_init_2_89 : decode cJ2_init_2 89 = .ok (.iconst 1, 1) := dk_4 (dk_at dksJ2_init_2_3 17 rfl rfl)
theorem dJ2_init_2_90 : decode cJ2_init_2 90 = .ok (.ishl, 1) := dk_120 (dk_at dksJ2_init_2_3 18 rfl rfl)
theorem dJ2_init_2_91 : decode cJ2_init_2 91 = .ok (.invokestatic 54, 3) := dk_184 0 54 (dk_at dksJ2_init_2_3 19 rfl rfl)
theorem dJ2_init_2_94 : decode cJ2_init_2 94 = .ok (.putfield 9, 3) := dk_181 0 9 (dk_at dksJ2_init_2_4 0 rfl rfl)
theorem dJ2_init_2_97 : decode cJ2_init_2 97 = .ok (.return_, 1) := dk_177 (dk_at dksJ2_init_2_4 3 rfl rfl)
abbrev cJ2_contentEquals : ByteArray := prog_25_method_69_code
def yJ2_contentEquals : MethodName := ⟨RJ2, "contentEquals", "(Ljava/lang/CharSequence;)Z"⟩
def dkwJ2_contentEquals_5 : List UInt8 := [167, 255, 226, 167, 0, 14, 45, 43, 28, 184, 2, 67, 154, 0, 5, 3, 172, 4, 172]
abbrev dktJ2_contentEquals_5 : List UInt8 := dkwJ2_contentEquals_5 ++ []
def dkwJ2_contentEquals_4 : List UInt8 := [21, 4, 51, 17, 0, 255, 126, 43, 21, 4, 185, 2, 65, 2, 0, 159, 0, 5, 3, 172, 132, 4, 1]
abbrev dktJ2_contentEquals_4 : List UInt8 := dkwJ2_contentEquals_4 ++ dktJ2_contentEquals_5
def dkwJ2_contentEquals_3 : List UInt8 := [3, 172, 42, 180, 0, 9, 78, 42, 182, 1, 236, 153, 0, 42, 3, 54, 4, 21, 4, 28, 162, 0, 30, 45]
abbrev dktJ2_contentEquals_3 : List UInt8 := dkwJ2_contentEquals_3 ++ dktJ2_contentEquals_4
def dkwJ2_contentEquals_2 : List UInt8 := [153, 0, 9, 42, 43, 182, 2, 59, 172, 43, 185, 2, 62, 1, 0, 61, 28, 42, 182, 1, 249, 159, 0, 5]
abbrev dktJ2_contentEquals_2 : List UInt8 := dkwJ2_contentEquals_2 ++ dktJ2_contentEquals_3
def dkwJ2_contentEquals_1 : List UInt8 := [182, 2, 55, 44, 195, 172, 78, 44, 195, 45, 191, 42, 43, 192, 2, 38, 182, 2, 55, 172, 43, 193, 0, 10]
abbrev dktJ2_contentEquals_1 : List UInt8 := dkwJ2_contentEquals_1 ++ dktJ2_contentEquals_2
def dkwJ2_contentEquals_0 : List UInt8 := [43, 193, 2, 38, 153, 0, 39, 43, 193, 1, 230, 153, 0, 23, 43, 89, 77, 194, 42, 43, 192, 2, 38]
abbrev dktJ2_contentEquals_0 : List UInt8 := dkwJ2_contentEquals_0 ++ dktJ2_contentEquals_1
theorem dksJ2_contentEquals_0 : cJ2_contentEquals.data.toList.drop 0 = dktJ2_contentEquals_0 := by decide +kernel
theorem dksJ2_contentEquals_1 : cJ2_contentEquals.data.toList.drop 23 = dktJ2_contentEquals_1 := dk_seg dksJ2_contentEquals_0 23 rfl rfl
theorem dksJ2_contentEquals_2 : cJ2_contentEquals.data.toList.drop 47 = dktJ2_contentEquals_2 := dk_seg dksJ2_contentEquals_1 24 rfl rfl
theorem dksJ2_contentEquals_3 : cJ2_contentEquals.data.toList.drop 71 = dktJ2_contentEquals_3 := dk_seg dksJ2_contentEquals_2 24 rfl rfl
theorem dksJ2_contentEquals_4 : cJ2_contentEquals.data.toList.drop 95 = dktJ2_contentEquals_4 := dk_seg dksJ2_contentEquals_3 24 rfl rfl
theorem dksJ2_contentEquals_5 : cJ2_contentEquals.data.toList.drop 118 = dktJ2_contentEquals_5 := dk_seg dksJ2_contentEquals_4 23 rfl rfl
theorem dJ2_contentEquals_0 : decode cJ2_contentEquals 0 = .ok (.aload_n 1, 1) := dk_43 (dk_at dksJ2_contentEquals_0 0 rfl rfl)
theorem dJ2_contentEquals_1 : decode cJ2_contentEquals 1 = .ok (.instanceof 550, 3) := dk_193 2 38 (dk_at dksJ2_contentEquals_0 1 rfl rfl)
theorem dJ2_contentEquals_4 : decode cJ2_contentEquals 4 = .ok (.ifCond .eq 39, 3) := dk_153 0 39 (dk_at dksJ2_contentEquals_0 4 rfl rfl)
theorem dJ2_contentEquals_7 : decode cJ2_contentEquals 7 = .ok (.aload_n 1, 1) := dk_43 (dk_at dksJ2_contentEquals_0 7 rfl rfl)
theorem dJ2_contentEquals_8 : decode cJ2_contentEquals 8 = .ok (.instanceof 486, 3) := dk_193 1 230 (dk_at dksJ2_contentEquals_0 8 rfl rfl)
theorem dJ2_contentEquals_11 : decode cJ2_contentEquals 11 = .ok (.ifCond .eq 23, 3) := dk_153 0 23 (dk_at dksJ2_contentEquals_0 11 rfl rfl)
theorem dJ2_contentEquals_14 : decode cJ2_contentEquals 14 = .ok (.aload_n 1, 1) := dk_43 (dk_at dksJ2_contentEquals_0 14 rfl rfl)
theorem dJ2_contentEquals_15 : decode cJ2_contentEquals 15 = .ok (.dup, 1) := dk_89 (dk_at dksJ2_contentEquals_0 15 rfl rfl)
theorem dJ2_contentEquals_16 : decode cJ2_contentEquals 16 = .ok (.astore_n 2, 1) := dk_77 (dk_at dksJ2_contentEquals_0 16 rfl rfl)
theorem dJ2_contentEquals_17 : decode cJ2_contentEquals 17 = .ok (.monitorenter, 1) := dk_194 (dk_at dksJ2_contentEquals_0 17 rfl rfl)
theorem dJ2_contentEquals_18 : decode cJ2_contentEquals 18 = .ok (.aload_n 0, 1) := dk_42 (dk_at dksJ2_contentEquals_0 18 rfl rfl)
theorem dJ2_contentEquals_19 : decode cJ2_contentEquals 19 = .ok (.aload_n 1, 1) := dk_43 (dk_at dksJ2_contentEquals_0 19 rfl rfl)
theorem dJ2_contentEquals_20 : decode cJ2_contentEquals 20 = .ok (.checkcast 550, 3) := dk_192 2 38 (dk_at dksJ2_contentEquals_0 20 rfl rfl)
theorem dJ2_contentEquals_23 : decode cJ2_contentEquals 23 = .ok (.invokevirtual 567, 3) := dk_182 2 55 (dk_at dksJ2_contentEquals_1 0 rfl rfl)
theorem dJ2_contentEquals_26 : decode cJ2_contentEquals 26 = .ok (.aload_n 2, 1) := dk_44 (dk_at dksJ2_contentEquals_1 3 rfl rfl)
theorem dJ2_contentEquals_27 : decode cJ2_contentEquals 27 = .ok (.monitorexit, 1) := dk_195 (dk_at dksJ2_contentEquals_1 4 rfl rfl)
theorem dJ2_contentEquals_28 : decode cJ2_contentEquals 28 = .ok (.ireturn, 1) := dk_172 (dk_at dksJ2_contentEquals_1 5 rfl rfl)
theorem dJ2_contentEquals_29 : decode cJ2_contentEquals 29 = .ok (.astore_n 3, 1) := dk_78 (dk_at dksJ2_contentEquals_1 6 rfl rfl)
theorem dJ2_contentEquals_30 : decode cJ2_contentEquals 30 = .ok (.aload_n 2, 1) := dk_44 (dk_at dksJ2_contentEquals_1 7 rfl rfl)
theorem dJ2_contentEquals_31 : decode cJ2_contentEquals 31 = .ok (.monitorexit, 1) := dk_195 (dk_at dksJ2_contentEquals_1 8 rfl rfl)
theorem dJ2_contentEquals_32 : decode cJ2_contentEquals 32 = .ok (.aload_n 3, 1) := dk_45 (dk_at dksJ2_contentEquals_1 9 rfl rfl)
theorem dJ2_contentEquals_33 : decode cJ2_contentEquals 33 = .ok (.athrow, 1) := dk_191 (dk_at dksJ2_contentEquals_1 10 rfl rfl)
theorem dJ2_contentEquals_34 : decode cJ2_contentEquals 34 = .ok (.aload_n 0, 1) := dk_42 (dk_at dksJ2_contentEquals_1 11 rfl rfl)
theorem dJ2_contentEquals_35 : decode cJ2_contentEquals 35 = .ok (.aload_n 1, 1) := dk_43 (dk_at dksJ2_contentEquals_1 12 rfl rfl)
theorem dJ2_contentEquals_36 : decode cJ2_contentEquals 36 = .ok (.checkcast 550, 3) := dk_192 2 38 (dk_at dksJ2_contentEquals_1 13 rfl rfl)
theorem dJ2_contentEquals_39 : decode cJ2_contentEquals 39 = .ok (.invokevirtual 567, 3) := dk_182 2 55 (dk_at dksJ2_contentEquals_1 16 rfl rfl)
theorem dJ2_contentEquals_42 : decode cJ2_contentEquals 42 = .ok (.ireturn, 1) := dk_172 (dk_at dksJ2_contentEquals_1 19 rfl rfl)
theorem dJ2_contentEquals_43 : decode cJ2_contentEquals 43 = .ok (.aload_n 1, 1) := dk_43 (dk_at dksJ2_contentEquals_1 20 rfl rfl)
theorem dJ2_contentEquals_44 : decode cJ2_contentEquals 44 = .ok (.instanceof 10, 3) := dk_193 0 10 (dk_at dksJ2_contentEquals_1 21 rfl rfl)
theorem dJ2_contentEquals_47 : decode cJ2_contentEquals 47 = .ok (.ifCond .eq 9, 3) := dk_153 0 9 (dk_at dksJ2_contentEquals_2 0 rfl rfl)
theorem dJ2_contentEquals_50 : decode cJ2_contentEquals 50 = .ok (.aload_n 0, 1) := dk_42 (dk_at dksJ2_contentEquals_2 3 rfl rfl)
theorem dJ2_contentEquals_51 : decode cJ2_contentEquals 51 = .ok (.aload_n 1, 1) := dk_43 (dk_at dksJ2_contentEquals_2 4 rfl rfl)
theorem dJ2_contentEquals_52 : decode cJ2_contentEquals 52 = .ok (.invokevirtual 571, 3) := dk_182 2 59 (dk_at dksJ2_contentEquals_2 5 rfl rfl)
theorem dJ2_contentEquals_55 : decode cJ2_contentEquals 55 = .ok (.ireturn, 1) := dk_172 (dk_at dksJ2_contentEquals_2 8 rfl rfl)
theorem dJ2_contentEquals_56 : decode cJ2_contentEquals 56 = .ok (.aload_n 1, 1) := dk_43 (dk_at dksJ2_contentEquals_2 9 rfl rfl)
theorem dJ2_contentEquals_57 : decode cJ2_contentEquals 57 = .ok (.invokeinterface 574 1, 5) := by decide +kernel
theorem dJ2_contentEquals_62 : decode cJ2_contentEquals 62 = .ok (.istore_n 2, 1) := dk_61 (dk_at dksJ2_contentEquals_2 15 rfl rfl)
theorem dJ2_contentEquals_63 : decode cJ2_contentEquals 63 = .ok (.iload_n 2, 1) := dk_28 (dk_at dksJ2_contentEquals_2 16 rfl rfl)
theorem dJ2_contentEquals_64 : decode cJ2_contentEquals 64 = .ok (.aload_n 0, 1) := dk_42 (dk_at dksJ2_contentEquals_2 17 rfl rfl)
theorem dJ2_contentEquals_65 : decode cJ2_contentEquals 65 = .ok (.invokevirtual 505, 3) := dk_182 1 249 (dk_at dksJ2_contentEquals_2 18 rfl rfl)
theorem dJ2_contentEquals_68 : decode cJ2_contentEquals 68 = .ok (.if_icmp .eq 5, 3) := dk_159 0 5 (dk_at dksJ2_contentEquals_2 21 rfl rfl)
theorem dJ2_contentEquals_71 : decode cJ2_contentEquals 71 = .ok (.iconst 0, 1) := dk_3 (dk_at dksJ2_contentEquals_3 0 rfl rfl)
theorem dJ2_contentEquals_72 : decode cJ2_contentEquals 72 = .ok (.ireturn, 1) := dk_172 (dk_at dksJ2_contentEquals_3 1 rfl rfl)
theorem dJ2_contentEquals_73 : decode cJ2_contentEquals 73 = .ok (.aload_n 0, 1) := dk_42 (dk_at dksJ2_contentEquals_3 2 rfl rfl)
theorem dJ2_contentEquals_74 : decode cJ2_contentEquals 74 = .ok (.getfield 9, 3) := dk_180 0 9 (dk_at dksJ2_contentEquals_3 3 rfl rfl)
theorem dJ2_contentEquals_77 : decode cJ2_contentEquals 77 = .ok (.astore_n 3, 1) := dk_78 (dk_at dksJ2_contentEquals_3 6 rfl rfl)
theorem dJ2_contentEquals_78 : decode cJ2_contentEquals 78 = .ok (.aload_n 0, 1) := dk_42 (dk_at dksJ2_contentEquals_3 7 rfl rfl)
theorem dJ2_contentEquals_79 : decode cJ2_contentEquals 79 = .ok (.invokevirtual 492, 3) := dk_182 1 236 (dk_at dksJ2_contentEquals_3 8 rfl rfl)
theorem dJ2_contentEquals_82 : decode cJ2_contentEquals 82 = .ok (.ifCond .eq 42, 3) := dk_153 0 42 (dk_at dksJ2_contentEquals_3 11 rfl rfl)
theorem dJ2_contentEquals_85 : decode cJ2_contentEquals 85 = .ok (.iconst 0, 1) := dk_3 (dk_at dksJ2_contentEquals_3 14 rfl rfl)
theorem dJ2_contentEquals_86 : decode cJ2_contentEquals 86 = .ok (.istore 4, 2) := dk_54 4 (dk_at dksJ2_contentEquals_3 15 rfl rfl)
theorem dJ2_contentEquals_88 : decode cJ2_contentEquals 88 = .ok (.iload 4, 2) := dk_21 4 (dk_at dksJ2_contentEquals_3 17 rfl rfl)
theorem dJ2_contentEquals_90 : decode cJ2_contentEquals 90 = .ok (.iload_n 2, 1) := dk_28 (dk_at dksJ2_contentEquals_3 19 rfl rfl)
theorem dJ2_contentEquals_91 : decode cJ2_contentEquals 91 = .ok (.if_icmp .ge 30, 3) := dk_162 0 30 (dk_at dksJ2_contentEquals_3 20 rfl rfl)
theorem dJ2_contentEquals_94 : decode cJ2_contentEquals 94 = .ok (.aload_n 3, 1) := dk_45 (dk_at dksJ2_contentEquals_3 23 rfl rfl)
theorem dJ2_contentEquals_95 : decode cJ2_contentEquals 95 = .ok (.iload 4, 2) := dk_21 4 (dk_at dksJ2_contentEquals_4 0 rfl rfl)
theorem dJ2_contentEquals_97 : decode cJ2_contentEquals 97 = .ok (.baload, 1) := dk_51 (dk_at dksJ2_contentEquals_4 2 rfl rfl)
theorem dJ2_contentEquals_98 : decode cJ2_contentEquals 98 = .ok (.sipush 255, 3) := dk_17 0 255 (dk_at dksJ2_contentEquals_4 3 rfl rfl)
theorem dJ2_contentEquals_101 : decode cJ2_contentEquals 101 = .ok (.iand, 1) := dk_126 (dk_at dksJ2_contentEquals_4 6 rfl rfl)
theorem dJ2_contentEquals_102 : decode cJ2_contentEquals 102 = .ok (.aload_n 1, 1) := dk_43 (dk_at dksJ2_contentEquals_4 7 rfl rfl)
theorem dJ2_contentEquals_103 : decode cJ2_contentEquals 103 = .ok (.iload 4, 2) := dk_21 4 (dk_at dksJ2_contentEquals_4 8 rfl rfl)
theorem dJ2_contentEquals_105 : decode cJ2_contentEquals 105 = .ok (.invokeinterface 577 2, 5) := by decide +kernel
theorem dJ2_contentEquals_110 : decode cJ2_contentEquals 110 = .ok (.if_icmp .eq 5, 3) := dk_159 0 5 (dk_at dksJ2_contentEquals_4 15 rfl rfl)
theorem dJ2_contentEquals_113 : decode cJ2_contentEquals 113 = .ok (.iconst 0, 1) := dk_3 (dk_at dksJ2_contentEquals_4 18 rfl rfl)
theorem dJ2_contentEquals_114 : decode cJ2_contentEquals 114 = .ok (.ireturn, 1) := dk_172 (dk_at dksJ2_contentEquals_4 19 rfl rfl)
theorem dJ2_contentEquals_115 : decode cJ2_contentEquals 115 = .ok (.iinc 4 1, 3) := dk_132 4 1 (dk_at dksJ2_contentEquals_4 20 rfl rfl)
theorem dJ2_contentEquals_118 : decode cJ2_contentEquals 118 = .ok (.goto (-30), 3) := dk_167 255 226 (dk_at dksJ2_contentEquals_5 0 rfl rfl)
theorem dJ2_contentEquals_121 : decode cJ2_contentEquals 121 = .ok (.goto 14, 3) := dk_167 0 14 (dk_at dksJ2_contentEquals_5 3 rfl rfl)
theorem dJ2_contentEquals_124 : decode cJ2_contentEquals 124 = .ok (.aload_n 3, 1) := dk_45 (dk_at dksJ2_contentEquals_5 6 rfl rfl)
theorem dJ2_contentEquals_125 : decode cJ2_contentEquals 125 = .ok (.aload_n 1, 1) := dk_43 (dk_at dksJ2_contentEquals_5 7 rfl rfl)
theorem dJ2_contentEquals_126 : decode cJ2_contentEquals 126 = .ok (.iload_n 2, 1) := dk_28 (dk_at dksJ2_contentEquals_5 8 rfl rfl)
theorem dJ2_contentEquals_127 : decode cJ2_contentEquals 127 = .ok (.invokestatic 579, 3) := dk_184 2 67 (dk_at dksJ2_contentEquals_5 9 rfl rfl)
theorem dJ2_contentEquals_130 : decode cJ2_contentEquals 130 = .ok (.ifCond .ne 5, 3) := dk_154 0 5 (dk_at dksJ2_contentEquals_5 12 rfl rfl)
theorem dJ2_contentEquals_133 : decode cJ2_contentEquals 133 = .ok (.iconst 0, 1) := dk_3 (dk_at dksJ2_contentEquals_5 15 rfl rfl)
theorem dJ2_contentEquals_134 : decode cJ2_contentEquals 134 = .ok (.ireturn, 1) := dk_172 (dk_at dksJ2_contentEquals_5 16 rfl rfl)
theorem dJ2_contentEquals_135 : decode cJ2_contentEquals 135 = .ok (.iconst 1, 1) := dk_4 (dk_at dksJ2_contentEquals_5 17 rfl rfl)
theorem dJ2_contentEquals_136 : decode cJ2_contentEquals 136 = .ok (.ireturn, 1) := dk_172 (dk_at dksJ2_contentEquals_5 18 rfl rfl)
abbrev cJ2_nonSyncContentEquals : ByteArray := prog_25_method_68_code
def yJ2_nonSyncContentEquals : MethodName := ⟨RJ2, "nonSyncContentEquals", "(Ljava/lang/AbstractStringBuilder;)Z"⟩
def dkwJ2_nonSyncContentEquals_3 : List UInt8 := [153, 0, 5, 3, 172, 45, 25, 4, 28, 184, 2, 52, 172]
abbrev dktJ2_nonSyncContentEquals_3 : List UInt8 := dkwJ2_nonSyncContentEquals_3 ++ []
def dkwJ2_nonSyncContentEquals_2 : List UInt8 := [163, 0, 18, 45, 25, 4, 45, 190, 184, 2, 46, 156, 0, 7, 4, 167, 0, 4, 3, 172, 21, 5]
abbrev dktJ2_nonSyncContentEquals_2 : List UInt8 := dkwJ2_nonSyncContentEquals_2 ++ dktJ2_nonSyncContentEquals_3
def dkwJ2_nonSyncContentEquals_1 : List UInt8 := [58, 4, 42, 182, 1, 79, 54, 5, 21, 5, 43, 182, 2, 43, 160, 0, 28, 45, 190, 25, 4, 190]
abbrev dktJ2_nonSyncContentEquals_1 : List UInt8 := dkwJ2_nonSyncContentEquals_1 ++ dktJ2_nonSyncContentEquals_2
def dkwJ2_nonSyncContentEquals_0 : List UInt8 := [42, 182, 1, 249, 61, 28, 43, 182, 2, 37, 159, 0, 5, 3, 172, 42, 180, 0, 9, 78, 43, 182, 2, 40]
abbrev dktJ2_nonSyncContentEquals_0 : List UInt8 := dkwJ2_nonSyncContentEquals_0 ++ dktJ2_nonSyncContentEquals_1
theorem dksJ2_nonSyncContentEquals_0 : cJ2_nonSyncContentEquals.data.toList.drop 0 = dktJ2_nonSyncContentEquals_0 := by decide +kernel
theorem dksJ2_nonSyncContentEquals_1 : cJ2_nonSyncContentEquals.data.toList.drop 24 = dktJ2_nonSyncContentEquals_1 := dk_seg dksJ2_nonSyncContentEquals_0 24 rfl rfl
theorem dksJ2_nonSyncContentEquals_2 : cJ2_nonSyncContentEquals.data.toList.drop 46 = dktJ2_nonSyncContentEquals_2 := dk_seg dksJ2_nonSyncContentEquals_1 22 rfl rfl
theorem dksJ2_nonSyncContentEquals_3 : cJ2_nonSyncContentEquals.data.toList.drop 68 = dktJ2_nonSyncContentEquals_3 := dk_seg dksJ2_nonSyncContentEquals_2 22 rfl rfl
theorem dJ2_nonSyncContentEquals_0 : decode cJ2_nonSyncContentEquals 0 = .ok (.aload_n 0, 1) := dk_42 (dk_at dksJ2_nonSyncContentEquals_0 0 rfl rfl)
theorem dJ2_nonSyncContentEquals_1 : decode cJ2_nonSyncContentEquals 1 = .ok (.invokevirtual 505, 3) := dk_182 1 249 (dk_at dksJ2_nonSyncContentEquals_0 1 rfl rfl)
theorem dJ2_nonSyncContentEquals_4 : decode cJ2_nonSyncContentEquals 4 = .ok (.istore_n 2, 1) := dk_61 (dk_at dksJ2_nonSyncContentEquals_0 4 rfl rfl)
theorem dJ2_nonSyncContentEquals_5 : decode cJ2_nonSyncContentEquals 5 = .ok (.iload_n 2, 1) := dk_28 (dk_at dksJ2_nonSyncContentEquals_0 5 rfl rfl)
theorem dJ2_nonSyncContentEquals_6 : decode cJ2_nonSyncContentEquals 6 = .ok (.aload_n 1, 1) := dk_43 (dk_at dksJ2_nonSyncContentEquals_0 6 rfl rfl)
theorem dJ2_nonSyncContentEquals_7 : decode cJ2_nonSyncContentEquals 7 = .ok (.invokevirtual 549, 3) := dk_182 2 37 (dk_at dksJ2_nonSyncContentEquals_0 7 rfl rfl)
theorem dJ2_nonSyncContentEquals_10 : decode cJ2_nonSyncContentEquals 10 = .ok (.if_icmp .eq 5, 3) := dk_159 0 5 (dk_at dksJ2_nonSyncContentEquals_0 10 rfl rfl)
theorem dJ2_nonSyncContentEquals_13 : decode cJ2_nonSyncContentEquals 13 = .ok (.iconst 0, 1) := dk_3 (dk_at dksJ2_nonSyncContentEquals_0 13 rfl rfl)
theorem dJ2_nonSyncContentEquals_14 : decode cJ2_nonSyncContentEquals 14 = .ok (.ireturn, 1) := dk_172 (dk_at dksJ2_nonSyncContentEquals_0 14 rfl rfl)
theorem dJ2_nonSyncContentEquals_15 : decode cJ2_nonSyncContentEquals 15 = .ok (.aload_n 0, 1) := dk_42 (dk_at dksJ2_nonSyncContentEquals_0 15 rfl rfl)
theorem dJ2_nonSyncContentEquals_16 : decode cJ2_nonSyncContentEquals 16 = .ok (.getfield 9, 3) := dk_180 0 9 (dk_at dksJ2_nonSyncContentEquals_0 16 rfl rfl)
theorem dJ2_nonSyncContentEquals_19 : decode cJ2_nonSyncContentEquals 19 = .ok (.astore_n 3, 1) := dk_78 (dk_at dksJ2_nonSyncContentEquals_0 19 rfl rfl)
theorem dJ2_nonSyncContentEquals_20 : decode cJ2_nonSyncContentEquals 20 = .ok (.aload_n 1, 1) := dk_43 (dk_at dksJ2_nonSyncContentEquals_0 20 rfl rfl)
theorem dJ2_nonSyncContentEquals_21 : decode cJ2_nonSyncContentEquals 21 = .ok (.invokevirtual 552, 3) := dk_182 2 40 (dk_at dksJ2_nonSyncContentEquals_0 21 rfl rfl)
theorem dJ2_nonSyncContentEquals_24 : decode cJ2_nonSyncContentEquals 24 = .ok (.astore 4, 2) := dk_58 4 (dk_at dksJ2_nonSyncContentEquals_1 0 rfl rfl)
theorem dJ2_nonSyncContentEquals_26 : decode cJ2_nonSyncContentEquals 26 = .ok (.aload_n 0, 1) := dk_42 (dk_at dksJ2_nonSyncContentEquals_1 2 rfl rfl)
theorem dJ2_nonSyncContentEquals_27 : decode cJ2_nonSyncContentEquals 27 = .ok (.invokevirtual 335, 3) := dk_182 1 79 (dk_at dksJ2_nonSyncContentEquals_1 3 rfl rfl)
theorem dJ2_nonSyncContentEquals_30 : decode cJ2_nonSyncContentEquals 30 = .ok (.istore 5, 2) := dk_54 5 (dk_at dksJ2_nonSyncContentEquals_1 6 rfl rfl)
theorem dJ2_nonSyncContentEquals_32 : decode cJ2_nonSyncContentEquals 32 = .ok (.iload 5, 2) := dk_21 5 (dk_at dksJ2_nonSyncContentEquals_1 8 rfl rfl)
theorem dJ2_nonSyncContentEquals_34 : decode cJ2_nonSyncContentEquals 34 = .ok (.aload_n 1, 1) := dk_43 (dk_at dksJ2_nonSyncContentEquals_1 10 rfl rfl)
theorem dJ2_nonSyncContentEquals_35 : decode cJ2_nonSyncContentEquals 35 = .ok (.invokevirtual 555, 3) := dk_182 2 43 (dk_at dksJ2_nonSyncContentEquals_1 11 rfl rfl)
theorem dJ2_nonSyncContentEquals_38 : decode cJ2_nonSyncContentEquals 38 = .ok (.if_icmp .ne 28, 3) := dk_160 0 28 (dk_at dksJ2_nonSyncContentEquals_1 14 rfl rfl)
theorem dJ2_nonSyncContentEquals_41 : decode cJ2_nonSyncContentEquals 41 = .ok (.aload_n 3, 1) := dk_45 (dk_at dksJ2_nonSyncContentEquals_1 17 rfl rfl)
theorem dJ2_nonSyncContentEquals_42 : decode cJ2_nonSyncContentEquals 42 = .ok (.arraylength, 1) := dk_190 (dk_at dksJ2_nonSyncContentEquals_1 18 rfl rfl)
theorem dJ2_nonSyncContentEquals_43 : decode cJ2_nonSyncContentEquals 43 = .ok (.aload 4, 2) := dk_25 4 (dk_at dksJ2_nonSyncContentEquals_1 19 rfl rfl)
theorem dJ2_nonSyncContentEquals_45 : decode cJ2_nonSyncContentEquals 45 = .ok (.arraylength, 1) := dk_190 (dk_at dksJ2_nonSyncContentEquals_1 21 rfl rfl)
theorem dJ2_nonSyncContentEquals_46 : decode cJ2_nonSyncContentEquals 46 = .ok (.if_icmp .gt 18, 3) := dk_163 0 18 (dk_at dksJ2_nonSyncContentEquals_2 0 rfl rfl)
theorem dJ2_nonSyncContentEquals_49 : decode cJ2_nonSyncContentEquals 49 = .ok (.aload_n 3, 1) := dk_45 (dk_at dksJ2_nonSyncContentEquals_2 3 rfl rfl)
theorem dJ2_nonSyncContentEquals_50 : decode cJ2_nonSyncContentEquals 50 = .ok (.aload 4, 2) := dk_25 4 (dk_at dksJ2_nonSyncContentEquals_2 4 rfl rfl)
theorem dJ2_nonSyncContentEquals_52 : decode cJ2_nonSyncContentEquals 52 = .ok (.aload_n 3, 1) := dk_45 (dk_at dksJ2_nonSyncContentEquals_2 6 rfl rfl)
theorem dJ2_nonSyncContentEquals_53 : decode cJ2_nonSyncContentEquals 53 = .ok (.arraylength, 1) := dk_190 (dk_at dksJ2_nonSyncContentEquals_2 7 rfl rfl)
theorem dJ2_nonSyncContentEquals_54 : decode cJ2_nonSyncContentEquals 54 = .ok (.invokestatic 558, 3) := dk_184 2 46 (dk_at dksJ2_nonSyncContentEquals_2 8 rfl rfl)
theorem dJ2_nonSyncContentEquals_57 : decode cJ2_nonSyncContentEquals 57 = .ok (.ifCond .ge 7, 3) := dk_156 0 7 (dk_at dksJ2_nonSyncContentEquals_2 11 rfl rfl)
theorem dJ2_nonSyncContentEquals_60 : decode cJ2_nonSyncContentEquals 60 = .ok (.iconst 1, 1) := dk_4 (dk_at dksJ2_nonSyncContentEquals_2 14 rfl rfl)
theorem dJ2_nonSyncContentEquals_61 : decode cJ2_nonSyncContentEquals 61 = .ok (.goto 4, 3) := dk_167 0 4 (dk_at dksJ2_nonSyncContentEquals_2 15 rfl rfl)
theorem dJ2_nonSyncContentEquals_64 : decode cJ2_nonSyncContentEquals 64 = .ok (.iconst 0, 1) := dk_3 (dk_at dksJ2_nonSyncContentEquals_2 18 rfl rfl)
theorem dJ2_nonSyncContentEquals_65 : decode cJ2_nonSyncContentEquals 65 = .ok (.ireturn, 1) := dk_172 (dk_at dksJ2_nonSyncContentEquals_2 19 rfl rfl)
theorem dJ2_nonSyncContentEquals_66 : decode cJ2_nonSyncContentEquals 66 = .ok (.iload 5, 2) := dk_21 5 (dk_at dksJ2_nonSyncContentEquals_2 20 rfl rfl)
theorem dJ2_nonSyncContentEquals_68 : decode cJ2_nonSyncContentEquals 68 = .ok (.ifCond .eq 5, 3) := dk_153 0 5 (dk_at dksJ2_nonSyncContentEquals_3 0 rfl rfl)
theorem dJ2_nonSyncContentEquals_71 : decode cJ2_nonSyncContentEquals 71 = .ok (.iconst 0, 1) := dk_3 (dk_at dksJ2_nonSyncContentEquals_3 3 rfl rfl)
theorem dJ2_nonSyncContentEquals_72 : decode cJ2_nonSyncContentEquals 72 = .ok (.ireturn, 1) := dk_172 (dk_at dksJ2_nonSyncContentEquals_3 4 rfl rfl)
theorem dJ2_nonSyncContentEquals_73 : decode cJ2_nonSyncContentEquals 73 = .ok (.aload_n 3, 1) := dk_45 (dk_at dksJ2_nonSyncContentEquals_3 5 rfl rfl)
theorem dJ2_nonSyncContentEquals_74 : decode cJ2_nonSyncContentEquals 74 = .ok (.aload 4, 2) := dk_25 4 (dk_at dksJ2_nonSyncContentEquals_3 6 rfl rfl)
theorem dJ2_nonSyncContentEquals_76 : decode cJ2_nonSyncContentEquals 76 = .ok (.iload_n 2, 1) := dk_28 (dk_at dksJ2_nonSyncContentEquals_3 8 rfl rfl)
theorem dJ2_nonSyncContentEquals_77 : decode cJ2_nonSyncContentEquals 77 = .ok (.invokestatic 564, 3) := dk_184 2 52 (dk_at dksJ2_nonSyncContentEquals_3 9 rfl rfl)
theorem dJ2_nonSyncContentEquals_80 : decode cJ2_nonSyncContentEquals 80 = .ok (.ireturn, 1) := dk_172 (dk_at dksJ2_nonSyncContentEquals_3 12 rfl rfl)
abbrev cJ2_equals : ByteArray := prog_25_method_66_code
def yJ2_equals : MethodName := ⟨RJ2, "equals", "(Ljava/lang/Object;)Z"⟩
def dkwJ2_equals_2 : List UInt8 := [184, 2, 29, 153, 0, 7, 4, 167, 0, 4, 3, 172]
abbrev dktJ2_equals_2 : List UInt8 := dkwJ2_equals_2 ++ []
def dkwJ2_equals_1 : List UInt8 := [153, 0, 14, 42, 180, 0, 15, 44, 180, 0, 15, 160, 0, 21, 42, 180, 0, 9, 44, 180, 0, 9]
abbrev dktJ2_equals_1 : List UInt8 := dkwJ2_equals_1 ++ dktJ2_equals_2
def dkwJ2_equals_0 : List UInt8 := [42, 43, 166, 0, 5, 4, 172, 43, 193, 0, 10, 153, 0, 43, 43, 192, 0, 10, 77, 178, 0, 38]
abbrev dktJ2_equals_0 : List UInt8 := dkwJ2_equals_0 ++ dktJ2_equals_1
theorem dksJ2_equals_0 : cJ2_equals.data.toList.drop 0 = dktJ2_equals_0 := by decide +kernel
theorem dksJ2_equals_1 : cJ2_equals.data.toList.drop 22 = dktJ2_equals_1 := dk_seg dksJ2_equals_0 22 rfl rfl
theorem dksJ2_equals_2 : cJ2_equals.data.toList.drop 44 = dktJ2_equals_2 := dk_seg dksJ2_equals_1 22 rfl rfl
theorem dJ2_equals_0 : decode cJ2_equals 0 = .ok (.aload_n 0, 1) := dk_42 (dk_at dksJ2_equals_0 0 rfl rfl)
theorem dJ2_equals_1 : decode cJ2_equals 1 = .ok (.aload_n 1, 1) := dk_43 (dk_at dksJ2_equals_0 1 rfl rfl)
theorem dJ2_equals_2 : decode cJ2_equals 2 = .ok (.if_acmp .ne 5, 3) := dk_166 0 5 (dk_at dksJ2_equals_0 2 rfl rfl)
theorem dJ2_equals_5 : decode cJ2_equals 5 = .ok (.iconst 1, 1) := dk_4 (dk_at dksJ2_equals_0 5 rfl rfl)
theorem dJ2_equals_6 : decode cJ2_equals 6 = .ok (.ireturn, 1) := dk_172 (dk_at dksJ2_equals_0 6 rfl rfl)
theorem dJ2_equals_7 : decode cJ2_equals 7 = .ok (.aload_n 1, 1) := dk_43 (dk_at dksJ2_equals_0 7 rfl rfl)
theorem dJ2_equals_8 : decode cJ2_equals 8 = .ok (.instanceof 10, 3) := dk_193 0 10 (dk_at dksJ2_equals_0 8 rfl rfl)
theorem dJ2_equals_11 : decode cJ2_equals 11 = .ok (.ifCond .eq 43, 3) := dk_153 0 43 (dk_at dksJ2_equals_0 11 rfl rfl)
theorem dJ2_equals_14 : decode cJ2_equals 14 = .ok (.aload_n 1, 1) := dk_43 (dk_at dksJ2_equals_0 14 rfl rfl)
theorem dJ2_equals_15 : decode cJ2_equals 15 = .ok (.checkcast 10, 3) := dk_192 0 10 (dk_at dksJ2_equals_0 15 rfl rfl)
theorem dJ2_equals_18 : decode cJ2_equals 18 = .ok (.astore_n 2, 1) := dk_77 (dk_at dksJ2_equals_0 18 rfl rfl)
theorem dJ2_equals_19 : decode cJ2_equals 19 = .ok (.getstatic 38, 3) := dk_178 0 38 (dk_at dksJ2_equals_0 19 rfl rfl)
theorem dJ2_equals_22 : decode cJ2_equals 22 = .ok (.ifCond .eq 14, 3) := dk_153 0 14 (dk_at dksJ2_equals_1 0 rfl rfl)
theorem dJ2_equals_25 : decode cJ2_equals 25 = .ok (.aload_n 0, 1) := dk_42 (dk_at dksJ2_equals_1 3 rfl rfl)
theorem dJ2_equals_26 : decode cJ2_equals 26 = .ok (.getfield 15, 3) := dk_180 0 15 (dk_at dksJ2_equals_1 4 rfl rfl)
theorem dJ2_equals_29 : decode cJ2_equals 29 = .ok (.aload_n 2, 1) := dk_44 (dk_at dksJ2_equals_1 7 rfl rfl)
theorem dJ2_equals_30 : decode cJ2_equals 30 = .ok (.getfield 15, 3) := dk_180 0 15 (dk_at dksJ2_equals_1 8 rfl rfl)
theorem dJ2_equals_33 : decode cJ2_equals 33 = .ok (.if_icmp .ne 21, 3) := dk_160 0 21 (dk_at dksJ2_equals_1 11 rfl rfl)
theorem dJ2_equals_36 : decode cJ2_equals 36 = .ok (.aload_n 0, 1) := dk_42 (dk_at dksJ2_equals_1 14 rfl rfl)
theorem dJ2_equals_37 : decode cJ2_equals 37 = .ok (.getfield 9, 3) := dk_180 0 9 (dk_at dksJ2_equals_1 15 rfl rfl)
theorem dJ2_equals_40 : decode cJ2_equals 40 = .ok (.aload_n 2, 1) := dk_44 (dk_at dksJ2_equals_1 18 rfl rfl)
theorem dJ2_equals_41 : decode cJ2_equals 41 = .ok (.getfield 9, 3) := dk_180 0 9 (dk_at dksJ2_equals_1 19 rfl rfl)
theorem dJ2_equals_44 : decode cJ2_equals 44 = .ok (.invokestatic 541, 3) := dk_184 2 29 (dk_at dksJ2_equals_2 0 rfl rfl)
theorem dJ2_equals_47 : decode cJ2_equals 47 = .ok (.ifCond .eq 7, 3) := dk_153 0 7 (dk_at dksJ2_equals_2 3 rfl rfl)
theorem dJ2_equals_50 : decode cJ2_equals 50 = .ok (.iconst 1, 1) := dk_4 (dk_at dksJ2_equals_2 6 rfl rfl)
theorem dJ2_equals_51 : decode cJ2_equals 51 = .ok (.goto 4, 3) := dk_167 0 4 (dk_at dksJ2_equals_2 7 rfl rfl)
theorem dJ2_equals_54 : decode cJ2_equals 54 = .ok (.iconst 0, 1) := dk_3 (dk_at dksJ2_equals_2 10 rfl rfl)
theorem dJ2_equals_55 : decode cJ2_equals 55 = .ok (.ireturn, 1) := dk_172 (dk_at dksJ2_equals_2 11 rfl rfl)
abbrev cJ2_isLatin1 : ByteArray := prog_25_method_154_code
def yJ2_isLatin1 : MethodName := ⟨RJ2, "isLatin1", "()Z"⟩
def dkwJ2_isLatin1_0 : List UInt8 := [178, 0, 38, 153, 0, 14, 42, 180, 0, 15, 154, 0, 7, 4, 167, 0, 4, 3, 172]
abbrev dktJ2_isLatin1_0 : List UInt8 := dkwJ2_isLatin1_0 ++ []
theorem dksJ2_isLatin1_0 : cJ2_isLatin1.data.toList.drop 0 = dktJ2_isLatin1_0 := by decide +kernel
theorem dJ2_isLatin1_0 : decode cJ2_isLatin1 0 = .ok (.getstatic 38, 3) := dk_178 0 38 (dk_at dksJ2_isLatin1_0 0 rfl rfl)
theorem dJ2_isLatin1_3 : decode cJ2_isLatin1 3 = .ok (.ifCond .eq 14, 3) := dk_153 0 14 (dk_at dksJ2_isLatin1_0 3 rfl rfl)
theorem dJ2_isLatin1_6 : decode cJ2_isLatin1 6 = .ok (.aload_n 0, 1) := dk_42 (dk_at dksJ2_isLatin1_0 6 rfl rfl)
theorem dJ2_isLatin1_7 : decode cJ2_isLatin1 7 = .ok (.getfield 15, 3) := dk_180 0 15 (dk_at dksJ2_isLatin1_0 7 rfl rfl)
theorem dJ2_isLatin1_10 : decode cJ2_isLatin1 10 = .ok (.ifCond .ne 7, 3) := dk_154 0 7 (dk_at dksJ2_isLatin1_0 10 rfl rfl)
theorem dJ2_isLatin1_13 : decode cJ2_isLatin1 13 = .ok (.iconst 1, 1) := dk_4 (dk_at dksJ2_isLatin1_0 13 rfl rfl)
theorem dJ2_isLatin1_14 : decode cJ2_isLatin1 14 = .ok (.goto 4, 3) := dk_167 0 4 (dk_at dksJ2_isLatin1_0 14 rfl rfl)
theorem dJ2_isLatin1_17 : decode cJ2_isLatin1 17 = .ok (.iconst 0, 1) := dk_3 (dk_at dksJ2_isLatin1_0 17 rfl rfl)
theorem dJ2_isLatin1_18 : decode cJ2_isLatin1 18 = .ok (.ireturn, 1) := dk_172 (dk_at dksJ2_isLatin1_0 18 rfl rfl)
abbrev cJ2_charAt : ByteArray := prog_25_method_56_code
def yJ2_charAt : MethodName := ⟨RJ2, "charAt", "(I)C"⟩
def dkwJ2_charAt_1 : List UInt8 := [172]
abbrev dktJ2_charAt_1 : List UInt8 := dkwJ2_charAt_1 ++ []
def dkwJ2_charAt_0 : List UInt8 := [42, 182, 1, 236, 153, 0, 12, 42, 180, 0, 9, 27, 184, 1, 239, 172, 42, 180, 0, 9, 27, 184, 1, 242]
abbrev dktJ2_charAt_0 : List UInt8 := dkwJ2_charAt_0 ++ dktJ2_charAt_1
theorem dksJ2_charAt_0 : cJ2_charAt.data.toList.drop 0 = dktJ2_charAt_0 := by decide +kernel
theorem dksJ2_charAt_1 : cJ2_charAt.data.toList.drop 24 = dktJ2_charAt_1 := dk_seg dksJ2_charAt_0 24 rfl rfl
theorem dJ2_charAt_0 : decode cJ2_charAt 0 = .ok (.aload_n 0, 1) := dk_42 (dk_at dksJ2_charAt_0 0 rfl rfl)
theorem dJ2_charAt_1 : decode cJ2_charAt 1 = .ok (.invokevirtual 492, 3) := dk_182 1 236 (dk_at dksJ2_charAt_0 1 rfl rfl)
theorem dJ2_charAt_4 : decode cJ2_charAt 4 = .ok (.ifCond .eq 12, 3) := dk_153 0 12 (dk_at dksJ2_charAt_0 4 rfl rfl)
theorem dJ2_charAt_7 : decode cJ2_charAt 7 = .ok (.aload_n 0, 1) := dk_42 (dk_at dksJ2_charAt_0 7 rfl rfl)
theorem dJ2_charAt_8 : decode cJ2_charAt 8 = .ok (.getfield 9, 3) := dk_180 0 9 (dk_at dksJ2_charAt_0 8 rfl rfl)
theorem dJ2_charAt_11 : decode cJ2_charAt 11 = .ok (.iload_n 1, 1) := dk_27 (dk_at dksJ2_charAt_0 11 rfl rfl)
theorem dJ2_charAt_12 : decode cJ2_charAt 12 = .ok (.invokestatic 495, 3) := dk_184 1 239 (dk_at dksJ2_charAt_0 12 rfl rfl)
theorem dJ2_charAt_15 : decode cJ2_charAt 15 = .ok (.ireturn, 1) := dk_172 (dk_at dksJ2_charAt_0 15 rfl rfl)
theorem dJ2_charAt_16 : decode cJ2_charAt 16 = .ok (.aload_n 0, 1) := dk_42 (dk_at dksJ2_charAt_0 16 rfl rfl)
theorem dJ2_charAt_17 : decode cJ2_charAt 17 = .ok (.getfield 9, 3) := dk_180 0 9 (dk_at dksJ2_charAt_0 17 rfl rfl)
theorem dJ2_charAt_20 : decode cJ2_charAt 20 = .ok (.iload_n 1, 1) := dk_27 (dk_at dksJ2_charAt_0 20 rfl rfl)
theorem dJ2_charAt_21 : decode cJ2_charAt 21 = .ok (.invokestatic 498, 3) := dk_184 1 242 (dk_at dksJ2_charAt_0 21 rfl rfl)
theorem dJ2_charAt_24 : decode cJ2_charAt 24 = .ok (.ireturn, 1) := dk_172 (dk_at dksJ2_charAt_1 0 rfl rfl)
abbrev cJ2_checkIndex : ByteArray := prog_25_method_155_code
def yJ2_checkIndex : MethodName := ⟨RJ2, "checkIndex", "(II)V"⟩
def dkwJ2_checkIndex_0 : List UInt8 := [26, 27, 178, 4, 29, 184, 4, 35, 87, 177]
abbrev dktJ2_checkIndex_0 : List UInt8 := dkwJ2_checkIndex_0 ++ []
theorem dksJ2_checkIndex_0 : cJ2_checkIndex.data.toList.drop 0 = dktJ2_checkIndex_0 := by decide +kernel
theorem dJ2_checkIndex_0 : decode cJ2_checkIndex 0 = .ok (.iload_n 0, 1) := dk_26 (dk_at dksJ2_checkIndex_0 0 rfl rfl)
theorem dJ2_checkIndex_1 : decode cJ2_checkIndex 1 = .ok (.iload_n 1, 1) := dk_27 (dk_at dksJ2_checkIndex_0 1 rfl rfl)
theorem dJ2_checkIndex_2 : decode cJ2_checkIndex 2 = .ok (.getstatic 1053, 3) := dk_178 4 29 (dk_at dksJ2_checkIndex_0 2 rfl rfl)
theorem dJ2_checkIndex_5 : decode cJ2_checkIndex 5 = .ok (.invokestatic 1059, 3) := dk_184 4 35 (dk_at dksJ2_checkIndex_0 5 rfl rfl)
theorem dJ2_checkIndex_8 : decode cJ2_checkIndex 8 = .ok (.pop, 1) := dk_87 (dk_at dksJ2_checkIndex_0 8 rfl rfl)
theorem dJ2_checkIndex_9 : decode cJ2_checkIndex 9 = .ok (.return_, 1) := dk_177 (dk_at dksJ2_checkIndex_0 9 rfl rfl)
abbrev cJ2_checkOffset : ByteArray := prog_25_method_156_code
def yJ2_checkOffset : MethodName := ⟨RJ2, "checkOffset", "(II)V"⟩
def dkwJ2_checkOffset_0 : List UInt8 := [26, 27, 27, 178, 4, 29, 184, 4, 38, 87, 177]
abbrev dktJ2_checkOffset_0 : List UInt8 := dkwJ2_checkOffset_0 ++ []
theorem dksJ2_checkOffset_0 : cJ2_checkOffset.data.toList.drop 0 = dktJ2_checkOffset_0 := by decide +kernel
theorem dJ2_checkOffset_0 : decode cJ2_checkOffset 0 = .ok (.iload_n 0, 1) := dk_26 (dk_at dksJ2_checkOffset_0 0 rfl rfl)
theorem dJ2_checkOffset_1 : decode cJ2_checkOffset 1 = .ok (.iload_n 1, 1) := dk_27 (dk_at dksJ2_checkOffset_0 1 rfl rfl)
theorem dJ2_checkOffset_2 : decode cJ2_checkOffset 2 = .ok (.iload_n 1, 1) := dk_27 (dk_at dksJ2_checkOffset_0 2 rfl rfl)
theorem dJ2_checkOffset_3 : decode cJ2_checkOffset 3 = .ok (.getstatic 1053, 3) := dk_178 4 29 (dk_at dksJ2_checkOffset_0 3 rfl rfl)
theorem dJ2_checkOffset_6 : decode cJ2_checkOffset 6 = .ok (.invokestatic 1062, 3) := dk_184 4 38 (dk_at dksJ2_checkOffset_0 6 rfl rfl)
theorem dJ2_checkOffset_9 : decode cJ2_checkOffset 9 = .ok (.pop, 1) := dk_87 (dk_at dksJ2_checkOffset_0 9 rfl rfl)
theorem dJ2_checkOffset_10 : decode cJ2_checkOffset 10 = .ok (.return_, 1) := dk_177 (dk_at dksJ2_checkOffset_0 10 rfl rfl)
abbrev cJ2_init_3 : ByteArray := prog_25_method_151_code
def yJ2_init_3 : MethodName := ⟨RJ2, "<init>", "([BB)V"⟩
def dkwJ2_init_3_0 : List UInt8 := [42, 183, 0, 1, 42, 43, 181, 0, 9, 42, 28, 181, 0, 15, 177]
abbrev dktJ2_init_3_0 : List UInt8 := dkwJ2_init_3_0 ++ []
theorem dksJ2_init_3_0 : cJ2_init_3.data.toList.drop 0 = dktJ2_init_3_0 := by decide +kernel
theorem dJ2_init_3_0 : decode cJ2_init_3 0 = .ok (.aload_n 0, 1) := dk_42 (dk_at dksJ2_init_3_0 0 rfl rfl)
theorem dJ2_init_3_1 : decode cJ2_init_3 1 = .ok (.invokespecial 1, 3) := dk_183 0 1 (dk_at dksJ2_init_3_0 1 rfl rfl)
theorem dJ2_init_3_4 : decode cJ2_init_3 4 = .ok (.aload_n 0, 1) := dk_42 (dk_at dksJ2_init_3_0 4 rfl rfl)
theorem dJ2_init_3_5 : decode cJ2_init_3 5 = .ok (.aload_n 1, 1) := dk_43 (dk_at dksJ2_init_3_0 5 rfl rfl)
theorem dJ2_init_3_6 : decode cJ2_init_3 6 = .ok (.putfield 9, 3) := dk_181 0 9 (dk_at dksJ2_init_3_0 6 rfl rfl)
theorem dJ2_init_3_9 : decode cJ2_init_3 9 = .ok (.aload_n 0, 1) := dk_42 (dk_at dksJ2_init_3_0 9 rfl rfl)
theorem dJ2_init_3_10 : decode cJ2_init_3 10 = .ok (.iload_n 2, 1) := dk_28 (dk_at dksJ2_init_3_0 10 rfl rfl)
theorem dJ2_init_3_11 : decode cJ2_init_3 11 = .ok (.putfield 15, 3) := dk_181 0 15 (dk_at dksJ2_init_3_0 11 rfl rfl)
theorem dJ2_init_3_14 : decode cJ2_init_3 14 = .ok (.return_, 1) := dk_177 (dk_at dksJ2_init_3_0 14 rfl rfl)
abbrev cJ2_startsWith : ByteArray := prog_25_method_76_code
def yJ2_startsWith : MethodName := ⟨RJ2, "startsWith", "(Ljava/lang/String;)Z"⟩
def dkwJ2_startsWith_0 : List UInt8 := [42, 43, 3, 182, 2, 112, 172]
abbrev dktJ2_startsWith_0 : List UInt8 := dkwJ2_startsWith_0 ++ []
theorem dksJ2_startsWith_0 : cJ2_startsWith.data.toList.drop 0 = dktJ2_startsWith_0 := by decide +kernel
theorem dJ2_startsWith_0 : decode cJ2_startsWith 0 = .ok (.aload_n 0, 1) := dk_42 (dk_at dksJ2_startsWith_0 0 rfl rfl)
theorem dJ2_startsWith_1 : decode cJ2_startsWith 1 = .ok (.aload_n 1, 1) := dk_43 (dk_at dksJ2_startsWith_0 1 rfl rfl)
theorem dJ2_startsWith_2 : decode cJ2_startsWith 2 = .ok (.iconst 0, 1) := dk_3 (dk_at dksJ2_startsWith_0 2 rfl rfl)
theorem dJ2_startsWith_3 : decode cJ2_startsWith 3 = .ok (.invokevirtual 624, 3) := dk_182 2 112 (dk_at dksJ2_startsWith_0 3 rfl rfl)
theorem dJ2_startsWith_6 : decode cJ2_startsWith 6 = .ok (.ireturn, 1) := dk_172 (dk_at dksJ2_startsWith_0 6 rfl rfl)
abbrev cJ2_startsWith_2 : ByteArray := prog_25_method_75_code
def yJ2_startsWith_2 : MethodName := ⟨RJ2, "startsWith", "(Ljava/lang/String;I)Z"⟩
def dkwJ2_startsWith_2_5 : List UInt8 := [159, 255, 229, 3, 172, 4, 172]
abbrev dktJ2_startsWith_2_5 : List UInt8 := dkwJ2_startsWith_2_5 ++ []
def dkwJ2_startsWith_2_4 : List UInt8 := [162, 0, 28, 45, 28, 132, 2, 1, 184, 1, 104, 25, 4, 21, 5, 132, 5, 1, 51, 17, 0, 255, 126]
abbrev dktJ2_startsWith_2_4 : List UInt8 := dkwJ2_startsWith_2_4 ++ dktJ2_startsWith_2_5
def dkwJ2_startsWith_2_3 : List UInt8 := [184, 2, 95, 156, 0, 7, 4, 167, 0, 4, 3, 172, 21, 7, 154, 0, 5, 3, 172, 21, 5, 21, 6]
abbrev dktJ2_startsWith_2_3 : List UInt8 := dkwJ2_startsWith_2_3 ++ dktJ2_startsWith_2_4
def dkwJ2_startsWith_2_2 : List UInt8 := [182, 1, 79, 160, 0, 32, 21, 7, 4, 160, 0, 7, 28, 4, 120, 61, 45, 28, 25, 4, 3, 21, 6]
abbrev dktJ2_startsWith_2_2 : List UInt8 := dkwJ2_startsWith_2_2 ++ dktJ2_startsWith_2_3
def dkwJ2_startsWith_2_1 : List UInt8 := [43, 180, 0, 9, 58, 4, 3, 54, 5, 25, 4, 190, 54, 6, 42, 182, 1, 79, 54, 7, 21, 7, 43]
abbrev dktJ2_startsWith_2_1 : List UInt8 := dkwJ2_startsWith_2_1 ++ dktJ2_startsWith_2_2
def dkwJ2_startsWith_2_0 : List UInt8 := [28, 155, 0, 16, 28, 42, 182, 1, 249, 43, 182, 1, 249, 100, 164, 0, 5, 3, 172, 42, 180, 0, 9, 78]
abbrev dktJ2_startsWith_2_0 : List UInt8 := dkwJ2_startsWith_2_0 ++ dktJ2_startsWith_2_1
theorem dksJ2_startsWith_2_0 : cJ2_startsWith_2.data.toList.drop 0 = dktJ2_startsWith_2_0 := by decide +kernel
theorem dksJ2_startsWith_2_1 : cJ2_startsWith_2.data.toList.drop 24 = dktJ2_startsWith_2_1 := dk_seg dksJ2_startsWith_2_0 24 rfl rfl
theorem dksJ2_startsWith_2_2 : cJ2_startsWith_2.data.toList.drop 47 = dktJ2_startsWith_2_2 := dk_seg dksJ2_startsWith_2_1 23 rfl rfl
theorem dksJ2_startsWith_2_3 : cJ2_startsWith_2.data.toList.drop 70 = dktJ2_startsWith_2_3 := dk_seg dksJ2_startsWith_2_2 23 rfl rfl
theorem dksJ2_startsWith_2_4 : cJ2_startsWith_2.data.toList.drop 93 = dktJ2_startsWith_2_4 := dk_seg dksJ2_startsWith_2_3 23 rfl rfl
theorem dksJ2_startsWith_2_5 : cJ2_startsWith_2.data.toList.drop 116 = dktJ2_startsWith_2_5 := dk_seg dksJ2_startsWith_2_4 23 rfl rfl
theorem dJ2_startsWith_2_0 : decode cJ2_startsWith_2 0 = .ok (.iload_n 2, 1) := dk_28 (dk_at dksJ2_startsWith_2_0 0 rfl rfl)
theorem dJ2_startsWith_2_1 : decode cJ2_startsWith_2 1 = .ok (.ifCond .lt 16, 3) := dk_155 0 16 (dk_at dksJ2_startsWith_2_0 1 rfl rfl)
theorem dJ2_startsWith_2_4 : decode cJ2_startsWith_2 4 = .ok (.iload_n 2, 1) := dk_28 (dk_at dksJ2_startsWith_2_0 4 rfl rfl)
theorem dJ2_startsWith_2_5 : decode cJ2_startsWith_2 5 = .ok (.aload_n 0, 1) := dk_42 (dk_at dksJ2_startsWith_2_0 5 rfl rfl)
theorem dJ2_startsWith_2_6 : decode cJ2_startsWith_2 6 = .ok (.invokevirtual 505, 3) := dk_182 1 249 (dk_at dksJ2_startsWith_2_0 6 rfl rfl)
theorem dJ2_startsWith_2_9 : decode cJ2_startsWith_2 9 = .ok (.aload_n 1, 1) := dk_43 (dk_at dksJ2_startsWith_2_0 9 rfl rfl)
theorem dJ2_startsWith_2_10 : decode cJ2_startsWith_2 10 = .ok (.invokevirtual 505, 3) := dk_182 1 249 (dk_at dksJ2_startsWith_2_0 10 rfl rfl)
theorem dJ2_startsWith_2_13 : decode cJ2_startsWith_2 13 = .ok (.isub, 1) := dk_100 (dk_at dksJ2_startsWith_2_0 13 rfl rfl)
theorem dJ2_startsWith_2_14 : decode cJ2_startsWith_2 14 = .ok (.if_icmp .le 5, 3) := dk_164 0 5 (dk_at dksJ2_startsWith_2_0 14 rfl rfl)
theorem dJ2_startsWith_2_17 : decode cJ2_startsWith_2 17 = .ok (.iconst 0, 1) := dk_3 (dk_at dksJ2_startsWith_2_0 17 rfl rfl)
theorem dJ2_startsWith_2_18 : decode cJ2_startsWith_2 18 = .ok (.ireturn, 1) := dk_172 (dk_at dksJ2_startsWith_2_0 18 rfl rfl)
theorem dJ2_startsWith_2_19 : decode cJ2_startsWith_2 19 = .ok (.aload_n 0, 1) := dk_42 (dk_at dksJ2_startsWith_2_0 19 rfl rfl)
theorem dJ2_startsWith_2_20 : decode cJ2_startsWith_2 20 = .ok (.getfield 9, 3) := dk_180 0 9 (dk_at dksJ2_startsWith_2_0 20 rfl rfl)
theorem dJ2_startsWith_2_23 : decode cJ2_startsWith_2 23 = .ok (.astore_n 3, 1) := dk_78 (dk_at dksJ2_startsWith_2_0 23 rfl rfl)
theorem dJ2_startsWith_2_24 : decode cJ2_startsWith_2 24 = .ok (.aload_n 1, 1) := dk_43 (dk_at dksJ2_startsWith_2_1 0 rfl rfl)
theorem dJ2_startsWith_2_25 : decode cJ2_startsWith_2 25 = .ok (.getfield 9, 3) := dk_180 0 9 (dk_at dksJ2_startsWith_2_1 1 rfl rfl)
theorem dJ2_startsWith_2_28 : decode cJ2_startsWith_2 28 = .ok (.astore 4, 2) := dk_58 4 (dk_at dksJ2_startsWith_2_1 4 rfl rfl)
theorem dJ2_startsWith_2_30 : decode cJ2_startsWith_2 30 = .ok (.iconst 0, 1) := dk_3 (dk_at dksJ2_startsWith_2_1 6 rfl rfl)
theorem dJ2_startsWith_2_31 : decode cJ2_startsWith_2 31 = .ok (.istore 5, 2) := dk_54 5 (dk_at dksJ2_startsWith_2_1 7 rfl rfl)
theorem dJ2_startsWith_2_33 : decode cJ2_startsWith_2 33 = .ok (.aload 4, 2) := dk_25 4 (dk_at dksJ2_startsWith_2_1 9 rfl rfl)
theorem dJ2_startsWith_2_35 : decode cJ2_startsWith_2 35 = .ok (.arraylength, 1) := dk_190 (dk_at dksJ2_startsWith_2_1 11 rfl rfl)
theorem dJ2_startsWith_2_36 : decode cJ2_startsWith_2 36 = .ok (.istore 6, 2) := dk_54 6 (dk_at dksJ2_startsWith_2_1 12 rfl rfl)
theorem dJ2_startsWith_2_38 : decode cJ2_startsWith_2 38 = .ok (.aload_n 0, 1) := dk_42 (dk_at dksJ2_startsWith_2_1 14 rfl rfl)
theorem dJ2_startsWith_2_39 : decode cJ2_startsWith_2 39 = .ok (.invokevirtual 335, 3) := dk_182 1 79 (dk_at dksJ2_startsWith_2_1 15 rfl rfl)
theorem dJ2_startsWith_2_42 : decode cJ2_startsWith_2 42 = .ok (.istore 7, 2) := dk_54 7 (dk_at dksJ2_startsWith_2_1 18 rfl rfl)
theorem dJ2_startsWith_2_44 : decode cJ2_startsWith_2 44 = .ok (.iload 7, 2) := dk_21 7 (dk_at dksJ2_startsWith_2_1 20 rfl rfl)
theorem dJ2_startsWith_2_46 : decode cJ2_startsWith_2 46 = .ok (.aload_n 1, 1) := dk_43 (dk_at dksJ2_startsWith_2_1 22 rfl rfl)
theorem dJ2_startsWith_2_47 : decode cJ2_startsWith_2 47 = .ok (.invokevirtual 335, 3) := dk_182 1 79 (dk_at dksJ2_startsWith_2_2 0 rfl rfl)
theorem dJ2_startsWith_2_50 : decode cJ2_startsWith_2 50 = .ok (.if_icmp .ne 32, 3) := dk_160 0 32 (dk_at dksJ2_startsWith_2_2 3 rfl rfl)
theorem dJ2_startsWith_2_53 : decode cJ2_startsWith_2 53 = .ok (.iload 7, 2) := dk_21 7 (dk_at dksJ2_startsWith_2_2 6 rfl rfl)
theorem dJ2_startsWith_2_55 : decode cJ2_startsWith_2 55 = .ok (.iconst 1, 1) := dk_4 (dk_at dksJ2_startsWith_2_2 8 rfl rfl)
theorem dJ2_startsWith_2_56 : decode cJ2_startsWith_2 56 = .ok (.if_icmp .ne 7, 3) := dk_160 0 7 (dk_at dksJ2_startsWith_2_2 9 rfl rfl)
theorem dJ2_startsWith_2_59 : decode cJ2_startsWith_2 59 = .ok (.iload_n 2, 1) := dk_28 (dk_at dksJ2_startsWith_2_2 12 rfl rfl)
theorem dJ2_startsWith_2_60 : decode cJ2_startsWith_2 60 = .ok (.iconst 1, 1) := dk_4 (dk_at dksJ2_startsWith_2_2 13 rfl rfl)
theorem dJ2_startsWith_2_61 : decode cJ2_startsWith_2 61 = .ok (.ishl, 1) := dk_120 (dk_at dksJ2_startsWith_2_2 14 rfl rfl)
theorem dJ2_startsWith_2_62 : decode cJ2_startsWith_2 62 = .ok (.istore_n 2, 1) := dk_61 (dk_at dksJ2_startsWith_2_2 15 rfl rfl)
theorem dJ2_startsWith_2_63 : decode cJ2_startsWith_2 63 = .ok (.aload_n 3, 1) := dk_45 (dk_at dksJ2_startsWith_2_2 16 rfl rfl)
theorem dJ2_startsWith_2_64 : decode cJ2_startsWith_2 64 = .ok (.iload_n 2, 1) := dk_28 (dk_at dksJ2_startsWith_2_2 17 rfl rfl)
theorem dJ2_startsWith_2_65 : decode cJ2_startsWith_2 65 = .ok (.aload 4, 2) := dk_25 4 (dk_at dksJ2_startsWith_2_2 18 rfl rfl)
theorem dJ2_startsWith_2_67 : decode cJ2_startsWith_2 67 = .ok (.iconst 0, 1) := dk_3 (dk_at dksJ2_startsWith_2_2 20 rfl rfl)
theorem dJ2_startsWith_2_68 : decode cJ2_startsWith_2 68 = .ok (.iload 6, 2) := dk_21 6 (dk_at dksJ2_startsWith_2_2 21 rfl rfl)
theorem dJ2_startsWith_2_70 : decode cJ2_startsWith_2 70 = .ok (.invokestatic 607, 3) := dk_184 2 95 (dk_at dksJ2_startsWith_2_3 0 rfl rfl)
theorem dJ2_startsWith_2_73 : decode cJ2_startsWith_2 73 = .ok (.ifCond .ge 7, 3) := dk_156 0 7 (dk_at dksJ2_startsWith_2_3 3 rfl rfl)
theorem dJ2_startsWith_2_76 : decode cJ2_startsWith_2 76 = .ok (.iconst 1, 1) := dk_4 (dk_at dksJ2_startsWith_2_3 6 rfl rfl)
theorem dJ2_startsWith_2_77 : decode cJ2_startsWith_2 77 = .ok (.goto 4, 3) := dk_167 0 4 (dk_at dksJ2_startsWith_2_3 7 rfl rfl)
theorem dJ2_startsWith_2_80 : decode cJ2_startsWith_2 80 = .ok (.iconst 0, 1) := dk_3 (dk_at dksJ2_startsWith_2_3 10 rfl rfl)
theorem dJ2_startsWith_2_81 : decode cJ2_startsWith_2 81 = .ok (.ireturn, 1) := dk_172 (dk_at dksJ2_startsWith_2_3 11 rfl rfl)
theorem dJ2_startsWith_2_82 : decode cJ2_startsWith_2 82 = .ok (.iload 7, 2) := dk_21 7 (dk_at dksJ2_startsWith_2_3 12 rfl rfl)
theorem dJ2_startsWith_2_84 : decode cJ2_startsWith_2 84 = .ok (.ifCond .ne 5, 3) := dk_154 0 5 (dk_at dksJ2_startsWith_2_3 14 rfl rfl)
theorem dJ2_startsWith_2_87 : decode cJ2_startsWith_2 87 = .ok (.iconst 0, 1) := dk_3 (dk_at dksJ2_startsWith_2_3 17 rfl rfl)
theorem dJ2_startsWith_2_88 : decode cJ2_startsWith_2 88 = .ok (.ireturn, 1) := dk_172 (dk_at dksJ2_startsWith_2_3 18 rfl rfl)
theorem dJ2_startsWith_2_89 : decode cJ2_startsWith_2 89 = .ok (.iload 5, 2) := dk_21 5 (dk_at dksJ2_startsWith_2_3 19 rfl rfl)
theorem dJ2_startsWith_2_91 : decode cJ2_startsWith_2 91 = .ok (.iload 6, 2) := dk_21 6 (dk_at dksJ2_startsWith_2_3 21 rfl rfl)
theorem dJ2_startsWith_2_93 : decode cJ2_startsWith_2 93 = .ok (.if_icmp .ge 28, 3) := dk_162 0 28 (dk_at dksJ2_startsWith_2_4 0 rfl rfl)
theorem dJ2_startsWith_2_96 : decode cJ2_startsWith_2 96 = .ok (.aload_n 3, 1) := dk_45 (dk_at dksJ2_startsWith_2_4 3 rfl rfl)
theorem dJ2_startsWith_2_97 : decode cJ2_startsWith_2 97 = .ok (.iload_n 2, 1) := dk_28 (dk_at dksJ2_startsWith_2_4 4 rfl rfl)
theorem dJ2_startsWith_2_98 : decode cJ2_startsWith_2 98 = .ok (.iinc 2 1, 3) := dk_132 2 1 (dk_at dksJ2_startsWith_2_4 5 rfl rfl)
theorem dJ2_startsWith_2_101 : decode cJ2_startsWith_2 101 = .ok (.invokestatic 360, 3) := dk_184 1 104 (dk_at dksJ2_startsWith_2_4 8 rfl rfl)
theorem dJ2_startsWith_2_104 : decode cJ2_startsWith_2 104 = .ok (.aload 4, 2) := dk_25 4 (dk_at dksJ2_startsWith_2_4 11 rfl rfl)
theorem dJ2_startsWith_2_106 : decode cJ2_startsWith_2 106 = .ok (.iload 5, 2) := dk_21 5 (dk_at dksJ2_startsWith_2_4 13 rfl rfl)
theorem dJ2_startsWith_2_108 : decode cJ2_startsWith_2 108 = .ok (.iinc 5 1, 3) := dk_132 5 1 (dk_at dksJ2_startsWith_2_4 15 rfl rfl)
theorem dJ2_startsWith_2_111 : decode cJ2_startsWith_2 111 = .ok (.baload, 1) := dk_51 (dk_at dksJ2_startsWith_2_4 18 rfl rfl)
theorem dJ2_startsWith_2_112 : decode cJ2_startsWith_2 112 = .ok (.sipush 255, 3) := dk_17 0 255 (dk_at dksJ2_startsWith_2_4 19 rfl rfl)
theorem dJ2_startsWith_2_115 : decode cJ2_startsWith_2 115 = .ok (.iand, 1) := dk_126 (dk_at dksJ2_startsWith_2_4 22 rfl rfl)
theorem dJ2_startsWith_2_116 : decode cJ2_startsWith_2 116 = .ok (.if_icmp .eq (-27), 3) := dk_159 255 229 (dk_at dksJ2_startsWith_2_5 0 rfl rfl)
theorem dJ2_startsWith_2_119 : decode cJ2_startsWith_2 119 = .ok (.iconst 0, 1) := dk_3 (dk_at dksJ2_startsWith_2_5 3 rfl rfl)
theorem dJ2_startsWith_2_120 : decode cJ2_startsWith_2 120 = .ok (.ireturn, 1) := dk_172 (dk_at dksJ2_startsWith_2_5 4 rfl rfl)
theorem dJ2_startsWith_2_121 : decode cJ2_startsWith_2 121 = .ok (.iconst 1, 1) := dk_4 (dk_at dksJ2_startsWith_2_5 5 rfl rfl)
theorem dJ2_startsWith_2_122 : decode cJ2_startsWith_2 122 = .ok (.ireturn, 1) := dk_172 (dk_at dksJ2_startsWith_2_5 6 rfl rfl)
theorem q39 : (Jvm.Cond.initialized "java/lang/String") ∈ lw_all := lw_g (lw_at lw_m1 4 rfl) rfl
theorem q87 : (Jvm.Cond.laysStatic "java/lang/String" "COMPACT_STRINGS" "Z") ∈ lw_tbl := lw_at lw_m1 52 rfl
theorem q98 : (Jvm.Cond.fieldLink "java/lang/String" (1048 : Nat) "java/lang/AbstractStringBuilder" "maybeLatin1" "Z") ∈ lw_all := lw_g (lw_at lw_m1 63 rfl) rfl
theorem q236 : (Jvm.Cond.selects "java/lang/String" ({ cls := "java/lang/Object", name := "getClass", desc := "()Ljava/lang/Class;" } : Jvm.MethodName) ({ cls := "java/lang/Object", name := "getClass", desc := "()Ljava/lang/Class;" } : Jvm.MethodName)) ∈ lw_all := lw_g (lw_at lw_m1 201 rfl) rfl
theorem q353 : (Jvm.Cond.static ({ cls := "java/lang/String", name := "checkBoundsBeginEnd", desc := "(III)V" } : Jvm.MethodName)) ∈ lw_all := lw_g (lw_at lw_m2 78 rfl) rfl
theorem q354 : (Jvm.Cond.code ({ cls := "java/lang/String", name := "checkBoundsBeginEnd", desc := "(III)V" } : Jvm.MethodName) prog_25_method_158_code (3 : Nat) (Option.none : Option Jvm.ClassFile.FieldType)) ∈ lw_all := lw_g (lw_at lw_m2 79 rfl) rfl
theorem q355 : (Jvm.Cond.fieldLink "java/lang/String" (1053 : Nat) "jdk/internal/util/Preconditions" "SIOOBE_FORMATTER" "Ljava/util/function/BiFunction;") ∈ lw_all := lw_g (lw_at lw_m2 80 rfl) rfl
theorem q357 : (Jvm.Cond.methodLink "java/lang/String" (1062 : Nat) ({ cls := "jdk/internal/util/Preconditions", name := "checkFromToIndex", desc := "(IIILjava/util/function/BiFunction;)I" } : Jvm.MethodName)) ∈ lw_all := lw_g (lw_at lw_m2 82 rfl) rfl
theorem q370 : (Jvm.Cond.instanceMethod ({ cls := "java/lang/String", name := "length", desc := "()I" } : Jvm.MethodName)) ∈ lw_all := lw_g (lw_at lw_m2 95 rfl) rfl
theorem q371 : (Jvm.Cond.selects "java/lang/String" ({ cls := "java/lang/String", name := "length", desc := "()I" } : Jvm.MethodName) ({ cls := "java/lang/String", name := "length", desc := "()I" } : Jvm.MethodName)) ∈ lw_all := lw_g (lw_at lw_m2 96 rfl) rfl
theorem q372 : (Jvm.Cond.code ({ cls := "java/lang/String", name := "length", desc := "()I" } : Jvm.MethodName) prog_25_method_54_code (1 : Nat) (Option.some Jvm.ClassFile.FieldType.int)) ∈ lw_all := lw_g (lw_at lw_m2 97 rfl) rfl
theorem q373 : (Jvm.Cond.methodLink "java/lang/String" (335 : Nat) ({ cls := "java/lang/String", name := "coder", desc := "()B" } : Jvm.MethodName)) ∈ lw_all := lw_g (lw_at lw_m2 98 rfl) rfl
theorem q374 : (Jvm.Cond.instanceMethod ({ cls := "java/lang/String", name := "coder", desc := "()B" } : Jvm.MethodName)) ∈ lw_all := lw_g (lw_at lw_m2 99 rfl) rfl
theorem q375 : (Jvm.Cond.selects "java/lang/String" ({ cls := "java/lang/String", name := "coder", desc := "()B" } : Jvm.MethodName) ({ cls := "java/lang/String", name := "coder", desc := "()B" } : Jvm.MethodName)) ∈ lw_all := lw_g (lw_at lw_m2 100 rfl) rfl
theorem q376 : (Jvm.Cond.code ({ cls := "java/lang/String", name := "coder", desc := "()B" } : Jvm.MethodName) prog_25_method_152_code (1 : Nat) (Option.some Jvm.ClassFile.FieldType.byte)) ∈ lw_all := lw_g (lw_at lw_m2 101 rfl) rfl
theorem q377 : (Jvm.Cond.fieldLink "java/lang/String" (38 : Nat) "java/lang/String" "COMPACT_STRINGS" "Z") ∈ lw_all := lw_g (lw_at lw_m2 102 rfl) rfl
theorem q401 : (Jvm.Cond.static ({ cls := "java/lang/String", name := "checkBoundsOffCount", desc := "(III)I" } : Jvm.MethodName)) ∈ lw_all := lw_g (lw_at lw_m2 126 rfl) rfl
theorem q402 : (Jvm.Cond.code ({ cls := "java/lang/String", name := "checkBoundsOffCount", desc := "(III)I" } : Jvm.MethodName) prog_25_method_157_code (3 : Nat) (Option.some Jvm.ClassFile.FieldType.int)) ∈ lw_all := lw_g (lw_at lw_m2 127 rfl) rfl
theorem q403 : (Jvm.Cond.methodLink "java/lang/String" (1065 : Nat) ({ cls := "jdk/internal/util/Preconditions", name := "checkFromIndexSize", desc := "(IIILjava/util/function/BiFunction;)I" } : Jvm.MethodName)) ∈ lw_all := lw_g (lw_at lw_m2 128 rfl) rfl
theorem q407 : (Jvm.Cond.instanceMethod ({ cls := "java/lang/String", name := "getBytes", desc := "([BIB)V" } : Jvm.MethodName)) ∈ lw_all := lw_g (lw_at lw_m2 132 rfl) rfl
theorem q408 : (Jvm.Cond.selects "java/lang/String" ({ cls := "java/lang/String", name := "getBytes", desc := "([BIB)V" } : Jvm.MethodName) ({ cls := "java/lang/String", name := "getBytes", desc := "([BIB)V" } : Jvm.MethodName)) ∈ lw_all := lw_g (lw_at lw_m2 133 rfl) rfl
theorem q409 : (Jvm.Cond.code ({ cls := "java/lang/String", name := "getBytes", desc := "([BIB)V" } : Jvm.MethodName) prog_25_method_147_code (4 : Nat) (Option.none : Option Jvm.ClassFile.FieldType)) ∈ lw_all := lw_g (lw_at lw_m2 134 rfl) rfl
theorem q410 : (Jvm.Cond.methodLink "java/lang/String" (212 : Nat) ({ cls := "java/lang/System", name := "arraycopy", desc := "(Ljava/lang/Object;ILjava/lang/Object;II)V" } : Jvm.MethodName)) ∈ lw_all := lw_g (lw_at lw_m2 135 rfl) rfl
theorem q411 : (Jvm.Cond.methodLink "java/lang/String" (106 : Nat) ({ cls := "java/lang/StringLatin1", name := "inflate", desc := "([BI[BII)V" } : Jvm.MethodName)) ∈ lw_all := lw_g (lw_at lw_m2 136 rfl) rfl
theorem q442 : (Jvm.Cond.instantiable "java/lang/String" (4 : Nat)) ∈ lw_all := lw_g (lw_at lw_m2 167 rfl) rfl
theorem q444 : (Jvm.Cond.instanceMethod ({ cls := "java/lang/String", name := "<init>", desc := "(Ljava/lang/StringBuilder;)V" } : Jvm.MethodName)) ∈ lw_all := lw_g (lw_at lw_m2 169 rfl) rfl
theorem q445 : (Jvm.Cond.code ({ cls := "java/lang/String", name := "<init>", desc := "(Ljava/lang/StringBuilder;)V" } : Jvm.MethodName) prog_25_method_53_code (2 : Nat) (Option.none : Option Jvm.ClassFile.FieldType)) ∈ lw_all := lw_g (lw_at lw_m2 170 rfl) rfl
theorem q446 : (Jvm.Cond.methodLink "java/lang/String" (489 : Nat) ({ cls := "java/lang/String", name := "<init>", desc := "(Ljava/lang/AbstractStringBuilder;Ljava/lang/Void;)V" } : Jvm.MethodName)) ∈ lw_all := lw_g (lw_at lw_m2 171 rfl) rfl
theorem q447 : (Jvm.Cond.instanceMethod ({ cls := "java/lang/String", name := "<init>", desc := "(Ljava/lang/AbstractStringBuilder;Ljava/lang/Void;)V" } : Jvm.MethodName)) ∈ lw_all := lw_g (lw_at lw_m2 172 rfl) rfl
theorem q448 : (Jvm.Cond.code ({ cls := "java/lang/String", name := "<init>", desc := "(Ljava/lang/AbstractStringBuilder;Ljava/lang/Void;)V" } : Jvm.MethodName) prog_25_method_150_code (5 : Nat) (Option.none : Option Jvm.ClassFile.FieldType)) ∈ lw_all := lw_g (lw_at lw_m2 173 rfl) rfl
theorem q449 : (Jvm.Cond.methodLink "java/lang/String" (1 : Nat) ({ cls := "java/lang/Object", name := "<init>", desc := "()V" } : Jvm.MethodName)) ∈ lw_all := lw_g (lw_at lw_m2 174 rfl) rfl
theorem q450 : (Jvm.Cond.methodLink "java/lang/String" (552 : Nat) ({ cls := "java/lang/AbstractStringBuilder", name := "getValue", desc := "()[B" } : Jvm.MethodName)) ∈ lw_all := lw_g (lw_at lw_m2 175 rfl) rfl
theorem q455 : (Jvm.Cond.methodLink "java/lang/String" (549 : Nat) ({ cls := "java/lang/AbstractStringBuilder", name := "length", desc := "()I" } : Jvm.MethodName)) ∈ lw_all := lw_g (lw_at lw_m2 180 rfl) rfl
theorem q456 : (Jvm.Cond.methodLink "java/lang/String" (1047 : Nat) ({ cls := "java/lang/AbstractStringBuilder", name := "isLatin1", desc := "()Z" } : Jvm.MethodName)) ∈ lw_all := lw_g (lw_at lw_m2 181 rfl) rfl
theorem q457 : (Jvm.Cond.methodLink "java/lang/String" (54 : Nat) ({ cls := "java/util/Arrays", name := "copyOfRange", desc := "([BII)[B" } : Jvm.MethodName)) ∈ lw_all := lw_g (lw_at lw_m2 182 rfl) rfl
theorem q540 : (Jvm.Cond.methodLink "java/lang/String" (1051 : Nat) ({ cls := "java/lang/StringUTF16", name := "compress", desc := "([BII)[B" } : Jvm.MethodName)) ∈ lw_all := lw_g (lw_at lw_m3 25 rfl) rfl
theorem q550 : (Jvm.Cond.methodLink "java/lang/String" (47 : Nat) ({ cls := "java/lang/StringUTF16", name := "coderFromArrayLen", desc := "([BI)B" } : Jvm.MethodName)) ∈ lw_all := lw_g (lw_at lw_m3 35 rfl) rfl
theorem q553 : (Jvm.Cond.fieldLink "java/lang/String" (9 : Nat) "java/lang/String" "value" "[B") ∈ lw_all := lw_g (lw_at lw_m3 38 rfl) rfl
theorem q554 : (Jvm.Cond.fieldLink "java/lang/String" (15 : Nat) "java/lang/String" "coder" "B") ∈ lw_all := lw_g (lw_at lw_m3 39 rfl) rfl
theorem q555 : (Jvm.Cond.laysFinal "java/lang/String" "java/lang/String" "value" "[B") ∈ lw_all := lw_g (lw_at lw_m3 40 rfl) rfl
theorem q556 : (Jvm.Cond.soleField "java/lang/String" "value") ∈ lw_all := lw_g (lw_at lw_m3 41 rfl) rfl
theorem q557 : (Jvm.Cond.laysFinal "java/lang/String" "java/lang/String" "coder" "B") ∈ lw_all := lw_g (lw_at lw_m3 42 rfl) rfl
theorem q558 : (Jvm.Cond.soleField "java/lang/String" "coder") ∈ lw_all := lw_g (lw_at lw_m3 43 rfl) rfl
theorem q559 : (Jvm.Cond.lays "java/lang/String" "java/lang/String" "hash" "I") ∈ lw_all := lw_g (lw_at lw_m3 44 rfl) rfl
theorem q560 : (Jvm.Cond.soleField "java/lang/String" "hash") ∈ lw_all := lw_g (lw_at lw_m3 45 rfl) rfl
theorem q561 : (Jvm.Cond.lays "java/lang/String" "java/lang/String" "hashIsZero" "Z") ∈ lw_all := lw_g (lw_at lw_m3 46 rfl) rfl
theorem q562 : (Jvm.Cond.soleField "java/lang/String" "hashIsZero") ∈ lw_all := lw_g (lw_at lw_m3 47 rfl) rfl
theorem q563 : (Jvm.Cond.superclass "java/lang/String" "java/lang/Object") ∈ lw_all := lw_g (lw_at lw_m3 48 rfl) rfl
theorem q641 : (Jvm.Cond.instanceMethod ({ cls := "java/lang/String", name := "contentEquals", desc := "(Ljava/lang/CharSequence;)Z" } : Jvm.MethodName)) ∈ lw_all := lw_g (lw_at lw_m3 126 rfl) rfl
theorem q642 : (Jvm.Cond.selects "java/lang/String" ({ cls := "java/lang/String", name := "contentEquals", desc := "(Ljava/lang/CharSequence;)Z" } : Jvm.MethodName) ({ cls := "java/lang/String", name := "contentEquals", desc := "(Ljava/lang/CharSequence;)Z" } : Jvm.MethodName)) ∈ lw_all := lw_g (lw_at lw_m3 127 rfl) rfl
theorem q643 : (Jvm.Cond.codeWith ({ cls := "java/lang/String", name := "contentEquals", desc := "(Ljava/lang/CharSequence;)Z" } : Jvm.MethodName) prog_25_method_69_code (5 : Nat) (Option.some Jvm.ClassFile.FieldType.boolean) [((18 : Nat), (28 : Nat), (29 : Nat), (0 : Nat)), ((29 : Nat), (32 : Nat), (29 : Nat), (0 : Nat))]) ∈ lw_all := lw_g (lw_at lw_m3 128 rfl) rfl
theorem q644 : (Jvm.Cond.classLink "java/lang/String" (550 : Nat) "java/lang/AbstractStringBuilder") ∈ lw_all := lw_g (lw_at lw_m3 129 rfl) rfl
theorem q645 : (Jvm.Cond.classLink "java/lang/String" (486 : Nat) "java/lang/StringBuffer") ∈ lw_all := lw_g (lw_at lw_m3 130 rfl) rfl
theorem q646 : (Jvm.Cond.methodLink "java/lang/String" (567 : Nat) ({ cls := "java/lang/String", name := "nonSyncContentEquals", desc := "(Ljava/lang/AbstractStringBuilder;)Z" } : Jvm.MethodName)) ∈ lw_all := lw_g (lw_at lw_m3 131 rfl) rfl
theorem q647 : (Jvm.Cond.privateMethod ({ cls := "java/lang/String", name := "nonSyncContentEquals", desc := "(Ljava/lang/AbstractStringBuilder;)Z" } : Jvm.MethodName)) ∈ lw_tbl := lw_at lw_m3 132 rfl
theorem q648 : (Jvm.Cond.instanceMethod ({ cls := "java/lang/String", name := "nonSyncContentEquals", desc := "(Ljava/lang/AbstractStringBuilder;)Z" } : Jvm.MethodName)) ∈ lw_all := lw_g (lw_at lw_m3 133 rfl) rfl
theorem q649 : (Jvm.Cond.code ({ cls := "java/lang/String", name := "nonSyncContentEquals", desc := "(Ljava/lang/AbstractStringBuilder;)Z" } : Jvm.MethodName) prog_25_method_68_code (6 : Nat) (Option.some Jvm.ClassFile.FieldType.boolean)) ∈ lw_all := lw_g (lw_at lw_m3 134 rfl) rfl
theorem q650 : (Jvm.Cond.methodLink "java/lang/String" (505 : Nat) ({ cls := "java/lang/String", name := "length", desc := "()I" } : Jvm.MethodName)) ∈ lw_all := lw_g (lw_at lw_m3 135 rfl) rfl
theorem q651 : (Jvm.Cond.methodLink "java/lang/String" (555 : Nat) ({ cls := "java/lang/AbstractStringBuilder", name := "getCoder", desc := "()B" } : Jvm.MethodName)) ∈ lw_all := lw_g (lw_at lw_m3 136 rfl) rfl
theorem q656 : (Jvm.Cond.methodLink "java/lang/String" (558 : Nat) ({ cls := "jdk/internal/util/ArraysSupport", name := "mismatch", desc := "([B[BI)I" } : Jvm.MethodName)) ∈ lw_all := lw_g (lw_at lw_m3 141 rfl) rfl
theorem q760 : (Jvm.Cond.methodLink "java/lang/String" (564 : Nat) ({ cls := "java/lang/StringUTF16", name := "contentEquals", desc := "([B[BI)Z" } : Jvm.MethodName)) ∈ lw_all := lw_g (lw_at lw_m4 5 rfl) rfl
theorem q763 : (Jvm.Cond.classLink "java/lang/String" (10 : Nat) "java/lang/String") ∈ lw_all := lw_g (lw_at lw_m4 8 rfl) rfl
theorem q764 : (Jvm.Cond.methodLink "java/lang/String" (571 : Nat) ({ cls := "java/lang/String", name := "equals", desc := "(Ljava/lang/Object;)Z" } : Jvm.MethodName)) ∈ lw_all := lw_g (lw_at lw_m4 9 rfl) rfl
theorem q765 : (Jvm.Cond.instanceMethod ({ cls := "java/lang/String", name := "equals", desc := "(Ljava/lang/Object;)Z" } : Jvm.MethodName)) ∈ lw_all := lw_g (lw_at lw_m4 10 rfl) rfl
theorem q766 : (Jvm.Cond.selects "java/lang/String" ({ cls := "java/lang/String", name := "equals", desc := "(Ljava/lang/Object;)Z" } : Jvm.MethodName) ({ cls := "java/lang/String", name := "equals", desc := "(Ljava/lang/Object;)Z" } : Jvm.MethodName)) ∈ lw_all := lw_g (lw_at lw_m4 11 rfl) rfl
theorem q767 : (Jvm.Cond.code ({ cls := "java/lang/String", name := "equals", desc := "(Ljava/lang/Object;)Z" } : Jvm.MethodName) prog_25_method_66_code (3 : Nat) (Option.some Jvm.ClassFile.FieldType.boolean)) ∈ lw_all := lw_g (lw_at lw_m4 12 rfl) rfl
theorem q768 : (Jvm.Cond.methodLink "java/lang/String" (541 : Nat) ({ cls := "java/lang/StringLatin1", name := "equals", desc := "([B[B)Z" } : Jvm.MethodName)) ∈ lw_all := lw_g (lw_at lw_m4 13 rfl) rfl
theorem q771 : (Jvm.Cond.interfaceEntry "java/lang/String" (574 : Nat)) ∈ lw_tbl := lw_at lw_m4 16 rfl
theorem q772 : (Jvm.Cond.methodLink "java/lang/String" (574 : Nat) ({ cls := "java/lang/CharSequence", name := "length", desc := "()I" } : Jvm.MethodName)) ∈ lw_all := lw_g (lw_at lw_m4 17 rfl) rfl
theorem q775 : (Jvm.Cond.castable "java/lang/String" "java/lang/CharSequence") ∈ lw_tbl := lw_at lw_m4 20 rfl
theorem q776 : (Jvm.Cond.selects "java/lang/String" ({ cls := "java/lang/CharSequence", name := "length", desc := "()I" } : Jvm.MethodName) ({ cls := "java/lang/String", name := "length", desc := "()I" } : Jvm.MethodName)) ∈ lw_all := lw_g (lw_at lw_m4 21 rfl) rfl
theorem q777 : (Jvm.Cond.unhidden "java/lang/String" "length" "()I") ∈ lw_tbl := lw_at lw_m4 22 rfl
theorem q778 : (Jvm.Cond.publicMethod ({ cls := "java/lang/String", name := "length", desc := "()I" } : Jvm.MethodName)) ∈ lw_tbl := lw_at lw_m4 23 rfl
theorem q783 : (Jvm.Cond.methodLink "java/lang/String" (492 : Nat) ({ cls := "java/lang/String", name := "isLatin1", desc := "()Z" } : Jvm.MethodName)) ∈ lw_all := lw_g (lw_at lw_m4 28 rfl) rfl
theorem q784 : (Jvm.Cond.instanceMethod ({ cls := "java/lang/String", name := "isLatin1", desc := "()Z" } : Jvm.MethodName)) ∈ lw_all := lw_g (lw_at lw_m4 29 rfl) rfl
theorem q785 : (Jvm.Cond.selects "java/lang/String" ({ cls := "java/lang/String", name := "isLatin1", desc := "()Z" } : Jvm.MethodName) ({ cls := "java/lang/String", name := "isLatin1", desc := "()Z" } : Jvm.MethodName)) ∈ lw_all := lw_g (lw_at lw_m4 30 rfl) rfl
theorem q786 : (Jvm.Cond.code ({ cls := "java/lang/String", name := "isLatin1", desc := "()Z" } : Jvm.MethodName) prog_25_method_154_code (1 : Nat) (Option.some Jvm.ClassFile.FieldType.boolean)) ∈ lw_all := lw_g (lw_at lw_m4 31 rfl) rfl
theorem q787 : (Jvm.Cond.interfaceEntry "java/lang/String" (577 : Nat)) ∈ lw_tbl := lw_at lw_m4 32 rfl
theorem q788 : (Jvm.Cond.methodLink "java/lang/String" (577 : Nat) ({ cls := "java/lang/CharSequence", name := "charAt", desc := "(I)C" } : Jvm.MethodName)) ∈ lw_all := lw_g (lw_at lw_m4 33 rfl) rfl
theorem q791 : (Jvm.Cond.selects "java/lang/String" ({ cls := "java/lang/CharSequence", name := "charAt", desc := "(I)C" } : Jvm.MethodName) ({ cls := "java/lang/String", name := "charAt", desc := "(I)C" } : Jvm.MethodName)) ∈ lw_all := lw_g (lw_at lw_m4 36 rfl) rfl
theorem q792 : (Jvm.Cond.unhidden "java/lang/String" "charAt" "(I)C") ∈ lw_tbl := lw_at lw_m4 37 rfl
theorem q793 : (Jvm.Cond.instanceMethod ({ cls := "java/lang/String", name := "charAt", desc := "(I)C" } : Jvm.MethodName)) ∈ lw_all := lw_g (lw_at lw_m4 38 rfl) rfl
theorem q794 : (Jvm.Cond.publicMethod ({ cls := "java/lang/String", name := "charAt", desc := "(I)C" } : Jvm.MethodName)) ∈ lw_tbl := lw_at lw_m4 39 rfl
theorem q795 : (Jvm.Cond.code ({ cls := "java/lang/String", name := "charAt", desc := "(I)C" } : Jvm.MethodName) prog_25_method_56_code (2 : Nat) (Option.some Jvm.ClassFile.FieldType.char)) ∈ lw_all := lw_g (lw_at lw_m4 40 rfl) rfl
theorem q796 : (Jvm.Cond.methodLink "java/lang/String" (495 : Nat) ({ cls := "java/lang/StringLatin1", name := "charAt", desc := "([BI)C" } : Jvm.MethodName)) ∈ lw_all := lw_g (lw_at lw_m4 41 rfl) rfl
theorem q800 : (Jvm.Cond.static ({ cls := "java/lang/String", name := "checkIndex", desc := "(II)V" } : Jvm.MethodName)) ∈ lw_all := lw_g (lw_at lw_m4 45 rfl) rfl
theorem q801 : (Jvm.Cond.code ({ cls := "java/lang/String", name := "checkIndex", desc := "(II)V" } : Jvm.MethodName) prog_25_method_155_code (2 : Nat) (Option.none : Option Jvm.ClassFile.FieldType)) ∈ lw_all := lw_g (lw_at lw_m4 46 rfl) rfl
theorem q802 : (Jvm.Cond.methodLink "java/lang/String" (1059 : Nat) ({ cls := "jdk/internal/util/Preconditions", name := "checkIndex", desc := "(IILjava/util/function/BiFunction;)I" } : Jvm.MethodName)) ∈ lw_all := lw_g (lw_at lw_m4 47 rfl) rfl
theorem q803 : (Jvm.Cond.methodLink "java/lang/String" (498 : Nat) ({ cls := "java/lang/StringUTF16", name := "charAt", desc := "([BI)C" } : Jvm.MethodName)) ∈ lw_all := lw_g (lw_at lw_m4 48 rfl) rfl
theorem q821 : (Jvm.Cond.methodLink "java/lang/String" (579 : Nat) ({ cls := "java/lang/StringUTF16", name := "contentEquals", desc := "([BLjava/lang/CharSequence;I)Z" } : Jvm.MethodName)) ∈ lw_all := lw_g (lw_at lw_m4 66 rfl) rfl
theorem q828 : (Jvm.Cond.static ({ cls := "java/lang/String", name := "checkOffset", desc := "(II)V" } : Jvm.MethodName)) ∈ lw_all := lw_g (lw_at lw_m4 73 rfl) rfl
theorem q829 : (Jvm.Cond.code ({ cls := "java/lang/String", name := "checkOffset", desc := "(II)V" } : Jvm.MethodName) prog_25_method_156_code (2 : Nat) (Option.none : Option Jvm.ClassFile.FieldType)) ∈ lw_all := lw_g (lw_at lw_m4 74 rfl) rfl
theorem q936 : (Jvm.Cond.instanceMethod ({ cls := "java/lang/String", name := "<init>", desc := "([BB)V" } : Jvm.MethodName)) ∈ lw_all := lw_g (lw_at lw_m4 181 rfl) rfl
theorem q937 : (Jvm.Cond.code ({ cls := "java/lang/String", name := "<init>", desc := "([BB)V" } : Jvm.MethodName) prog_25_method_151_code (3 : Nat) (Option.none : Option Jvm.ClassFile.FieldType)) ∈ lw_all := lw_g (lw_at lw_m4 182 rfl) rfl
theorem q988 : (Jvm.Cond.instanceMethod ({ cls := "java/lang/String", name := "startsWith", desc := "(Ljava/lang/String;)Z" } : Jvm.MethodName)) ∈ lw_all := lw_g (lw_at lw_m4 233 rfl) rfl
theorem q989 : (Jvm.Cond.selects "java/lang/String" ({ cls := "java/lang/String", name := "startsWith", desc := "(Ljava/lang/String;)Z" } : Jvm.MethodName) ({ cls := "java/lang/String", name := "startsWith", desc := "(Ljava/lang/String;)Z" } : Jvm.MethodName)) ∈ lw_all := lw_g (lw_at lw_m4 234 rfl) rfl
theorem q990 : (Jvm.Cond.code ({ cls := "java/lang/String", name := "startsWith", desc := "(Ljava/lang/String;)Z" } : Jvm.MethodName) prog_25_method_76_code (2 : Nat) (Option.some Jvm.ClassFile.FieldType.boolean)) ∈ lw_all := lw_g (lw_at lw_m4 235 rfl) rfl
theorem q991 : (Jvm.Cond.methodLink "java/lang/String" (624 : Nat) ({ cls := "java/lang/String", name := "startsWith", desc := "(Ljava/lang/String;I)Z" } : Jvm.MethodName)) ∈ lw_all := lw_g (lw_at lw_m4 236 rfl) rfl
theorem q992 : (Jvm.Cond.instanceMethod ({ cls := "java/lang/String", name := "startsWith", desc := "(Ljava/lang/String;I)Z" } : Jvm.MethodName)) ∈ lw_all := lw_g (lw_at lw_m4 237 rfl) rfl
theorem q993 : (Jvm.Cond.selects "java/lang/String" ({ cls := "java/lang/String", name := "startsWith", desc := "(Ljava/lang/String;I)Z" } : Jvm.MethodName) ({ cls := "java/lang/String", name := "startsWith", desc := "(Ljava/lang/String;I)Z" } : Jvm.MethodName)) ∈ lw_all := lw_g (lw_at lw_m4 238 rfl) rfl
theorem q994 : (Jvm.Cond.code ({ cls := "java/lang/String", name := "startsWith", desc := "(Ljava/lang/String;I)Z" } : Jvm.MethodName) prog_25_method_75_code (8 : Nat) (Option.some Jvm.ClassFile.FieldType.boolean)) ∈ lw_all := lw_g (lw_at lw_m4 239 rfl) rfl
theorem q995 : (Jvm.Cond.methodLink "java/lang/String" (607 : Nat) ({ cls := "jdk/internal/util/ArraysSupport", name := "mismatch", desc := "([BI[BII)I" } : Jvm.MethodName)) ∈ lw_all := lw_g (lw_at lw_m5 0 rfl) rfl
theorem q998 : (Jvm.Cond.methodLink "java/lang/String" (360 : Nat) ({ cls := "java/lang/StringUTF16", name := "getChar", desc := "([BI)C" } : Jvm.MethodName)) ∈ lw_all := lw_g (lw_at lw_m5 3 rfl) rfl
theorem q1555 : (Jvm.Cond.selects "java/lang/String" ({ cls := "java/lang/String", name := "charAt", desc := "(I)C" } : Jvm.MethodName) ({ cls := "java/lang/String", name := "charAt", desc := "(I)C" } : Jvm.MethodName)) ∈ lw_all := lw_g (lw_at lw_m7 80 rfl) rfl
theorem q1570 : (Jvm.Cond.castable "java/lang/String" "java/lang/Object") ∈ lw_tbl := lw_at lw_m7 95 rfl
theorem in_J2 : ∀ w ∈ wsJ20, w ∈ lw_all := lw_in wsJ20 [555, 557, 559, 561] (by decide +kernel) (by decide +kernel)

/-! java/util/ArrayList -/
set_option maxRecDepth 100000
def RJ6 : String := "java/util/ArrayList"
def TJ6 : u_T := fun k => match k with
  | 0 => ("java/util/AbstractList", "modCount", "I", false)
  | 1 => ("java/util/ArrayList", "elementData", "[Ljava/lang/Object;", false)
  | _ => ("java/util/ArrayList", "size", "I", false)
def tyJ6 : Nat → FieldType := fun k => match k with
  | 0 => .int
  | 1 => .array (.object "java/lang/Object")
  | _ => .int
abbrev wsJ60 : List Cond := u_ws RJ6 TJ6 3
theorem nmJ6 : ∀ a, a < 3 → ∀ b, b < 3 → a ≠ b → (TJ6 a).2.1 ≠ (TJ6 b).2.1 := by decide +kernel
theorem tyJ6_ok : ∀ k, k < 3 → parseFieldDescriptor (TJ6 k).2.2.1 = some (tyJ6 k) := by decide +kernel
abbrev cJ6_init : ByteArray := prog_37_method_2_code
def yJ6_init : MethodName := ⟨RJ6, "<init>", "()V"⟩
def dkwJ6_init_0 : List UInt8 := [42, 183, 0, 1, 42, 178, 0, 39, 181, 0, 9, 177]
abbrev dktJ6_init_0 : List UInt8 := dkwJ6_init_0 ++ []
theorem dksJ6_init_0 : cJ6_init.data.toList.drop 0 = dktJ6_init_0 := by decide +kernel
theorem dJ6_init_0 : decode cJ6_init 0 = .ok (.aload_n 0, 1) := dk_42 (dk_at dksJ6_init_0 0 rfl rfl)
theorem dJ6_init_1 : decode cJ6_init 1 = .ok (.invokespecial 1, 3) := dk_183 0 1 (dk_at dksJ6_init_0 1 rfl rfl)
theorem dJ6_init_4 : decode cJ6_init 4 = .ok (.aload_n 0, 1) := dk_42 (dk_at dksJ6_init_0 4 rfl rfl)
theorem dJ6_init_5 : decode cJ6_init 5 = .ok (.getstatic 39, 3) := dk_178 0 39 (dk_at dksJ6_init_0 5 rfl rfl)
theorem dJ6_init_8 : decode cJ6_init 8 = .ok (.putfield 9, 3) := dk_181 0 9 (dk_at dksJ6_init_0 8 rfl rfl)
theorem dJ6_init_11 : decode cJ6_init 11 = .ok (.return_, 1) := dk_177 (dk_at dksJ6_init_0 11 rfl rfl)
abbrev cJ6_add : ByteArray := prog_37_method_25_code
def yJ6_add : MethodName := ⟨RJ6, "add", "(Ljava/lang/Object;)Z"⟩
def dkwJ6_add_1 : List UInt8 := [172]
abbrev dktJ6_add_1 : List UInt8 := dkwJ6_add_1 ++ []
def dkwJ6_add_0 : List UInt8 := [42, 89, 180, 0, 63, 4, 96, 181, 0, 63, 42, 43, 42, 180, 0, 9, 42, 180, 0, 48, 182, 0, 131, 4]
abbrev dktJ6_add_0 : List UInt8 := dkwJ6_add_0 ++ dktJ6_add_1
theorem dksJ6_add_0 : cJ6_add.data.toList.drop 0 = dktJ6_add_0 := by decide +kernel
theorem dksJ6_add_1 : cJ6_add.data.toList.drop 24 = dktJ6_add_1 := dk_seg dksJ6_add_0 24 rfl rfl
theorem dJ6_add_0 : decode cJ6_add 0 = .ok (.aload_n 0, 1) := dk_42 (dk_at dksJ6_add_0 0 rfl rfl)
theorem dJ6_add_1 : decode cJ6_add 1 = .ok (.dup, 1) := dk_89 (dk_at dksJ6_add_0 1 rfl rfl)
theorem dJ6_add_2 : decode cJ6_add 2 = .ok (.getfield 63, 3) := dk_180 0 63 (dk_at dksJ6_add_0 2 rfl rfl)
theorem dJ6_add_5 : decode cJ6_add 5 = .ok (.iconst 1, 1) := dk_4 (dk_at dksJ6_add_0 5 rfl rfl)
theorem dJ6_add_6 : decode cJ6_add 6 = .ok (.iadd, 1) := dk_96 (dk_at dksJ6_add_0 6 rfl rfl)
theorem dJ6_add_7 : decode cJ6_add 7 = .ok (.putfield 63, 3) := dk_181 0 63 (dk_at dksJ6_add_0 7 rfl rfl)
theorem dJ6_add_10 : decode cJ6_add 10 = .ok (.aload_n 0, 1) := dk_42 (dk_at dksJ6_add_0 10 rfl rfl)
theorem dJ6_add_11 : decode cJ6_add 11 = .ok (.aload_n 1, 1) := dk_43 (dk_at dksJ6_add_0 11 rfl rfl)
theorem dJ6_add_12 : decode cJ6_add 12 = .ok (.aload_n 0, 1) := dk_42 (dk_at dksJ6_add_0 12 rfl rfl)
theorem dJ6_add_13 : decode cJ6_add 13 = .ok (.getfield 9, 3) := dk_180 0 9 (dk_at dksJ6_add_0 13 rfl rfl)
theorem dJ6_add_16 : decode cJ6_add 16 = .ok (.aload_n 0, 1) := dk_42 (dk_at dksJ6_add_0 16 rfl rfl)
theorem dJ6_add_17 : decode cJ6_add 17 = .ok (.getfield 48, 3) := dk_180 0 48 (dk_at dksJ6_add_0 17 rfl rfl)
theorem dJ6_add_20 : decode cJ6_add 20 = .ok (.invokevirtual 131, 3) := dk_182 0 131 (dk_at dksJ6_add_0 20 rfl rfl)
theorem dJ6_add_23 : decode cJ6_add 23 = .ok (.iconst 1, 1) := dk_4 (dk_at dksJ6_add_0 23 rfl rfl)
theorem dJ6_add_24 : decode cJ6_add 24 = .ok (.ireturn, 1) := dk_172 (dk_at dksJ6_add_1 0 rfl rfl)
abbrev cJ6_add_2 : ByteArray := prog_37_method_24_code
def yJ6_add_2 : MethodName := ⟨RJ6, "add", "(Ljava/lang/Object;[Ljava/lang/Object;I)V"⟩
def dkwJ6_add_2_0 : List UInt8 := [29, 44, 190, 160, 0, 8, 42, 182, 0, 129, 77, 44, 29, 43, 83, 42, 29, 4, 96, 181, 0, 48, 177]
abbrev dktJ6_add_2_0 : List UInt8 := dkwJ6_add_2_0 ++ []
theorem dksJ6_add_2_0 : cJ6_add_2.data.toList.drop 0 = dktJ6_add_2_0 := by decide +kernel
theorem dJ6_add_2_0 : decode cJ6_add_2 0 = .ok (.iload_n 3, 1) := dk_29 (dk_at dksJ6_add_2_0 0 rfl rfl)
theorem dJ6_add_2_1 : decode cJ6_add_2 1 = .ok (.aload_n 2, 1) := dk_44 (dk_at dksJ6_add_2_0 1 rfl rfl)
theorem dJ6_add_2_2 : decode cJ6_add_2 2 = .ok (.arraylength, 1) := dk_190 (dk_at dksJ6_add_2_0 2 rfl rfl)
theorem dJ6_add_2_3 : decode cJ6_add_2 3 = .ok (.if_icmp .ne 8, 3) := dk_160 0 8 (dk_at dksJ6_add_2_0 3 rfl rfl)
theorem dJ6_add_2_6 : decode cJ6_add_2 6 = .ok (.aload_n 0, 1) := dk_42 (dk_at dksJ6_add_2_0 6 rfl rfl)
theorem dJ6_add_2_7 : decode cJ6_add_2 7 = .ok (.invokevirtual 129, 3) := dk_182 0 129 (dk_at dksJ6_add_2_0 7 rfl rfl)
theorem dJ6_add_2_10 : decode cJ6_add_2 10 = .ok (.astore_n 2, 1) := dk_77 (dk_at dksJ6_add_2_0 10 rfl rfl)
theorem dJ6_add_2_11 : decode cJ6_add_2 11 = .ok (.aload_n 2, 1) := dk_44 (dk_at dksJ6_add_2_0 11 rfl rfl)
theorem dJ6_add_2_12 : decode cJ6_add_2 12 = .ok (.iload_n 3, 1) := dk_29 (dk_at dksJ6_add_2_0 12 rfl rfl)
theorem dJ6_add_2_13 : decode cJ6_add_2 13 = .ok (.aload_n 1, 1) := dk_43 (dk_at dksJ6_add_2_0 13 rfl rfl)
theorem dJ6_add_2_14 : decode cJ6_add_2 14 = .ok (.aastore, 1) := dk_83 (dk_at dksJ6_add_2_0 14 rfl rfl)
theorem dJ6_add_2_15 : decode cJ6_add_2 15 = .ok (.aload_n 0, 1) := dk_42 (dk_at dksJ6_add_2_0 15 rfl rfl)
theorem dJ6_add_2_16 : decode cJ6_add_2 16 = .ok (.iload_n 3, 1) := dk_29 (dk_at dksJ6_add_2_0 16 rfl rfl)
theorem dJ6_add_2_17 : decode cJ6_add_2 17 = .ok (.iconst 1, 1) := dk_4 (dk_at dksJ6_add_2_0 17 rfl rfl)
theorem dJ6_add_2_18 : decode cJ6_add_2 18 = .ok (.iadd, 1) := dk_96 (dk_at dksJ6_add_2_0 18 rfl rfl)
theorem dJ6_add_2_19 : decode cJ6_add_2 19 = .ok (.putfield 48, 3) := dk_181 0 48 (dk_at dksJ6_add_2_0 19 rfl rfl)
theorem dJ6_add_2_22 : decode cJ6_add_2 22 = .ok (.return_, 1) := dk_177 (dk_at dksJ6_add_2_0 22 rfl rfl)
abbrev cJ6_grow : ByteArray := prog_37_method_7_code
def yJ6_grow : MethodName := ⟨RJ6, "grow", "()[Ljava/lang/Object;"⟩
def dkwJ6_grow_0 : List UInt8 := [42, 42, 180, 0, 48, 4, 96, 182, 0, 69, 176]
abbrev dktJ6_grow_0 : List UInt8 := dkwJ6_grow_0 ++ []
theorem dksJ6_grow_0 : cJ6_grow.data.toList.drop 0 = dktJ6_grow_0 := by decide +kernel
theorem dJ6_grow_0 : decode cJ6_grow 0 = .ok (.aload_n 0, 1) := dk_42 (dk_at dksJ6_grow_0 0 rfl rfl)
theorem dJ6_grow_1 : decode cJ6_grow 1 = .ok (.aload_n 0, 1) := dk_42 (dk_at dksJ6_grow_0 1 rfl rfl)
theorem dJ6_grow_2 : decode cJ6_grow 2 = .ok (.getfield 48, 3) := dk_180 0 48 (dk_at dksJ6_grow_0 2 rfl rfl)
theorem dJ6_grow_5 : decode cJ6_grow 5 = .ok (.iconst 1, 1) := dk_4 (dk_at dksJ6_grow_0 5 rfl rfl)
theorem dJ6_grow_6 : decode cJ6_grow 6 = .ok (.iadd, 1) := dk_96 (dk_at dksJ6_grow_0 6 rfl rfl)
theorem dJ6_grow_7 : decode cJ6_grow 7 = .ok (.invokevirtual 69, 3) := dk_182 0 69 (dk_at dksJ6_grow_0 7 rfl rfl)
theorem dJ6_grow_10 : decode cJ6_grow 10 = .ok (.areturn, 1) := dk_176 (dk_at dksJ6_grow_0 10 rfl rfl)
abbrev cJ6_grow_2 : ByteArray := prog_37_method_6_code
def yJ6_grow_2 : MethodName := ⟨RJ6, "grow", "(I)[Ljava/lang/Object;"⟩
def dkwJ6_grow_2_2 : List UInt8 := [27, 184, 0, 79, 189, 0, 7, 90, 181, 0, 9, 176]
abbrev dktJ6_grow_2_2 : List UInt8 := dkwJ6_grow_2_2 ++ []
def dkwJ6_grow_2_1 : List UInt8 := [28, 4, 122, 184, 0, 73, 62, 42, 42, 180, 0, 9, 29, 184, 0, 66, 90, 181, 0, 9, 176, 42, 16, 10]
abbrev dktJ6_grow_2_1 : List UInt8 := dkwJ6_grow_2_1 ++ dktJ6_grow_2_2
def dkwJ6_grow_2_0 : List UInt8 := [42, 180, 0, 9, 190, 61, 28, 157, 0, 13, 42, 180, 0, 9, 178, 0, 39, 165, 0, 28, 28, 27, 28, 100]
abbrev dktJ6_grow_2_0 : List UInt8 := dkwJ6_grow_2_0 ++ dktJ6_grow_2_1
theorem dksJ6_grow_2_0 : cJ6_grow_2.data.toList.drop 0 = dktJ6_grow_2_0 := by decide +kernel
theorem dksJ6_grow_2_1 : cJ6_grow_2.data.toList.drop 24 = dktJ6_grow_2_1 := dk_seg dksJ6_grow_2_0 24 rfl rfl
theorem dksJ6_grow_2_2 : cJ6_grow_2.data.toList.drop 48 = dktJ6_grow_2_2 := dk_seg dksJ6_grow_2_1 24 rfl rfl
theorem dJ6_grow_2_0 : decode cJ6_grow_2 0 = .ok (.aload_n 0, 1) := dk_42 (dk_at dksJ6_grow_2_0 0 rfl rfl)
theorem dJ6_grow_2_1 : decode cJ6_grow_2 1 = .ok (.getfield 9, 3) := dk_180 0 9 (dk_at dksJ6_grow_2_0 1 rfl rfl)
theorem dJ6_grow_2_4 : decode cJ6_grow_2 4 = .ok (.arraylength, 1) := dk_190 (dk_at dksJ6_grow_2_0 4 rfl rfl)
theorem dJ6_grow_2_5 : decode cJ6_grow_2 5 = .ok (.istore_n 2, 1) := dk_61 (dk_at dksJ6_grow_2_0 5 rfl rfl)
theorem dJ6_grow_2_6 : decode cJ6_grow_2 6 = .ok (.iload_n 2, 1) := dk_28 (dk_at dksJ6_grow_2_0 6 rfl rfl)
theorem dJ6_grow_2_7 : decode cJ6_grow_2 7 = .ok (.ifCond .gt 13, 3) := dk_157 0 13 (dk_at dksJ6_grow_2_0 7 rfl rfl)
theorem dJ6_grow_2_10 : decode cJ6_grow_2 10 = .ok (.aload_n 0, 1) := dk_42 (dk_at dksJ6_grow_2_0 10 rfl rfl)
theorem dJ6_grow_2_11 : decode cJ6_grow_2 11 = .ok (.getfield 9, 3) := dk_180 0 9 (dk_at dksJ6_grow_2_0 11 rfl rfl)
theorem dJ6_grow_2_14 : decode cJ6_grow_2 14 = .ok (.getstatic 39, 3) := dk_178 0 39 (dk_at dksJ6_grow_2_0 14 rfl rfl)
theorem dJ6_grow_2_17 : decode cJ6_grow_2 17 = .ok (.if_acmp .eq 28, 3) := dk_165 0 28 (dk_at dksJ6_grow_2_0 17 rfl rfl)
theorem dJ6_grow_2_20 : decode cJ6_grow_2 20 = .ok (.iload_n 2, 1) := dk_28 (dk_at dksJ6_grow_2_0 20 rfl rfl)
theorem dJ6_grow_2_21 : decode cJ6_grow_2 21 = .ok (.iload_n 1, 1) := dk_27 (dk_at dksJ6_grow_2_0 21 rfl rfl)
theorem dJ6_grow_2_22 : decode cJ6_grow_2 22 = .ok (.iload_n 2, 1) := dk_28 (dk_at dksJ6_grow_2_0 22 rfl rfl)
theorem dJ6_grow_2_23 : decode cJ6_grow_2 23 = .ok (.isub, 1) := dk_100 (dk_at dksJ6_grow_2_0 23 rfl rfl)
theorem dJ6_grow_2_24 : decode cJ6_grow_2 24 = .ok (.iload_n 2, 1) := dk_28 (dk_at dksJ6_grow_2_1 0 rfl rfl)
theorem dJ6_grow_2_25 : decode cJ6_grow_2 25 = .ok (.iconst 1, 1) := dk_4 (dk_at dksJ6_grow_2_1 1 rfl rfl)
theorem dJ6_grow_2_26 : decode cJ6_grow_2 26 = .ok (.ishr, 1) := dk_122 (dk_at dksJ6_grow_2_1 2 rfl rfl)
theorem dJ6_grow_2_27 : decode cJ6_grow_2 27 = .ok (.invokestatic 73, 3) := dk_184 0 73 (dk_at dksJ6_grow_2_1 3 rfl rfl)
theorem dJ6_grow_2_30 : decode cJ6_grow_2 30 = .ok (.istore_n 3, 1) := dk_62 (dk_at dksJ6_grow_2_1 6 rfl rfl)
theorem dJ6_grow_2_31 : decode cJ6_grow_2 31 = .ok (.aload_n 0, 1) := dk_42 (dk_at dksJ6_grow_2_1 7 rfl rfl)
theorem dJ6_grow_2_32 : decode cJ6_grow_2 32 = .ok (.aload_n 0, 1) := dk_42 (dk_at dksJ6_grow_2_1 8 rfl rfl)
theorem dJ6_grow_2_33 : decode cJ6_grow_2 33 = .ok (.getfield 9, 3) := dk_180 0 9 (dk_at dksJ6_grow_2_1 9 rfl rfl)
theorem dJ6_grow_2_36 : decode cJ6_grow_2 36 = .ok (.iload_n 3, 1) := dk_29 (dk_at dksJ6_grow_2_1 12 rfl rfl)
theorem dJ6_grow_2_37 : decode cJ6_grow_2 37 = .ok (.invokestatic 66, 3) := dk_184 0 66 (dk_at dksJ6_grow_2_1 13 rfl rfl)
theorem dJ6_grow_2_40 : decode cJ6_grow_2 40 = .ok (.dup_x1, 1) := dk_90 (dk_at dksJ6_grow_2_1 16 rfl rfl)
theorem dJ6_grow_2_41 : decode cJ6_grow_2 41 = .ok (.putfield 9, 3) := dk_181 0 9 (dk_at dksJ6_grow_2_1 17 rfl rfl)
theorem dJ6_grow_2_44 : decode cJ6_grow_2 44 = .ok (.areturn, 1) := dk_176 (dk_at dksJ6_grow_2_1 20 rfl rfl)
theorem dJ6_grow_2_45 : decode cJ6_grow_2 45 = .ok (.aload_n 0, 1) := dk_42 (dk_at dksJ6_grow_2_1 21 rfl rfl)
theorem dJ6_grow_2_46 : decode cJ6_grow_2 46 = .ok (.bipush 10, 2) := dk_16 10 (dk_at dksJ6_grow_2_1 22 rfl rfl)
theorem dJ6_grow_2_48 : decode cJ6_grow_2 48 = .ok (.iload_n 1, 1) := dk_27 (dk_at dksJ6_grow_2_2 0 rfl rfl)
theorem dJ6_grow_2_49 : decode cJ6_grow_2 49 = .ok (.invokestatic 79, 3) := dk_184 0 79 (dk_at dksJ6_grow_2_2 1 rfl rfl)
theorem dJ6_grow_2_52 : decode cJ6_grow_2 52 = .ok (.anewarray 7, 3) := dk_189 0 7 (dk_at dksJ6_grow_2_2 4 rfl rfl)
theorem dJ6_grow_2_55 : decode cJ6_grow_2 55 = .ok (.dup_x1, 1) := dk_90 (dk_at dksJ6_grow_2_2 7 rfl rfl)
theorem dJ6_grow_2_56 : decode cJ6_grow_2 56 = .ok (.putfield 9, 3) := dk_181 0 9 (dk_at dksJ6_grow_2_2 8 rfl rfl)
theorem dJ6_grow_2_59 : decode cJ6_grow_2 59 = .ok (.areturn, 1) := dk_176 (dk_at dksJ6_grow_2_2 11 rfl rfl)
abbrev cJ6_size : ByteArray := prog_37_method_8_code
def yJ6_size : MethodName := ⟨RJ6, "size", "()I"⟩
theorem dJ6_size_0 : decode cJ6_size 0 = .ok (.aload_n 0, 1) := by decide +kernel
theorem dJ6_size_1 : decode cJ6_size 1 = .ok (.getfield 48, 3) := by decide +kernel
theorem dJ6_size_4 : decode cJ6_size 4 = .ok (.ireturn, 1) := by decide +kernel
abbrev cJ6_get : ByteArray := prog_37_method_20_code
def yJ6_get : MethodName := ⟨RJ6, "get", "(I)Ljava/lang/Object;"⟩
def dkwJ6_get_0 : List UInt8 := [27, 42, 180, 0, 48, 184, 0, 118, 87, 42, 27, 182, 0, 123, 176]
abbrev dktJ6_get_0 : List UInt8 := dkwJ6_get_0 ++ []
theorem dksJ6_get_0 : cJ6_get.data.toList.drop 0 = dktJ6_get_0 := by decide +kernel
theorem dJ6_get_0 : decode cJ6_get 0 = .ok (.iload_n 1, 1) := dk_27 (dk_at dksJ6_get_0 0 rfl rfl)
theorem dJ6_get_1 : decode cJ6_get 1 = .ok (.aload_n 0, 1) := dk_42 (dk_at dksJ6_get_0 1 rfl rfl)
theorem dJ6_get_2 : decode cJ6_get 2 = .ok (.getfield 48, 3) := dk_180 0 48 (dk_at dksJ6_get_0 2 rfl rfl)
theorem dJ6_get_5 : decode cJ6_get 5 = .ok (.invokestatic 118, 3) := dk_184 0 118 (dk_at dksJ6_get_0 5 rfl rfl)
theorem dJ6_get_8 : decode cJ6_get 8 = .ok (.pop, 1) := dk_87 (dk_at dksJ6_get_0 8 rfl rfl)
theorem dJ6_get_9 : decode cJ6_get 9 = .ok (.aload_n 0, 1) := dk_42 (dk_at dksJ6_get_0 9 rfl rfl)
theorem dJ6_get_10 : decode cJ6_get 10 = .ok (.iload_n 1, 1) := dk_27 (dk_at dksJ6_get_0 10 rfl rfl)
theorem dJ6_get_11 : decode cJ6_get 11 = .ok (.invokevirtual 123, 3) := dk_182 0 123 (dk_at dksJ6_get_0 11 rfl rfl)
theorem dJ6_get_14 : decode cJ6_get 14 = .ok (.areturn, 1) := dk_176 (dk_at dksJ6_get_0 14 rfl rfl)
abbrev cJ6_elementData : ByteArray := prog_37_method_18_code
def yJ6_elementData : MethodName := ⟨RJ6, "elementData", "(I)Ljava/lang/Object;"⟩
def dkwJ6_elementData_0 : List UInt8 := [42, 180, 0, 9, 27, 50, 176]
abbrev dktJ6_elementData_0 : List UInt8 := dkwJ6_elementData_0 ++ []
theorem dksJ6_elementData_0 : cJ6_elementData.data.toList.drop 0 = dktJ6_elementData_0 := by decide +kernel
theorem dJ6_elementData_0 : decode cJ6_elementData 0 = .ok (.aload_n 0, 1) := dk_42 (dk_at dksJ6_elementData_0 0 rfl rfl)
theorem dJ6_elementData_1 : decode cJ6_elementData 1 = .ok (.getfield 9, 3) := dk_180 0 9 (dk_at dksJ6_elementData_0 1 rfl rfl)
theorem dJ6_elementData_4 : decode cJ6_elementData 4 = .ok (.iload_n 1, 1) := dk_27 (dk_at dksJ6_elementData_0 4 rfl rfl)
theorem dJ6_elementData_5 : decode cJ6_elementData 5 = .ok (.aaload, 1) := dk_50 (dk_at dksJ6_elementData_0 5 rfl rfl)
theorem dJ6_elementData_6 : decode cJ6_elementData 6 = .ok (.areturn, 1) := dk_176 (dk_at dksJ6_elementData_0 6 rfl rfl)
theorem q43 : (Jvm.Cond.initialized "java/util/ArrayList") ∈ lw_all := lw_g (lw_at lw_m1 8 rfl) rfl
theorem q113 : (Jvm.Cond.instantiable "java/util/ArrayList" (3 : Nat)) ∈ lw_all := lw_g (lw_at lw_m1 78 rfl) rfl
theorem q115 : (Jvm.Cond.instanceMethod ({ cls := "java/util/ArrayList", name := "<init>", desc := "()V" } : Jvm.MethodName)) ∈ lw_all := lw_g (lw_at lw_m1 80 rfl) rfl
theorem q116 : (Jvm.Cond.code ({ cls := "java/util/ArrayList", name := "<init>", desc := "()V" } : Jvm.MethodName) prog_37_method_2_code (1 : Nat) (Option.none : Option Jvm.ClassFile.FieldType)) ∈ lw_all := lw_g (lw_at lw_m1 81 rfl) rfl
theorem q117 : (Jvm.Cond.methodLink "java/util/ArrayList" (1 : Nat) ({ cls := "java/util/AbstractList", name := "<init>", desc := "()V" } : Jvm.MethodName)) ∈ lw_all := lw_g (lw_at lw_m1 82 rfl) rfl
theorem q124 : (Jvm.Cond.fieldLink "java/util/ArrayList" (39 : Nat) "java/util/ArrayList" "DEFAULTCAPACITY_EMPTY_ELEMENTDATA" "[Ljava/lang/Object;") ∈ lw_all := lw_g (lw_at lw_m1 89 rfl) rfl
theorem q125 : (Jvm.Cond.laysStatic "java/util/ArrayList" "DEFAULTCAPACITY_EMPTY_ELEMENTDATA" "[Ljava/lang/Object;") ∈ lw_tbl := lw_at lw_m1 90 rfl
theorem q126 : (Jvm.Cond.fieldLink "java/util/ArrayList" (9 : Nat) "java/util/ArrayList" "elementData" "[Ljava/lang/Object;") ∈ lw_all := lw_g (lw_at lw_m1 91 rfl) rfl
theorem q127 : (Jvm.Cond.fieldLink "java/util/ArrayList" (48 : Nat) "java/util/ArrayList" "size" "I") ∈ lw_all := lw_g (lw_at lw_m1 92 rfl) rfl
theorem q129 : (Jvm.Cond.fieldLink "java/util/ArrayList" (63 : Nat) "java/util/ArrayList" "modCount" "I") ∈ lw_all := lw_g (lw_at lw_m1 94 rfl) rfl
theorem q130 : (Jvm.Cond.sameField "java/util/ArrayList" "java/util/AbstractList" "modCount" "I") ∈ lw_all := lw_g (lw_at lw_m1 95 rfl) rfl
theorem q131 : (Jvm.Cond.lays "java/util/ArrayList" "java/util/ArrayList" "elementData" "[Ljava/lang/Object;") ∈ lw_all := lw_g (lw_at lw_m1 96 rfl) rfl
theorem q132 : (Jvm.Cond.soleField "java/util/ArrayList" "elementData") ∈ lw_all := lw_g (lw_at lw_m1 97 rfl) rfl
theorem q133 : (Jvm.Cond.lays "java/util/ArrayList" "java/util/ArrayList" "size" "I") ∈ lw_all := lw_g (lw_at lw_m1 98 rfl) rfl
theorem q134 : (Jvm.Cond.soleField "java/util/ArrayList" "size") ∈ lw_all := lw_g (lw_at lw_m1 99 rfl) rfl
theorem q135 : (Jvm.Cond.lays "java/util/ArrayList" "java/util/AbstractList" "modCount" "I") ∈ lw_all := lw_g (lw_at lw_m1 100 rfl) rfl
theorem q137 : (Jvm.Cond.superclass "java/util/ArrayList" "java/util/AbstractList") ∈ lw_all := lw_g (lw_at lw_m1 102 rfl) rfl
theorem q195 : (Jvm.Cond.instanceMethod ({ cls := "java/util/ArrayList", name := "add", desc := "(Ljava/lang/Object;)Z" } : Jvm.MethodName)) ∈ lw_all := lw_g (lw_at lw_m1 160 rfl) rfl
theorem q196 : (Jvm.Cond.selects "java/util/ArrayList" ({ cls := "java/util/ArrayList", name := "add", desc := "(Ljava/lang/Object;)Z" } : Jvm.MethodName) ({ cls := "java/util/ArrayList", name := "add", desc := "(Ljava/lang/Object;)Z" } : Jvm.MethodName)) ∈ lw_all := lw_g (lw_at lw_m1 161 rfl) rfl
theorem q197 : (Jvm.Cond.code ({ cls := "java/util/ArrayList", name := "add", desc := "(Ljava/lang/Object;)Z" } : Jvm.MethodName) prog_37_method_25_code (2 : Nat) (Option.some Jvm.ClassFile.FieldType.boolean)) ∈ lw_all := lw_g (lw_at lw_m1 162 rfl) rfl
theorem q198 : (Jvm.Cond.methodLink "java/util/ArrayList" (131 : Nat) ({ cls := "java/util/ArrayList", name := "add", desc := "(Ljava/lang/Object;[Ljava/lang/Object;I)V" } : Jvm.MethodName)) ∈ lw_all := lw_g (lw_at lw_m1 163 rfl) rfl
theorem q199 : (Jvm.Cond.privateMethod ({ cls := "java/util/ArrayList", name := "add", desc := "(Ljava/lang/Object;[Ljava/lang/Object;I)V" } : Jvm.MethodName)) ∈ lw_tbl := lw_at lw_m1 164 rfl
theorem q200 : (Jvm.Cond.instanceMethod ({ cls := "java/util/ArrayList", name := "add", desc := "(Ljava/lang/Object;[Ljava/lang/Object;I)V" } : Jvm.MethodName)) ∈ lw_all := lw_g (lw_at lw_m1 165 rfl) rfl
theorem q201 : (Jvm.Cond.code ({ cls := "java/util/ArrayList", name := "add", desc := "(Ljava/lang/Object;[Ljava/lang/Object;I)V" } : Jvm.MethodName) prog_37_method_24_code (4 : Nat) (Option.none : Option Jvm.ClassFile.FieldType)) ∈ lw_all := lw_g (lw_at lw_m1 166 rfl) rfl
theorem q202 : (Jvm.Cond.methodLink "java/util/ArrayList" (129 : Nat) ({ cls := "java/util/ArrayList", name := "grow", desc := "()[Ljava/lang/Object;" } : Jvm.MethodName)) ∈ lw_all := lw_g (lw_at lw_m1 167 rfl) rfl
theorem q203 : (Jvm.Cond.privateMethod ({ cls := "java/util/ArrayList", name := "grow", desc := "()[Ljava/lang/Object;" } : Jvm.MethodName)) ∈ lw_tbl := lw_at lw_m1 168 rfl
theorem q204 : (Jvm.Cond.instanceMethod ({ cls := "java/util/ArrayList", name := "grow", desc := "()[Ljava/lang/Object;" } : Jvm.MethodName)) ∈ lw_all := lw_g (lw_at lw_m1 169 rfl) rfl
theorem q205 : (Jvm.Cond.code ({ cls := "java/util/ArrayList", name := "grow", desc := "()[Ljava/lang/Object;" } : Jvm.MethodName) prog_37_method_7_code (1 : Nat) (Option.some (Jvm.ClassFile.FieldType.array (Jvm.ClassFile.FieldType.object "java/lang/Object")))) ∈ lw_all := lw_g (lw_at lw_m1 170 rfl) rfl
theorem q206 : (Jvm.Cond.methodLink "java/util/ArrayList" (69 : Nat) ({ cls := "java/util/ArrayList", name := "grow", desc := "(I)[Ljava/lang/Object;" } : Jvm.MethodName)) ∈ lw_all := lw_g (lw_at lw_m1 171 rfl) rfl
theorem q207 : (Jvm.Cond.privateMethod ({ cls := "java/util/ArrayList", name := "grow", desc := "(I)[Ljava/lang/Object;" } : Jvm.MethodName)) ∈ lw_tbl := lw_at lw_m1 172 rfl
theorem q208 : (Jvm.Cond.instanceMethod ({ cls := "java/util/ArrayList", name := "grow", desc := "(I)[Ljava/lang/Object;" } : Jvm.MethodName)) ∈ lw_all := lw_g (lw_at lw_m1 173 rfl) rfl
theorem q209 : (Jvm.Cond.code ({ cls := "java/util/ArrayList", name := "grow", desc := "(I)[Ljava/lang/Object;" } : Jvm.MethodName) prog_37_method_6_code (4 : Nat) (Option.some (Jvm.ClassFile.FieldType.array (Jvm.ClassFile.FieldType.object "java/lang/Object")))) ∈ lw_all := lw_g (lw_at lw_m1 174 rfl) rfl
theorem q210 : (Jvm.Cond.methodLink "java/util/ArrayList" (73 : Nat) ({ cls := "jdk/internal/util/ArraysSupport", name := "newLength", desc := "(III)I" } : Jvm.MethodName)) ∈ lw_all := lw_g (lw_at lw_m1 175 rfl) rfl
theorem q220 : (Jvm.Cond.methodLink "java/util/ArrayList" (66 : Nat) ({ cls := "java/util/Arrays", name := "copyOf", desc := "([Ljava/lang/Object;I)[Ljava/lang/Object;" } : Jvm.MethodName)) ∈ lw_all := lw_g (lw_at lw_m1 185 rfl) rfl
theorem q239 : (Jvm.Cond.selects "java/util/ArrayList" ({ cls := "java/lang/Object", name := "getClass", desc := "()Ljava/lang/Class;" } : Jvm.MethodName) ({ cls := "java/lang/Object", name := "getClass", desc := "()Ljava/lang/Class;" } : Jvm.MethodName)) ∈ lw_all := lw_g (lw_at lw_m1 204 rfl) rfl
theorem q254 : (Jvm.Cond.methodLink "java/util/ArrayList" (79 : Nat) ({ cls := "java/lang/Math", name := "max", desc := "(II)I" } : Jvm.MethodName)) ∈ lw_all := lw_g (lw_at lw_m1 219 rfl) rfl
theorem q255 : (Jvm.Cond.classLink "java/util/ArrayList" (7 : Nat) "java/lang/Object") ∈ lw_all := lw_g (lw_at lw_m1 220 rfl) rfl
theorem q623 : (Jvm.Cond.instanceMethod ({ cls := "java/util/ArrayList", name := "size", desc := "()I" } : Jvm.MethodName)) ∈ lw_all := lw_g (lw_at lw_m3 108 rfl) rfl
theorem q624 : (Jvm.Cond.selects "java/util/ArrayList" ({ cls := "java/util/ArrayList", name := "size", desc := "()I" } : Jvm.MethodName) ({ cls := "java/util/ArrayList", name := "size", desc := "()I" } : Jvm.MethodName)) ∈ lw_all := lw_g (lw_at lw_m3 109 rfl) rfl
theorem q625 : (Jvm.Cond.code ({ cls := "java/util/ArrayList", name := "size", desc := "()I" } : Jvm.MethodName) prog_37_method_8_code (1 : Nat) (Option.some Jvm.ClassFile.FieldType.int)) ∈ lw_all := lw_g (lw_at lw_m3 110 rfl) rfl
theorem q627 : (Jvm.Cond.instanceMethod ({ cls := "java/util/ArrayList", name := "get", desc := "(I)Ljava/lang/Object;" } : Jvm.MethodName)) ∈ lw_all := lw_g (lw_at lw_m3 112 rfl) rfl
theorem q628 : (Jvm.Cond.selects "java/util/ArrayList" ({ cls := "java/util/ArrayList", name := "get", desc := "(I)Ljava/lang/Object;" } : Jvm.MethodName) ({ cls := "java/util/ArrayList", name := "get", desc := "(I)Ljava/lang/Object;" } : Jvm.MethodName)) ∈ lw_all := lw_g (lw_at lw_m3 113 rfl) rfl
theorem q629 : (Jvm.Cond.code ({ cls := "java/util/ArrayList", name := "get", desc := "(I)Ljava/lang/Object;" } : Jvm.MethodName) prog_37_method_20_code (2 : Nat) (Option.some (Jvm.ClassFile.FieldType.object "java/lang/Object"))) ∈ lw_all := lw_g (lw_at lw_m3 114 rfl) rfl
theorem q630 : (Jvm.Cond.methodLink "java/util/ArrayList" (118 : Nat) ({ cls := "java/util/Objects", name := "checkIndex", desc := "(II)I" } : Jvm.MethodName)) ∈ lw_all := lw_g (lw_at lw_m3 115 rfl) rfl
theorem q636 : (Jvm.Cond.methodLink "java/util/ArrayList" (123 : Nat) ({ cls := "java/util/ArrayList", name := "elementData", desc := "(I)Ljava/lang/Object;" } : Jvm.MethodName)) ∈ lw_all := lw_g (lw_at lw_m3 121 rfl) rfl
theorem q637 : (Jvm.Cond.instanceMethod ({ cls := "java/util/ArrayList", name := "elementData", desc := "(I)Ljava/lang/Object;" } : Jvm.MethodName)) ∈ lw_all := lw_g (lw_at lw_m3 122 rfl) rfl
theorem q638 : (Jvm.Cond.selects "java/util/ArrayList" ({ cls := "java/util/ArrayList", name := "elementData", desc := "(I)Ljava/lang/Object;" } : Jvm.MethodName) ({ cls := "java/util/ArrayList", name := "elementData", desc := "(I)Ljava/lang/Object;" } : Jvm.MethodName)) ∈ lw_all := lw_g (lw_at lw_m3 123 rfl) rfl
theorem q639 : (Jvm.Cond.code ({ cls := "java/util/ArrayList", name := "elementData", desc := "(I)Ljava/lang/Object;" } : Jvm.MethodName) prog_37_method_18_code (2 : Nat) (Option.some (Jvm.ClassFile.FieldType.object "java/lang/Object"))) ∈ lw_all := lw_g (lw_at lw_m3 124 rfl) rfl
theorem q1564 : (Jvm.Cond.castable "java/util/ArrayList" "java/lang/Object") ∈ lw_tbl := lw_at lw_m7 89 rfl
theorem in_J6 : ∀ w ∈ wsJ60, w ∈ lw_all := lw_in wsJ60 [135, 131, 133] (by decide +kernel) (by decide +kernel)

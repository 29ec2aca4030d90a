/-! java/lang/AbstractStringBuilder -/
set_option maxRecDepth 100000
def RJ0 : String := "java/lang/AbstractStringBuilder"
abbrev cJ0_init : ByteArray := prog_9_method_2_code
def yJ0_init : MethodName := ⟨RJ0, "<init>", "(I)V"⟩
def dkwJ0_init_1 : List UInt8 := [167, 0, 16, 42, 27, 184, 0, 26, 181, 0, 15, 42, 4, 181, 0, 22, 177]
abbrev dktJ0_init_1 : List UInt8 := dkwJ0_init_1 ++ []
def dkwJ0_init_0 : List UInt8 := [42, 183, 0, 3, 178, 0, 18, 153, 0, 18, 42, 27, 188, 8, 181, 0, 15, 42, 3, 181, 0, 22]
abbrev dktJ0_init_0 : List UInt8 := dkwJ0_init_0 ++ dktJ0_init_1
theorem dksJ0_init_0 : cJ0_init.data.toList.drop 0 = dktJ0_init_0 := by decide +kernel
theorem dksJ0_init_1 : cJ0_init.data.toList.drop 22 = dktJ0_init_1 := dk_seg dksJ0_init_0 22 rfl rfl
theorem dJ0_init_0 : decode cJ0_init 0 = .ok (.aload_n 0, 1) := dk_42 (dk_at dksJ0_init_0 0 rfl rfl)
theorem dJ0_init_1 : decode cJ0_init 1 = .ok (.invokespecial 3, 3) := dk_183 0 3 (dk_at dksJ0_init_0 1 rfl rfl)
theorem dJ0_init_4 : decode cJ0_init 4 = .ok (.getstatic 18, 3) := dk_178 0 18 (dk_at dksJ0_init_0 4 rfl rfl)
theorem dJ0_init_7 : decode cJ0_init 7 = .ok (.ifCond .eq 18, 3) := dk_153 0 18 (dk_at dksJ0_init_0 7 rfl rfl)
theorem dJ0_init_10 : decode cJ0_init 10 = .ok (.aload_n 0, 1) := dk_42 (dk_at dksJ0_init_0 10 rfl rfl)
theorem dJ0_init_11 : decode cJ0_init 11 = .ok (.iload_n 1, 1) := dk_27 (dk_at dksJ0_init_0 11 rfl rfl)
theorem dJ0_init_12 : decode cJ0_init 12 = .ok (.newarray .byte, 2) := dk_188_8 (dk_at dksJ0_init_0 12 rfl rfl)
theorem dJ0_init_14 : decode cJ0_init 14 = .ok (.putfield 15, 3) := dk_181 0 15 (dk_at dksJ0_init_0 14 rfl rfl)
theorem dJ0_init_17 : decode cJ0_init 17 = .ok (.aload_n 0, 1) := dk_42 (dk_at dksJ0_init_0 17 rfl rfl)
theorem dJ0_init_18 : decode cJ0_init 18 = .ok (.iconst 0, 1) := dk_3 (dk_at dksJ0_init_0 18 rfl rfl)
theorem dJ0_init_19 : decode cJ0_init 19 = .ok (.putfield 22, 3) := dk_181 0 22 (dk_at dksJ0_init_0 19 rfl rfl)
theorem dJ0_init_22 : decode cJ0_init 22 = .ok (.goto 16, 3) := dk_167 0 16 (dk_at dksJ0_init_1 0 rfl rfl)
theorem dJ0_init_25 : decode cJ0_init 25 = .ok (.aload_n 0, 1) := dk_42 (dk_at dksJ0_init_1 3 rfl rfl)
theorem dJ0_init_26 : decode cJ0_init 26 = .ok (.iload_n 1, 1) := dk_27 (dk_at dksJ0_init_1 4 rfl rfl)
theorem dJ0_init_27 : decode cJ0_init 27 = .ok (.invokestatic 26, 3) := dk_184 0 26 (dk_at dksJ0_init_1 5 rfl rfl)
theorem dJ0_init_30 : decode cJ0_init 30 = .ok (.putfield 15, 3) := dk_181 0 15 (dk_at dksJ0_init_1 8 rfl rfl)
theorem dJ0_init_33 : decode cJ0_init 33 = .ok (.aload_n 0, 1) := dk_42 (dk_at dksJ0_init_1 11 rfl rfl)
theorem dJ0_init_34 : decode cJ0_init 34 = .ok (.iconst 1, 1) := dk_4 (dk_at dksJ0_init_1 12 rfl rfl)
theorem dJ0_init_35 : decode cJ0_init 35 = .ok (.putfield 22, 3) := dk_181 0 22 (dk_at dksJ0_init_1 13 rfl rfl)
theorem dJ0_init_38 : decode cJ0_init 38 = .ok (.return_, 1) := dk_177 (dk_at dksJ0_init_1 16 rfl rfl)
abbrev cJ0_length : ByteArray := prog_9_method_6_code
def yJ0_length : MethodName := ⟨RJ0, "length", "()I"⟩
theorem dJ0_length_0 : decode cJ0_length 0 = .ok (.aload_n 0, 1) := by decide +kernel
theorem dJ0_length_1 : decode cJ0_length 1 = .ok (.getfield 79, 3) := by decide +kernel
theorem dJ0_length_4 : decode cJ0_length 4 = .ok (.ireturn, 1) := by decide +kernel
abbrev cJ0_setLength : ByteArray := prog_9_method_13_code
def yJ0_setLength : MethodName := ⟨RJ0, "setLength", "(I)V"⟩
def dkwJ0_setLength_3 : List UInt8 := [164, 0, 8, 42, 4, 181, 0, 73, 42, 27, 181, 0, 79, 177]
abbrev dktJ0_setLength_3 : List UInt8 := dkwJ0_setLength_3 ++ []
def dkwJ0_setLength_2 : List UInt8 := [167, 0, 31, 42, 180, 0, 15, 42, 180, 0, 79, 27, 184, 0, 137, 167, 0, 16, 42, 180, 0, 79, 27]
abbrev dktJ0_setLength_2 : List UInt8 := dkwJ0_setLength_2 ++ dktJ0_setLength_3
def dkwJ0_setLength_1 : List UInt8 := [162, 0, 40, 42, 182, 0, 83, 153, 0, 18, 42, 180, 0, 15, 42, 180, 0, 79, 27, 184, 0, 133]
abbrev dktJ0_setLength_1 : List UInt8 := dkwJ0_setLength_1 ++ dktJ0_setLength_2
def dkwJ0_setLength_0 : List UInt8 := [27, 156, 0, 12, 187, 0, 129, 89, 27, 183, 0, 131, 191, 42, 27, 182, 0, 100, 42, 180, 0, 79, 27]
abbrev dktJ0_setLength_0 : List UInt8 := dkwJ0_setLength_0 ++ dktJ0_setLength_1
theorem dksJ0_setLength_0 : cJ0_setLength.data.toList.drop 0 = dktJ0_setLength_0 := by decide +kernel
theorem dksJ0_setLength_1 : cJ0_setLength.data.toList.drop 23 = dktJ0_setLength_1 := dk_seg dksJ0_setLength_0 23 rfl rfl
theorem dksJ0_setLength_2 : cJ0_setLength.data.toList.drop 45 = dktJ0_setLength_2 := dk_seg dksJ0_setLength_1 22 rfl rfl
theorem dksJ0_setLength_3 : cJ0_setLength.data.toList.drop 68 = dktJ0_setLength_3 := dk_seg dksJ0_setLength_2 23 rfl rfl
theorem dJ0_setLength_0 : decode cJ0_setLength 0 = .ok (.iload_n 1, 1) := dk_27 (dk_at dksJ0_setLength_0 0 rfl rfl)
theorem dJ0_setLength_1 : decode cJ0_setLength 1 = .ok (.ifCond .ge 12, 3) := dk_156 0 12 (dk_at dksJ0_setLength_0 1 rfl rfl)
theorem dJ0_setLength_4 : decode cJ0_setLength 4 = .ok (.new 129, 3) := dk_187 0 129 (dk_at dksJ0_setLength_0 4 rfl rfl)
theorem dJ0_setLength_7 : decode cJ0_setLength 7 = .ok (.dup, 1) := dk_89 (dk_at dksJ0_setLength_0 7 rfl rfl)
theorem dJ0_setLength_8 : decode cJ0_setLength 8 = .ok (.iload_n 1, 1) := dk_27 (dk_at dksJ0_setLength_0 8 rfl rfl)
theorem dJ0_setLength_9 : decode cJ0_setLength 9 = .ok (.invokespecial 131, 3) := dk_183 0 131 (dk_at dksJ0_setLength_0 9 rfl rfl)
theorem dJ0_setLength_12 : decode cJ0_setLength 12 = .ok (.athrow, 1) := dk_191 (dk_at dksJ0_setLength_0 12 rfl rfl)
theorem dJ0_setLength_13 : decode cJ0_setLength 13 = .ok (.aload_n 0, 1) := dk_42 (dk_at dksJ0_setLength_0 13 rfl rfl)
theorem dJ0_setLength_14 : decode cJ0_setLength 14 = .ok (.iload_n 1, 1) := dk_27 (dk_at dksJ0_setLength_0 14 rfl rfl)
theorem dJ0_setLength_15 : decode cJ0_setLength 15 = .ok (.invokevirtual 100, 3) := dk_182 0 100 (dk_at dksJ0_setLength_0 15 rfl rfl)
theorem dJ0_setLength_18 : decode cJ0_setLength 18 = .ok (.aload_n 0, 1) := dk_42 (dk_at dksJ0_setLength_0 18 rfl rfl)
theorem dJ0_setLength_19 : decode cJ0_setLength 19 = .ok (.getfield 79, 3) := dk_180 0 79 (dk_at dksJ0_setLength_0 19 rfl rfl)
theorem dJ0_setLength_22 : decode cJ0_setLength 22 = .ok (.iload_n 1, 1) := dk_27 (dk_at dksJ0_setLength_0 22 rfl rfl)
theorem dJ0_setLength_23 : decode cJ0_setLength 23 = .ok (.if_icmp .ge 40, 3) := dk_162 0 40 (dk_at dksJ0_setLength_1 0 rfl rfl)
theorem dJ0_setLength_26 : decode cJ0_setLength 26 = .ok (.aload_n 0, 1) := dk_42 (dk_at dksJ0_setLength_1 3 rfl rfl)
theorem dJ0_setLength_27 : decode cJ0_setLength 27 = .ok (.invokevirtual 83, 3) := dk_182 0 83 (dk_at dksJ0_setLength_1 4 rfl rfl)
theorem dJ0_setLength_30 : decode cJ0_setLength 30 = .ok (.ifCond .eq 18, 3) := dk_153 0 18 (dk_at dksJ0_setLength_1 7 rfl rfl)
theorem dJ0_setLength_33 : decode cJ0_setLength 33 = .ok (.aload_n 0, 1) := dk_42 (dk_at dksJ0_setLength_1 10 rfl rfl)
theorem dJ0_setLength_34 : decode cJ0_setLength 34 = .ok (.getfield 15, 3) := dk_180 0 15 (dk_at dksJ0_setLength_1 11 rfl rfl)
theorem dJ0_setLength_37 : decode cJ0_setLength 37 = .ok (.aload_n 0, 1) := dk_42 (dk_at dksJ0_setLength_1 14 rfl rfl)
theorem dJ0_setLength_38 : decode cJ0_setLength 38 = .ok (.getfield 79, 3) := dk_180 0 79 (dk_at dksJ0_setLength_1 15 rfl rfl)
theorem dJ0_setLength_41 : decode cJ0_setLength 41 = .ok (.iload_n 1, 1) := dk_27 (dk_at dksJ0_setLength_1 18 rfl rfl)
theorem dJ0_setLength_42 : decode cJ0_setLength 42 = .ok (.invokestatic 133, 3) := dk_184 0 133 (dk_at dksJ0_setLength_1 19 rfl rfl)
theorem dJ0_setLength_45 : decode cJ0_setLength 45 = .ok (.goto 31, 3) := dk_167 0 31 (dk_at dksJ0_setLength_2 0 rfl rfl)
theorem dJ0_setLength_48 : decode cJ0_setLength 48 = .ok (.aload_n 0, 1) := dk_42 (dk_at dksJ0_setLength_2 3 rfl rfl)
theorem dJ0_setLength_49 : decode cJ0_setLength 49 = .ok (.getfield 15, 3) := dk_180 0 15 (dk_at dksJ0_setLength_2 4 rfl rfl)
theorem dJ0_setLength_52 : decode cJ0_setLength 52 = .ok (.aload_n 0, 1) := dk_42 (dk_at dksJ0_setLength_2 7 rfl rfl)
theorem dJ0_setLength_53 : decode cJ0_setLength 53 = .ok (.getfield 79, 3) := dk_180 0 79 (dk_at dksJ0_setLength_2 8 rfl rfl)
theorem dJ0_setLength_56 : decode cJ0_setLength 56 = .ok (.iload_n 1, 1) := dk_27 (dk_at dksJ0_setLength_2 11 rfl rfl)
theorem dJ0_setLength_57 : decode cJ0_setLength 57 = .ok (.invokestatic 137, 3) := dk_184 0 137 (dk_at dksJ0_setLength_2 12 rfl rfl)
theorem dJ0_setLength_60 : decode cJ0_setLength 60 = .ok (.goto 16, 3) := dk_167 0 16 (dk_at dksJ0_setLength_2 15 rfl rfl)
theorem dJ0_setLength_63 : decode cJ0_setLength 63 = .ok (.aload_n 0, 1) := dk_42 (dk_at dksJ0_setLength_2 18 rfl rfl)
theorem dJ0_setLength_64 : decode cJ0_setLength 64 = .ok (.getfield 79, 3) := dk_180 0 79 (dk_at dksJ0_setLength_2 19 rfl rfl)
theorem dJ0_setLength_67 : decode cJ0_setLength 67 = .ok (.iload_n 1, 1) := dk_27 (dk_at dksJ0_setLength_2 22 rfl rfl)
theorem dJ0_setLength_68 : decode cJ0_setLength 68 = .ok (.if_icmp .le 8, 3) := dk_164 0 8 (dk_at dksJ0_setLength_3 0 rfl rfl)
theorem dJ0_setLength_71 : decode cJ0_setLength 71 = .ok (.aload_n 0, 1) := dk_42 (dk_at dksJ0_setLength_3 3 rfl rfl)
theorem dJ0_setLength_72 : decode cJ0_setLength 72 = .ok (.iconst 1, 1) := dk_4 (dk_at dksJ0_setLength_3 4 rfl rfl)
theorem dJ0_setLength_73 : decode cJ0_setLength 73 = .ok (.putfield 73, 3) := dk_181 0 73 (dk_at dksJ0_setLength_3 5 rfl rfl)
theorem dJ0_setLength_76 : decode cJ0_setLength 76 = .ok (.aload_n 0, 1) := dk_42 (dk_at dksJ0_setLength_3 8 rfl rfl)
theorem dJ0_setLength_77 : decode cJ0_setLength 77 = .ok (.iload_n 1, 1) := dk_27 (dk_at dksJ0_setLength_3 9 rfl rfl)
theorem dJ0_setLength_78 : decode cJ0_setLength 78 = .ok (.putfield 79, 3) := dk_181 0 79 (dk_at dksJ0_setLength_3 10 rfl rfl)
theorem dJ0_setLength_81 : decode cJ0_setLength 81 = .ok (.return_, 1) := dk_177 (dk_at dksJ0_setLength_3 13 rfl rfl)
abbrev cJ0_append : ByteArray := prog_9_method_22_code
def yJ0_append : MethodName := ⟨RJ0, "append", "(Ljava/lang/String;)Ljava/lang/AbstractStringBuilder;"⟩
def dkwJ0_append_1 : List UInt8 := [42, 42, 180, 0, 79, 43, 182, 0, 208, 42, 89, 180, 0, 79, 28, 96, 181, 0, 79, 42, 176]
abbrev dktJ0_append_1 : List UInt8 := dkwJ0_append_1 ++ []
def dkwJ0_append_0 : List UInt8 := [43, 199, 0, 8, 42, 182, 0, 204, 176, 43, 182, 0, 32, 61, 42, 42, 180, 0, 79, 28, 96, 182, 0, 100]
abbrev dktJ0_append_0 : List UInt8 := dkwJ0_append_0 ++ dktJ0_append_1
theorem dksJ0_append_0 : cJ0_append.data.toList.drop 0 = dktJ0_append_0 := by decide +kernel
theorem dksJ0_append_1 : cJ0_append.data.toList.drop 24 = dktJ0_append_1 := dk_seg dksJ0_append_0 24 rfl rfl
theorem dJ0_append_0 : decode cJ0_append 0 = .ok (.aload_n 1, 1) := dk_43 (dk_at dksJ0_append_0 0 rfl rfl)
theorem dJ0_append_1 : decode cJ0_append 1 = .ok (.ifnonnull 8, 3) := dk_199 0 8 (dk_at dksJ0_append_0 1 rfl rfl)
theorem dJ0_append_4 : decode cJ0_append 4 = .ok (.aload_n 0, 1) := dk_42 (dk_at dksJ0_append_0 4 rfl rfl)
theorem dJ0_append_5 : decode cJ0_append 5 = .ok (.invokevirtual 204, 3) := dk_182 0 204 (dk_at dksJ0_append_0 5 rfl rfl)
theorem dJ0_append_8 : decode cJ0_append 8 = .ok (.areturn, 1) := dk_176 (dk_at dksJ0_append_0 8 rfl rfl)
theorem dJ0_append_9 : decode cJ0_append 9 = .ok (.aload_n 1, 1) := dk_43 (dk_at dksJ0_append_0 9 rfl rfl)
theorem dJ0_append_10 : decode cJ0_append 10 = .ok (.invokevirtual 32, 3) := dk_182 0 32 (dk_at dksJ0_append_0 10 rfl rfl)
theorem dJ0_append_13 : decode cJ0_append 13 = .ok (.istore_n 2, 1) := dk_61 (dk_at dksJ0_append_0 13 rfl rfl)
theorem dJ0_append_14 : decode cJ0_append 14 = .ok (.aload_n 0, 1) := dk_42 (dk_at dksJ0_append_0 14 rfl rfl)
theorem dJ0_append_15 : decode cJ0_append 15 = .ok (.aload_n 0, 1) := dk_42 (dk_at dksJ0_append_0 15 rfl rfl)
theorem dJ0_append_16 : decode cJ0_append 16 = .ok (.getfield 79, 3) := dk_180 0 79 (dk_at dksJ0_append_0 16 rfl rfl)
theorem dJ0_append_19 : decode cJ0_append 19 = .ok (.iload_n 2, 1) := dk_28 (dk_at dksJ0_append_0 19 rfl rfl)
theorem dJ0_append_20 : decode cJ0_append 20 = .ok (.iadd, 1) := dk_96 (dk_at dksJ0_append_0 20 rfl rfl)
theorem dJ0_append_21 : decode cJ0_append 21 = .ok (.invokevirtual 100, 3) := dk_182 0 100 (dk_at dksJ0_append_0 21 rfl rfl)
theorem dJ0_append_24 : decode cJ0_append 24 = .ok (.aload_n 0, 1) := dk_42 (dk_at dksJ0_append_1 0 rfl rfl)
theorem dJ0_append_25 : decode cJ0_append 25 = .ok (.aload_n 0, 1) := dk_42 (dk_at dksJ0_append_1 1 rfl rfl)
theorem dJ0_append_26 : decode cJ0_append 26 = .ok (.getfield 79, 3) := dk_180 0 79 (dk_at dksJ0_append_1 2 rfl rfl)
theorem dJ0_append_29 : decode cJ0_append 29 = .ok (.aload_n 1, 1) := dk_43 (dk_at dksJ0_append_1 5 rfl rfl)
theorem dJ0_append_30 : decode cJ0_append 30 = .ok (.invokevirtual 208, 3) := dk_182 0 208 (dk_at dksJ0_append_1 6 rfl rfl)
theorem dJ0_append_33 : decode cJ0_append 33 = .ok (.aload_n 0, 1) := dk_42 (dk_at dksJ0_append_1 9 rfl rfl)
theorem dJ0_append_34 : decode cJ0_append 34 = .ok (.dup, 1) := dk_89 (dk_at dksJ0_append_1 10 rfl rfl)
theorem dJ0_append_35 : decode cJ0_append 35 = .ok (.getfield 79, 3) := dk_180 0 79 (dk_at dksJ0_append_1 11 rfl rfl)
theorem dJ0_append_38 : decode cJ0_append 38 = .ok (.iload_n 2, 1) := dk_28 (dk_at dksJ0_append_1 14 rfl rfl)
theorem dJ0_append_39 : decode cJ0_append 39 = .ok (.iadd, 1) := dk_96 (dk_at dksJ0_append_1 15 rfl rfl)
theorem dJ0_append_40 : decode cJ0_append 40 = .ok (.putfield 79, 3) := dk_181 0 79 (dk_at dksJ0_append_1 16 rfl rfl)
theorem dJ0_append_43 : decode cJ0_append 43 = .ok (.aload_n 0, 1) := dk_42 (dk_at dksJ0_append_1 19 rfl rfl)
theorem dJ0_append_44 : decode cJ0_append 44 = .ok (.areturn, 1) := dk_176 (dk_at dksJ0_append_1 20 rfl rfl)
abbrev cJ0_appendNull : ByteArray := prog_9_method_26_code
def yJ0_appendNull : MethodName := ⟨RJ0, "appendNull", "()Ljava/lang/AbstractStringBuilder;"⟩
def dkwJ0_appendNull_3 : List UInt8 := [184, 0, 226, 60, 42, 27, 181, 0, 79, 42, 176]
abbrev dktJ0_appendNull_3 : List UInt8 := dkwJ0_appendNull_3 ++ []
def dkwJ0_appendNull_2 : List UInt8 := [16, 108, 84, 44, 27, 132, 1, 1, 16, 108, 84, 167, 0, 17, 44, 27, 16, 110, 16, 117, 16, 108, 16, 108]
abbrev dktJ0_appendNull_2 : List UInt8 := dkwJ0_appendNull_2 ++ dktJ0_appendNull_3
def dkwJ0_appendNull_1 : List UInt8 := [153, 0, 38, 44, 27, 132, 1, 1, 16, 110, 84, 44, 27, 132, 1, 1, 16, 117, 84, 44, 27, 132, 1, 1]
abbrev dktJ0_appendNull_1 : List UInt8 := dkwJ0_appendNull_1 ++ dktJ0_appendNull_2
def dkwJ0_appendNull_0 : List UInt8 := [42, 42, 180, 0, 79, 7, 96, 182, 0, 100, 42, 180, 0, 79, 60, 42, 180, 0, 15, 77, 42, 182, 0, 83]
abbrev dktJ0_appendNull_0 : List UInt8 := dkwJ0_appendNull_0 ++ dktJ0_appendNull_1
theorem dksJ0_appendNull_0 : cJ0_appendNull.data.toList.drop 0 = dktJ0_appendNull_0 := by decide +kernel
theorem dksJ0_appendNull_1 : cJ0_appendNull.data.toList.drop 24 = dktJ0_appendNull_1 := dk_seg dksJ0_appendNull_0 24 rfl rfl
theorem dksJ0_appendNull_2 : cJ0_appendNull.data.toList.drop 48 = dktJ0_appendNull_2 := dk_seg dksJ0_appendNull_1 24 rfl rfl
theorem dksJ0_appendNull_3 : cJ0_appendNull.data.toList.drop 72 = dktJ0_appendNull_3 := dk_seg dksJ0_appendNull_2 24 rfl rfl
theorem dJ0_appendNull_0 : decode cJ0_appendNull 0 = .ok (.aload_n 0, 1) := dk_42 (dk_at dksJ0_appendNull_0 0 rfl rfl)
theorem dJ0_appendNull_1 : decode cJ0_appendNull 1 = .ok (.aload_n 0, 1) := dk_42 (dk_at dksJ0_appendNull_0 1 rfl rfl)
theorem dJ0_appendNull_2 : decode cJ0_appendNull 2 = .ok (.getfield 79, 3) := dk_180 0 79 (dk_at dksJ0_appendNull_0 2 rfl rfl)
theorem dJ0_appendNull_5 : decode cJ0_appendNull 5 = .ok (.iconst 4, 1) := dk_7 (dk_at dksJ0_appendNull_0 5 rfl rfl)
theorem dJ0_appendNull_6 : decode cJ0_appendNull 6 = .ok (.iadd, 1) := dk_96 (dk_at dksJ0_appendNull_0 6 rfl rfl)
theorem dJ0_appendNull_7 : decode cJ0_appendNull 7 = .ok (.invokevirtual 100, 3) := dk_182 0 100 (dk_at dksJ0_appendNull_0 7 rfl rfl)
theorem dJ0_appendNull_10 : decode cJ0_appendNull 10 = .ok (.aload_n 0, 1) := dk_42 (dk_at dksJ0_appendNull_0 10 rfl rfl)
theorem dJ0_appendNull_11 : decode cJ0_appendNull 11 = .ok (.getfield 79, 3) := dk_180 0 79 (dk_at dksJ0_appendNull_0 11 rfl rfl)
theorem dJ0_appendNull_14 : decode cJ0_appendNull 14 = .ok (.istore_n 1, 1) := dk_60 (dk_at dksJ0_appendNull_0 14 rfl rfl)
theorem dJ0_appendNull_15 : decode cJ0_appendNull 15 = .ok (.aload_n 0, 1) := dk_42 (dk_at dksJ0_appendNull_0 15 rfl rfl)
theorem dJ0_appendNull_16 : decode cJ0_appendNull 16 = .ok (.getfield 15, 3) := dk_180 0 15 (dk_at dksJ0_appendNull_0 16 rfl rfl)
theorem dJ0_appendNull_19 : decode cJ0_appendNull 19 = .ok (.astore_n 2, 1) := dk_77 (dk_at dksJ0_appendNull_0 19 rfl rfl)
theorem dJ0_appendNull_20 : decode cJ0_appendNull 20 = .ok (.aload_n 0, 1) := dk_42 (dk_at dksJ0_appendNull_0 20 rfl rfl)
theorem dJ0_appendNull_21 : decode cJ0_appendNull 21 = .ok (.invokevirtual 83, 3) := dk_182 0 83 (dk_at dksJ0_appendNull_0 21 rfl rfl)
theorem dJ0_appendNull_24 : decode cJ0_appendNull 24 = .ok (.ifCond .eq 38, 3) := dk_153 0 38 (dk_at dksJ0_appendNull_1 0 rfl rfl)
theorem dJ0_appendNull_27 : decode cJ0_appendNull 27 = .ok (.aload_n 2, 1) := dk_44 (dk_at dksJ0_appendNull_1 3 rfl rfl)
theorem dJ0_appendNull_28 : decode cJ0_appendNull 28 = .ok (.iload_n 1, 1) := dk_27 (dk_at dksJ0_appendNull_1 4 rfl rfl)
theorem dJ0_appendNull_29 : decode cJ0_appendNull 29 = .ok (.iinc 1 1, 3) := dk_132 1 1 (dk_at dksJ0_appendNull_1 5 rfl rfl)
theorem dJ0_appendNull_32 : decode cJ0_appendNull 32 = .ok (.bipush 110, 2) := dk_16 110 (dk_at dksJ0_appendNull_1 8 rfl rfl)
theorem dJ0_appendNull_34 : decode cJ0_appendNull 34 = .ok (.bastore, 1) := dk_84 (dk_at dksJ0_appendNull_1 10 rfl rfl)
theorem dJ0_appendNull_35 : decode cJ0_appendNull 35 = .ok (.aload_n 2, 1) := dk_44 (dk_at dksJ0_appendNull_1 11 rfl rfl)
theorem dJ0_appendNull_36 : decode cJ0_appendNull 36 = .ok (.iload_n 1, 1) := dk_27 (dk_at dksJ0_appendNull_1 12 rfl rfl)
theorem dJ0_appendNull_37 : decode cJ0_appendNull 37 = .ok (.iinc 1 1, 3) := dk_132 1 1 (dk_at dksJ0_appendNull_1 13 rfl rfl)
theorem dJ0_appendNull_40 : decode cJ0_appendNull 40 = .ok (.bipush 117, 2) := dk_16 117 (dk_at dksJ0_appendNull_1 16 rfl rfl)
theorem dJ0_appendNull_42 : decode cJ0_appendNull 42 = .ok (.bastore, 1) := dk_84 (dk_at dksJ0_appendNull_1 18 rfl rfl)
theorem dJ0_appendNull_43 : decode cJ0_appendNull 43 = .ok (.aload_n 2, 1) := dk_44 (dk_at dksJ0_appendNull_1 19 rfl rfl)
theorem dJ0_appendNull_44 : decode cJ0_appendNull 44 = .ok (.iload_n 1, 1) := dk_27 (dk_at dksJ0_appendNull_1 20 rfl rfl)
theorem dJ0_appendNull_45 : decode cJ0_appendNull 45 = .ok (.iinc 1 1, 3) := dk_132 1 1 (dk_at dksJ0_appendNull_1 21 rfl rfl)
theorem dJ0_appendNull_48 : decode cJ0_appendNull 48 = .ok (.bipush 108, 2) := dk_16 108 (dk_at dksJ0_appendNull_2 0 rfl rfl)
theorem dJ0_appendNull_50 : decode cJ0_appendNull 50 = .ok (.bastore, 1) := dk_84 (dk_at dksJ0_appendNull_2 2 rfl rfl)
theorem dJ0_appendNull_51 : decode cJ0_appendNull 51 = .ok (.aload_n 2, 1) := dk_44 (dk_at dksJ0_appendNull_2 3 rfl rfl)
theorem dJ0_appendNull_52 : decode cJ0_appendNull 52 = .ok (.iload_n 1, 1) := dk_27 (dk_at dksJ0_appendNull_2 4 rfl rfl)
theorem dJ0_appendNull_53 : decode cJ0_appendNull 53 = .ok (.iinc 1 1, 3) := dk_132 1 1 (dk_at dksJ0_appendNull_2 5 rfl rfl)
theorem dJ0_appendNull_56 : decode cJ0_appendNull 56 = .ok (.bipush 108, 2) := dk_16 108 (dk_at dksJ0_appendNull_2 8 rfl rfl)
theorem dJ0_appendNull_58 : decode cJ0_appendNull 58 = .ok (.bastore, 1) := dk_84 (dk_at dksJ0_appendNull_2 10 rfl rfl)
theorem dJ0_appendNull_59 : decode cJ0_appendNull 59 = .ok (.goto 17, 3) := dk_167 0 17 (dk_at dksJ0_appendNull_2 11 rfl rfl)
theorem dJ0_appendNull_62 : decode cJ0_appendNull 62 = .ok (.aload_n 2, 1) := dk_44 (dk_at dksJ0_appendNull_2 14 rfl rfl)
theorem dJ0_appendNull_63 : decode cJ0_appendNull 63 = .ok (.iload_n 1, 1) := dk_27 (dk_at dksJ0_appendNull_2 15 rfl rfl)
theorem dJ0_appendNull_64 : decode cJ0_appendNull 64 = .ok (.bipush 110, 2) := dk_16 110 (dk_at dksJ0_appendNull_2 16 rfl rfl)
theorem dJ0_appendNull_66 : decode cJ0_appendNull 66 = .ok (.bipush 117, 2) := dk_16 117 (dk_at dksJ0_appendNull_2 18 rfl rfl)
theorem dJ0_appendNull_68 : decode cJ0_appendNull 68 = .ok (.bipush 108, 2) := dk_16 108 (dk_at dksJ0_appendNull_2 20 rfl rfl)
theorem dJ0_appendNull_70 : decode cJ0_appendNull 70 = .ok (.bipush 108, 2) := dk_16 108 (dk_at dksJ0_appendNull_2 22 rfl rfl)
theorem dJ0_appendNull_72 : decode cJ0_appendNull 72 = .ok (.invokestatic 226, 3) := dk_184 0 226 (dk_at dksJ0_appendNull_3 0 rfl rfl)
theorem dJ0_appendNull_75 : decode cJ0_appendNull 75 = .ok (.istore_n 1, 1) := dk_60 (dk_at dksJ0_appendNull_3 3 rfl rfl)
theorem dJ0_appendNull_76 : decode cJ0_appendNull 76 = .ok (.aload_n 0, 1) := dk_42 (dk_at dksJ0_appendNull_3 4 rfl rfl)
theorem dJ0_appendNull_77 : decode cJ0_appendNull 77 = .ok (.iload_n 1, 1) := dk_27 (dk_at dksJ0_appendNull_3 5 rfl rfl)
theorem dJ0_appendNull_78 : decode cJ0_appendNull 78 = .ok (.putfield 79, 3) := dk_181 0 79 (dk_at dksJ0_appendNull_3 6 rfl rfl)
theorem dJ0_appendNull_81 : decode cJ0_appendNull 81 = .ok (.aload_n 0, 1) := dk_42 (dk_at dksJ0_appendNull_3 9 rfl rfl)
theorem dJ0_appendNull_82 : decode cJ0_appendNull 82 = .ok (.areturn, 1) := dk_176 (dk_at dksJ0_appendNull_3 10 rfl rfl)
abbrev cJ0_ensureCapacityInternal : ByteArray := prog_9_method_9_code
def yJ0_ensureCapacityInternal : MethodName := ⟨RJ0, "ensureCapacityInternal", "(I)V"⟩
def dkwJ0_ensureCapacityInternal_1 : List UInt8 := [182, 0, 104, 42, 180, 0, 22, 120, 184, 0, 108, 181, 0, 15, 177]
abbrev dktJ0_ensureCapacityInternal_1 : List UInt8 := dkwJ0_ensureCapacityInternal_1 ++ []
def dkwJ0_ensureCapacityInternal_0 : List UInt8 := [42, 180, 0, 15, 190, 42, 180, 0, 22, 122, 61, 27, 28, 100, 158, 0, 24, 42, 42, 180, 0, 15, 42, 27]
abbrev dktJ0_ensureCapacityInternal_0 : List UInt8 := dkwJ0_ensureCapacityInternal_0 ++ dktJ0_ensureCapacityInternal_1
theorem dksJ0_ensureCapacityInternal_0 : cJ0_ensureCapacityInternal.data.toList.drop 0 = dktJ0_ensureCapacityInternal_0 := by decide +kernel
theorem dksJ0_ensureCapacityInternal_1 : cJ0_ensureCapacityInternal.data.toList.drop 24 = dktJ0_ensureCapacityInternal_1 := dk_seg dksJ0_ensureCapacityInternal_0 24 rfl rfl
theorem dJ0_ensureCapacityInternal_0 : decode cJ0_ensureCapacityInternal 0 = .ok (.aload_n 0, 1) := dk_42 (dk_at dksJ0_ensureCapacityInternal_0 0 rfl rfl)
theorem dJ0_ensureCapacityInternal_1 : decode cJ0_ensureCapacityInternal 1 = .ok (.getfield 15, 3) := dk_180 0 15 (dk_at dksJ0_ensureCapacityInternal_0 1 rfl rfl)
theorem dJ0_ensureCapacityInternal_4 : decode cJ0_ensureCapacityInternal 4 = .ok (.arraylength, 1) := dk_190 (dk_at dksJ0_ensureCapacityInternal_0 4 rfl rfl)
theorem dJ0_ensureCapacityInternal_5 : decode cJ0_ensureCapacityInternal 5 = .ok (.aload_n 0, 1) := dk_42 (dk_at dksJ0_ensureCapacityInternal_0 5 rfl rfl)
theorem dJ0_ensureCapacityInternal_6 : decode cJ0_ensureCapacityInternal 6 = .ok (.getfield 22, 3) := dk_180 0 22 (dk_at dksJ0_ensureCapacityInternal_0 6 rfl rfl)
theorem dJ0_ensureCapacityInternal_9 : decode cJ0_ensureCapacityInternal 9 = .ok (.ishr, 1) := dk_122 (dk_at dksJ0_ensureCapacityInternal_0 9 rfl rfl)
theorem dJ0_ensureCapacityInternal_10 : decode cJ0_ensureCapacityInternal 10 = .ok (.istore_n 2, 1) := dk_61 (dk_at dksJ0_ensureCapacityInternal_0 10 rfl rfl)
theorem dJ0_ensureCapacityInternal_11 : decode cJ0_ensureCapacityInternal 11 = .ok (.iload_n 1, 1) := dk_27 (dk_at dksJ0_ensureCapacityInternal_0 11 rfl rfl)
theorem dJ0_ensureCapacityInternal_12 : decode cJ0_ensureCapacityInternal 12 = .ok (.iload_n 2, 1) := dk_28 (dk_at dksJ0_ensureCapacityInternal_0 12 rfl rfl)
theorem dJ0_ensureCapacityInternal_13 : decode cJ0_ensureCapacityInternal 13 = .ok (.isub, 1) := dk_100 (dk_at dksJ0_ensureCapacityInternal_0 13 rfl rfl)
theorem dJ0_ensureCapacityInternal_14 : decode cJ0_ensureCapacityInternal 14 = .ok (.ifCond .le 24, 3) := dk_158 0 24 (dk_at dksJ0_ensureCapacityInternal_0 14 rfl rfl)
theorem dJ0_ensureCapacityInternal_17 : decode cJ0_ensureCapacityInternal 17 = .ok (.aload_n 0, 1) := dk_42 (dk_at dksJ0_ensureCapacityInternal_0 17 rfl rfl)
theorem dJ0_ensureCapacityInternal_18 : decode cJ0_ensureCapacityInternal 18 = .ok (.aload_n 0, 1) := dk_42 (dk_at dksJ0_ensureCapacityInternal_0 18 rfl rfl)
theorem dJ0_ensureCapacityInternal_19 : decode cJ0_ensureCapacityInternal 19 = .ok (.getfield 15, 3) := dk_180 0 15 (dk_at dksJ0_ensureCapacityInternal_0 19 rfl rfl)
theorem dJ0_ensureCapacityInternal_22 : decode cJ0_ensureCapacityInternal 22 = .ok (.aload_n 0, 1) := dk_42 (dk_at dksJ0_ensureCapacityInternal_0 22 rfl rfl)
theorem dJ0_ensureCapacityInternal_23 : decode cJ0_ensureCapacityInternal 23 = .ok (.iload_n 1, 1) := dk_27 (dk_at dksJ0_ensureCapacityInternal_0 23 rfl rfl)
theorem dJ0_ensureCapacityInternal_24 : decode cJ0_ensureCapacityInternal 24 = .ok (.invokevirtual 104, 3) := dk_182 0 104 (dk_at dksJ0_ensureCapacityInternal_1 0 rfl rfl)
theorem dJ0_ensureCapacityInternal_27 : decode cJ0_ensureCapacityInternal 27 = .ok (.aload_n 0, 1) := dk_42 (dk_at dksJ0_ensureCapacityInternal_1 3 rfl rfl)
theorem dJ0_ensureCapacityInternal_28 : decode cJ0_ensureCapacityInternal 28 = .ok (.getfield 22, 3) := dk_180 0 22 (dk_at dksJ0_ensureCapacityInternal_1 4 rfl rfl)
theorem dJ0_ensureCapacityInternal_31 : decode cJ0_ensureCapacityInternal 31 = .ok (.ishl, 1) := dk_120 (dk_at dksJ0_ensureCapacityInternal_1 7 rfl rfl)
theorem dJ0_ensureCapacityInternal_32 : decode cJ0_ensureCapacityInternal 32 = .ok (.invokestatic 108, 3) := dk_184 0 108 (dk_at dksJ0_ensureCapacityInternal_1 8 rfl rfl)
theorem dJ0_ensureCapacityInternal_35 : decode cJ0_ensureCapacityInternal 35 = .ok (.putfield 15, 3) := dk_181 0 15 (dk_at dksJ0_ensureCapacityInternal_1 11 rfl rfl)
theorem dJ0_ensureCapacityInternal_38 : decode cJ0_ensureCapacityInternal 38 = .ok (.return_, 1) := dk_177 (dk_at dksJ0_ensureCapacityInternal_1 14 rfl rfl)
abbrev cJ0_newCapacity : ByteArray := prog_9_method_10_code
def yJ0_newCapacity : MethodName := ⟨RJ0, "newCapacity", "(I)I"⟩
def dkwJ0_newCapacity_2 : List UInt8 := [183, 0, 124, 191, 21, 5, 42, 180, 0, 22, 122, 172]
abbrev dktJ0_newCapacity_2 : List UInt8 := dkwJ0_newCapacity_2 ++ []
def dkwJ0_newCapacity_1 : List UInt8 := [180, 0, 22, 120, 96, 184, 0, 114, 54, 5, 21, 5, 18, 39, 160, 0, 13, 187, 0, 120, 89, 18, 122]
abbrev dktJ0_newCapacity_1 : List UInt8 := dkwJ0_newCapacity_1 ++ dktJ0_newCapacity_2
def dkwJ0_newCapacity_0 : List UInt8 := [42, 180, 0, 15, 190, 61, 27, 42, 180, 0, 22, 120, 62, 29, 28, 100, 54, 4, 28, 21, 4, 28, 5, 42]
abbrev dktJ0_newCapacity_0 : List UInt8 := dkwJ0_newCapacity_0 ++ dktJ0_newCapacity_1
theorem dksJ0_newCapacity_0 : cJ0_newCapacity.data.toList.drop 0 = dktJ0_newCapacity_0 := by decide +kernel
theorem dksJ0_newCapacity_1 : cJ0_newCapacity.data.toList.drop 24 = dktJ0_newCapacity_1 := dk_seg dksJ0_newCapacity_0 24 rfl rfl
theorem dksJ0_newCapacity_2 : cJ0_newCapacity.data.toList.drop 47 = dktJ0_newCapacity_2 := dk_seg dksJ0_newCapacity_1 23 rfl rfl
theorem dJ0_newCapacity_0 : decode cJ0_newCapacity 0 = .ok (.aload_n 0, 1) := dk_42 (dk_at dksJ0_newCapacity_0 0 rfl rfl)
theorem dJ0_newCapacity_1 : decode cJ0_newCapacity 1 = .ok (.getfield 15, 3) := dk_180 0 15 (dk_at dksJ0_newCapacity_0 1 rfl rfl)
theorem dJ0_newCapacity_4 : decode cJ0_newCapacity 4 = .ok (.arraylength, 1) := dk_190 (dk_at dksJ0_newCapacity_0 4 rfl rfl)
theorem dJ0_newCapacity_5 : decode cJ0_newCapacity 5 = .ok (.istore_n 2, 1) := dk_61 (dk_at dksJ0_newCapacity_0 5 rfl rfl)
theorem dJ0_newCapacity_6 : decode cJ0_newCapacity 6 = .ok (.iload_n 1, 1) := dk_27 (dk_at dksJ0_newCapacity_0 6 rfl rfl)
theorem dJ0_newCapacity_7 : decode cJ0_newCapacity 7 = .ok (.aload_n 0, 1) := dk_42 (dk_at dksJ0_newCapacity_0 7 rfl rfl)
theorem dJ0_newCapacity_8 : decode cJ0_newCapacity 8 = .ok (.getfield 22, 3) := dk_180 0 22 (dk_at dksJ0_newCapacity_0 8 rfl rfl)
theorem dJ0_newCapacity_11 : decode cJ0_newCapacity 11 = .ok (.ishl, 1) := dk_120 (dk_at dksJ0_newCapacity_0 11 rfl rfl)
theorem dJ0_newCapacity_12 : decode cJ0_newCapacity 12 = .ok (.istore_n 3, 1) := dk_62 (dk_at dksJ0_newCapacity_0 12 rfl rfl)
theorem dJ0_newCapacity_13 : decode cJ0_newCapacity 13 = .ok (.iload_n 3, 1) := dk_29 (dk_at dksJ0_newCapacity_0 13 rfl rfl)
theorem dJ0_newCapacity_14 : decode cJ0_newCapacity 14 = .ok (.iload_n 2, 1) := dk_28 (dk_at dksJ0_newCapacity_0 14 rfl rfl)
theorem dJ0_newCapacity_15 : decode cJ0_newCapacity 15 = .ok (.isub, 1) := dk_100 (dk_at dksJ0_newCapacity_0 15 rfl rfl)
theorem dJ0_newCapacity_16 : decode cJ0_newCapacity 16 = .ok (.istore 4, 2) := dk_54 4 (dk_at dksJ0_newCapacity_0 16 rfl rfl)
theorem dJ0_newCapacity_18 : decode cJ0_newCapacity 18 = .ok (.iload_n 2, 1) := dk_28 (dk_at dksJ0_newCapacity_0 18 rfl rfl)
theorem dJ0_newCapacity_19 : decode cJ0_newCapacity 19 = .ok (.iload 4, 2) := dk_21 4 (dk_at dksJ0_newCapacity_0 19 rfl rfl)
theorem dJ0_newCapacity_21 : decode cJ0_newCapacity 21 = .ok (.iload_n 2, 1) := dk_28 (dk_at dksJ0_newCapacity_0 21 rfl rfl)
theorem dJ0_newCapacity_22 : decode cJ0_newCapacity 22 = .ok (.iconst 2, 1) := dk_5 (dk_at dksJ0_newCapacity_0 22 rfl rfl)
theorem dJ0_newCapacity_23 : decode cJ0_newCapacity 23 = .ok (.aload_n 0, 1) := dk_42 (dk_at dksJ0_newCapacity_0 23 rfl rfl)
theorem dJ0_newCapacity_24 : decode cJ0_newCapacity 24 = .ok (.getfield 22, 3) := dk_180 0 22 (dk_at dksJ0_newCapacity_1 0 rfl rfl)
theorem dJ0_newCapacity_27 : decode cJ0_newCapacity 27 = .ok (.ishl, 1) := dk_120 (dk_at dksJ0_newCapacity_1 3 rfl rfl)
theorem dJ0_newCapacity_28 : decode cJ0_newCapacity 28 = .ok (.iadd, 1) := dk_96 (dk_at dksJ0_newCapacity_1 4 rfl rfl)
theorem dJ0_newCapacity_29 : decode cJ0_newCapacity 29 = .ok (.invokestatic 114, 3) := dk_184 0 114 (dk_at dksJ0_newCapacity_1 5 rfl rfl)
theorem dJ0_newCapacity_32 : decode cJ0_newCapacity 32 = .ok (.istore 5, 2) := dk_54 5 (dk_at dksJ0_newCapacity_1 8 rfl rfl)
theorem dJ0_newCapacity_34 : decode cJ0_newCapacity 34 = .ok (.iload 5, 2) := dk_21 5 (dk_at dksJ0_newCapacity_1 10 rfl rfl)
theorem dJ0_newCapacity_36 : decode cJ0_newCapacity 36 = .ok (.ldc 39, 2) := dk_18 39 (dk_at dksJ0_newCapacity_1 12 rfl rfl)
theorem dJ0_newCapacity_38 : decode cJ0_newCapacity 38 = .ok (.if_icmp .ne 13, 3) := dk_160 0 13 (dk_at dksJ0_newCapacity_1 14 rfl rfl)
theorem dJ0_newCapacity_41 : decode cJ0_newCapacity 41 = .ok (.new 120, 3) := dk_187 0 120 (dk_at dksJ0_newCapacity_1 17 rfl rfl)
theorem dJ0_newCapacity_44 : decode cJ0_newCapacity 44 = .ok (.dup, 1) := dk_89 (dk_at dksJ0_newCapacity_1 20 rfl rfl)
theorem dJ0_newCapacity_45 : decode cJ0_newCapacity 45 = .ok (.ldc 122, 2) := dk_18 122 (dk_at dksJ0_newCapacity_1 21 rfl rfl)
theorem dJ0_newCapacity_47 : decode cJ0_newCapacity 47 = .ok (.invokespecial 124, 3) := dk_183 0 124 (dk_at dksJ0_newCapacity_2 0 rfl rfl)
theorem dJ0_newCapacity_50 : decode cJ0_newCapacity 50 = .ok (.athrow, 1) := dk_191 (dk_at dksJ0_newCapacity_2 3 rfl rfl)
theorem dJ0_newCapacity_51 : decode cJ0_newCapacity 51 = .ok (.iload 5, 2) := dk_21 5 (dk_at dksJ0_newCapacity_2 4 rfl rfl)
theorem dJ0_newCapacity_53 : decode cJ0_newCapacity 53 = .ok (.aload_n 0, 1) := dk_42 (dk_at dksJ0_newCapacity_2 6 rfl rfl)
theorem dJ0_newCapacity_54 : decode cJ0_newCapacity 54 = .ok (.getfield 22, 3) := dk_180 0 22 (dk_at dksJ0_newCapacity_2 7 rfl rfl)
theorem dJ0_newCapacity_57 : decode cJ0_newCapacity 57 = .ok (.ishr, 1) := dk_122 (dk_at dksJ0_newCapacity_2 10 rfl rfl)
theorem dJ0_newCapacity_58 : decode cJ0_newCapacity 58 = .ok (.ireturn, 1) := dk_172 (dk_at dksJ0_newCapacity_2 11 rfl rfl)
abbrev cJ0_isLatin1 : ByteArray := prog_9_method_68_code
def yJ0_isLatin1 : MethodName := ⟨RJ0, "isLatin1", "()Z"⟩
def dkwJ0_isLatin1_0 : List UInt8 := [178, 0, 18, 153, 0, 14, 42, 180, 0, 22, 154, 0, 7, 4, 167, 0, 4, 3, 172]
abbrev dktJ0_isLatin1_0 : List UInt8 := dkwJ0_isLatin1_0 ++ []
theorem dksJ0_isLatin1_0 : cJ0_isLatin1.data.toList.drop 0 = dktJ0_isLatin1_0 := by decide +kernel
theorem dJ0_isLatin1_0 : decode cJ0_isLatin1 0 = .ok (.getstatic 18, 3) := dk_178 0 18 (dk_at dksJ0_isLatin1_0 0 rfl rfl)
theorem dJ0_isLatin1_3 : decode cJ0_isLatin1 3 = .ok (.ifCond .eq 14, 3) := dk_153 0 14 (dk_at dksJ0_isLatin1_0 3 rfl rfl)
theorem dJ0_isLatin1_6 : decode cJ0_isLatin1 6 = .ok (.aload_n 0, 1) := dk_42 (dk_at dksJ0_isLatin1_0 6 rfl rfl)
theorem dJ0_isLatin1_7 : decode cJ0_isLatin1 7 = .ok (.getfield 22, 3) := dk_180 0 22 (dk_at dksJ0_isLatin1_0 7 rfl rfl)
theorem dJ0_isLatin1_10 : decode cJ0_isLatin1 10 = .ok (.ifCond .ne 7, 3) := dk_154 0 7 (dk_at dksJ0_isLatin1_0 10 rfl rfl)
theorem dJ0_isLatin1_13 : decode cJ0_isLatin1 13 = .ok (.iconst 1, 1) := dk_4 (dk_at dksJ0_isLatin1_0 13 rfl rfl)
theorem dJ0_isLatin1_14 : decode cJ0_isLatin1 14 = .ok (.goto 4, 3) := dk_167 0 4 (dk_at dksJ0_isLatin1_0 14 rfl rfl)
theorem dJ0_isLatin1_17 : decode cJ0_isLatin1 17 = .ok (.iconst 0, 1) := dk_3 (dk_at dksJ0_isLatin1_0 17 rfl rfl)
theorem dJ0_isLatin1_18 : decode cJ0_isLatin1 18 = .ok (.ireturn, 1) := dk_172 (dk_at dksJ0_isLatin1_0 18 rfl rfl)
abbrev cJ0_putStringAt : ByteArray := prog_9_method_73_code
def yJ0_putStringAt : MethodName := ⟨RJ0, "putStringAt", "(ILjava/lang/String;)V"⟩
def dkwJ0_putStringAt_0 : List UInt8 := [42, 44, 182, 1, 141, 44, 42, 180, 0, 15, 27, 42, 180, 0, 22, 182, 1, 143, 177]
abbrev dktJ0_putStringAt_0 : List UInt8 := dkwJ0_putStringAt_0 ++ []
theorem dksJ0_putStringAt_0 : cJ0_putStringAt.data.toList.drop 0 = dktJ0_putStringAt_0 := by decide +kernel
theorem dJ0_putStringAt_0 : decode cJ0_putStringAt 0 = .ok (.aload_n 0, 1) := dk_42 (dk_at dksJ0_putStringAt_0 0 rfl rfl)
theorem dJ0_putStringAt_1 : decode cJ0_putStringAt 1 = .ok (.aload_n 2, 1) := dk_44 (dk_at dksJ0_putStringAt_0 1 rfl rfl)
theorem dJ0_putStringAt_2 : decode cJ0_putStringAt 2 = .ok (.invokevirtual 397, 3) := dk_182 1 141 (dk_at dksJ0_putStringAt_0 2 rfl rfl)
theorem dJ0_putStringAt_5 : decode cJ0_putStringAt 5 = .ok (.aload_n 2, 1) := dk_44 (dk_at dksJ0_putStringAt_0 5 rfl rfl)
theorem dJ0_putStringAt_6 : decode cJ0_putStringAt 6 = .ok (.aload_n 0, 1) := dk_42 (dk_at dksJ0_putStringAt_0 6 rfl rfl)
theorem dJ0_putStringAt_7 : decode cJ0_putStringAt 7 = .ok (.getfield 15, 3) := dk_180 0 15 (dk_at dksJ0_putStringAt_0 7 rfl rfl)
theorem dJ0_putStringAt_10 : decode cJ0_putStringAt 10 = .ok (.iload_n 1, 1) := dk_27 (dk_at dksJ0_putStringAt_0 10 rfl rfl)
theorem dJ0_putStringAt_11 : decode cJ0_putStringAt 11 = .ok (.aload_n 0, 1) := dk_42 (dk_at dksJ0_putStringAt_0 11 rfl rfl)
theorem dJ0_putStringAt_12 : decode cJ0_putStringAt 12 = .ok (.getfield 22, 3) := dk_180 0 22 (dk_at dksJ0_putStringAt_0 12 rfl rfl)
theorem dJ0_putStringAt_15 : decode cJ0_putStringAt 15 = .ok (.invokevirtual 399, 3) := dk_182 1 143 (dk_at dksJ0_putStringAt_0 15 rfl rfl)
theorem dJ0_putStringAt_18 : decode cJ0_putStringAt 18 = .ok (.return_, 1) := dk_177 (dk_at dksJ0_putStringAt_0 18 rfl rfl)
abbrev cJ0_inflateIfNeededFor : ByteArray := prog_9_method_71_code
def yJ0_inflateIfNeededFor : MethodName := ⟨RJ0, "inflateIfNeededFor", "(Ljava/lang/String;)V"⟩
def dkwJ0_inflateIfNeededFor_0 : List UInt8 := [178, 0, 18, 153, 0, 18, 42, 180, 0, 22, 43, 182, 0, 40, 159, 0, 7, 42, 182, 0, 195, 177]
abbrev dktJ0_inflateIfNeededFor_0 : List UInt8 := dkwJ0_inflateIfNeededFor_0 ++ []
theorem dksJ0_inflateIfNeededFor_0 : cJ0_inflateIfNeededFor.data.toList.drop 0 = dktJ0_inflateIfNeededFor_0 := by decide +kernel
theorem dJ0_inflateIfNeededFor_0 : decode cJ0_inflateIfNeededFor 0 = .ok (.getstatic 18, 3) := dk_178 0 18 (dk_at dksJ0_inflateIfNeededFor_0 0 rfl rfl)
theorem dJ0_inflateIfNeededFor_3 : decode cJ0_inflateIfNeededFor 3 = .ok (.ifCond .eq 18, 3) := dk_153 0 18 (dk_at dksJ0_inflateIfNeededFor_0 3 rfl rfl)
theorem dJ0_inflateIfNeededFor_6 : decode cJ0_inflateIfNeededFor 6 = .ok (.aload_n 0, 1) := dk_42 (dk_at dksJ0_inflateIfNeededFor_0 6 rfl rfl)
theorem dJ0_inflateIfNeededFor_7 : decode cJ0_inflateIfNeededFor 7 = .ok (.getfield 22, 3) := dk_180 0 22 (dk_at dksJ0_inflateIfNeededFor_0 7 rfl rfl)
theorem dJ0_inflateIfNeededFor_10 : decode cJ0_inflateIfNeededFor 10 = .ok (.aload_n 1, 1) := dk_43 (dk_at dksJ0_inflateIfNeededFor_0 10 rfl rfl)
theorem dJ0_inflateIfNeededFor_11 : decode cJ0_inflateIfNeededFor 11 = .ok (.invokevirtual 40, 3) := dk_182 0 40 (dk_at dksJ0_inflateIfNeededFor_0 11 rfl rfl)
theorem dJ0_inflateIfNeededFor_14 : decode cJ0_inflateIfNeededFor 14 = .ok (.if_icmp .eq 7, 3) := dk_159 0 7 (dk_at dksJ0_inflateIfNeededFor_0 14 rfl rfl)
theorem dJ0_inflateIfNeededFor_17 : decode cJ0_inflateIfNeededFor 17 = .ok (.aload_n 0, 1) := dk_42 (dk_at dksJ0_inflateIfNeededFor_0 17 rfl rfl)
theorem dJ0_inflateIfNeededFor_18 : decode cJ0_inflateIfNeededFor 18 = .ok (.invokevirtual 195, 3) := dk_182 0 195 (dk_at dksJ0_inflateIfNeededFor_0 18 rfl rfl)
theorem dJ0_inflateIfNeededFor_21 : decode cJ0_inflateIfNeededFor 21 = .ok (.return_, 1) := dk_177 (dk_at dksJ0_inflateIfNeededFor_0 21 rfl rfl)
abbrev cJ0_inflate : ByteArray := prog_9_method_11_code
def yJ0_inflate : MethodName := ⟨RJ0, "inflate", "()V"⟩
def dkwJ0_inflate_1 : List UInt8 := [42, 180, 0, 79, 184, 0, 125, 42, 43, 181, 0, 15, 42, 4, 181, 0, 22, 177]
abbrev dktJ0_inflate_1 : List UInt8 := dkwJ0_inflate_1 ++ []
def dkwJ0_inflate_0 : List UInt8 := [42, 182, 0, 83, 154, 0, 4, 177, 42, 180, 0, 15, 190, 184, 0, 26, 76, 42, 180, 0, 15, 3, 43, 3]
abbrev dktJ0_inflate_0 : List UInt8 := dkwJ0_inflate_0 ++ dktJ0_inflate_1
theorem dksJ0_inflate_0 : cJ0_inflate.data.toList.drop 0 = dktJ0_inflate_0 := by decide +kernel
theorem dksJ0_inflate_1 : cJ0_inflate.data.toList.drop 24 = dktJ0_inflate_1 := dk_seg dksJ0_inflate_0 24 rfl rfl
theorem dJ0_inflate_0 : decode cJ0_inflate 0 = .ok (.aload_n 0, 1) := dk_42 (dk_at dksJ0_inflate_0 0 rfl rfl)
theorem dJ0_inflate_1 : decode cJ0_inflate 1 = .ok (.invokevirtual 83, 3) := dk_182 0 83 (dk_at dksJ0_inflate_0 1 rfl rfl)
theorem dJ0_inflate_4 : decode cJ0_inflate 4 = .ok (.ifCond .ne 4, 3) := dk_154 0 4 (dk_at dksJ0_inflate_0 4 rfl rfl)
theorem dJ0_inflate_7 : decode cJ0_inflate 7 = .ok (.return_, 1) := dk_177 (dk_at dksJ0_inflate_0 7 rfl rfl)
theorem dJ0_inflate_8 : decode cJ0_inflate 8 = .ok (.aload_n 0, 1) := dk_42 (dk_at dksJ0_inflate_0 8 rfl rfl)
theorem dJ0_inflate_9 : decode cJ0_inflate 9 = .ok (.getfield 15, 3) := dk_180 0 15 (dk_at dksJ0_inflate_0 9 rfl rfl)
theorem dJ0_inflate_12 : decode cJ0_inflate 12 = .ok (.arraylength, 1) := dk_190 (dk_at dksJ0_inflate_0 12 rfl rfl)
theorem dJ0_inflate_13 : decode cJ0_inflate 13 = .ok (.invokestatic 26, 3) := dk_184 0 26 (dk_at dksJ0_inflate_0 13 rfl rfl)
theorem dJ0_inflate_16 : decode cJ0_inflate 16 = .ok (.astore_n 1, 1) := dk_76 (dk_at dksJ0_inflate_0 16 rfl rfl)
theorem dJ0_inflate_17 : decode cJ0_inflate 17 = .ok (.aload_n 0, 1) := dk_42 (dk_at dksJ0_inflate_0 17 rfl rfl)
theorem dJ0_inflate_18 : decode cJ0_inflate 18 = .ok (.getfield 15, 3) := dk_180 0 15 (dk_at dksJ0_inflate_0 18 rfl rfl)
theorem dJ0_inflate_21 : decode cJ0_inflate 21 = .ok (.iconst 0, 1) := dk_3 (dk_at dksJ0_inflate_0 21 rfl rfl)
theorem dJ0_inflate_22 : decode cJ0_inflate 22 = .ok (.aload_n 1, 1) := dk_43 (dk_at dksJ0_inflate_0 22 rfl rfl)
theorem dJ0_inflate_23 : decode cJ0_inflate 23 = .ok (.iconst 0, 1) := dk_3 (dk_at dksJ0_inflate_0 23 rfl rfl)
theorem dJ0_inflate_24 : decode cJ0_inflate 24 = .ok (.aload_n 0, 1) := dk_42 (dk_at dksJ0_inflate_1 0 rfl rfl)
theorem dJ0_inflate_25 : decode cJ0_inflate 25 = .ok (.getfield 79, 3) := dk_180 0 79 (dk_at dksJ0_inflate_1 1 rfl rfl)
theorem dJ0_inflate_28 : decode cJ0_inflate 28 = .ok (.invokestatic 125, 3) := dk_184 0 125 (dk_at dksJ0_inflate_1 4 rfl rfl)
theorem dJ0_inflate_31 : decode cJ0_inflate 31 = .ok (.aload_n 0, 1) := dk_42 (dk_at dksJ0_inflate_1 7 rfl rfl)
theorem dJ0_inflate_32 : decode cJ0_inflate 32 = .ok (.aload_n 1, 1) := dk_43 (dk_at dksJ0_inflate_1 8 rfl rfl)
theorem dJ0_inflate_33 : decode cJ0_inflate 33 = .ok (.putfield 15, 3) := dk_181 0 15 (dk_at dksJ0_inflate_1 9 rfl rfl)
theorem dJ0_inflate_36 : decode cJ0_inflate 36 = .ok (.aload_n 0, 1) := dk_42 (dk_at dksJ0_inflate_1 12 rfl rfl)
theorem dJ0_inflate_37 : decode cJ0_inflate 37 = .ok (.iconst 1, 1) := dk_4 (dk_at dksJ0_inflate_1 13 rfl rfl)
theorem dJ0_inflate_38 : decode cJ0_inflate 38 = .ok (.putfield 22, 3) := dk_181 0 22 (dk_at dksJ0_inflate_1 14 rfl rfl)
theorem dJ0_inflate_41 : decode cJ0_inflate 41 = .ok (.return_, 1) := dk_177 (dk_at dksJ0_inflate_1 17 rfl rfl)
abbrev cJ0_append_2 : ByteArray := prog_9_method_32_code
def yJ0_append_2 : MethodName := ⟨RJ0, "append", "(I)Ljava/lang/AbstractStringBuilder;"⟩
def dkwJ0_append_2_2 : List UInt8 := [42, 29, 181, 0, 79, 42, 176]
abbrev dktJ0_append_2_2 : List UInt8 := dkwJ0_append_2_2 ++ []
def dkwJ0_append_2_1 : List UInt8 := [27, 29, 42, 180, 0, 15, 184, 0, 248, 87, 167, 0, 14, 27, 28, 29, 42, 180, 0, 15, 184, 0, 251, 87]
abbrev dktJ0_append_2_1 : List UInt8 := dkwJ0_append_2_1 ++ dktJ0_append_2_2
def dkwJ0_append_2_0 : List UInt8 := [42, 180, 0, 79, 61, 28, 27, 184, 0, 245, 96, 62, 42, 29, 182, 0, 100, 42, 182, 0, 83, 153, 0, 16]
abbrev dktJ0_append_2_0 : List UInt8 := dkwJ0_append_2_0 ++ dktJ0_append_2_1
theorem dksJ0_append_2_0 : cJ0_append_2.data.toList.drop 0 = dktJ0_append_2_0 := by decide +kernel
theorem dksJ0_append_2_1 : cJ0_append_2.data.toList.drop 24 = dktJ0_append_2_1 := dk_seg dksJ0_append_2_0 24 rfl rfl
theorem dksJ0_append_2_2 : cJ0_append_2.data.toList.drop 48 = dktJ0_append_2_2 := dk_seg dksJ0_append_2_1 24 rfl rfl
theorem dJ0_append_2_0 : decode cJ0_append_2 0 = .ok (.aload_n 0, 1) := dk_42 (dk_at dksJ0_append_2_0 0 rfl rfl)
theorem dJ0_append_2_1 : decode cJ0_append_2 1 = .ok (.getfield 79, 3) := dk_180 0 79 (dk_at dksJ0_append_2_0 1 rfl rfl)
theorem dJ0_append_2_4 : decode cJ0_append_2 4 = .ok (.istore_n 2, 1) := dk_61 (dk_at dksJ0_append_2_0 4 rfl rfl)
theorem dJ0_append_2_5 : decode cJ0_append_2 5 = .ok (.iload_n 2, 1) := dk_28 (dk_at dksJ0_append_2_0 5 rfl rfl)
theorem dJ0_append_2_6 : decode cJ0_append_2 6 = .ok (.iload_n 1, 1) := dk_27 (dk_at dksJ0_append_2_0 6 rfl rfl)
theorem dJ0_append_2_7 : decode cJ0_append_2 7 = .ok (.invokestatic 245, 3) := dk_184 0 245 (dk_at dksJ0_append_2_0 7 rfl rfl)
theorem dJ0_append_2_10 : decode cJ0_append_2 10 = .ok (.iadd, 1) := dk_96 (dk_at dksJ0_append_2_0 10 rfl rfl)
theorem dJ0_append_2_11 : decode cJ0_append_2 11 = .ok (.istore_n 3, 1) := dk_62 (dk_at dksJ0_append_2_0 11 rfl rfl)
theorem dJ0_append_2_12 : decode cJ0_append_2 12 = .ok (.aload_n 0, 1) := dk_42 (dk_at dksJ0_append_2_0 12 rfl rfl)
theorem dJ0_append_2_13 : decode cJ0_append_2 13 = .ok (.iload_n 3, 1) := dk_29 (dk_at dksJ0_append_2_0 13 rfl rfl)
theorem dJ0_append_2_14 : decode cJ0_append_2 14 = .ok (.invokevirtual 100, 3) := dk_182 0 100 (dk_at dksJ0_append_2_0 14 rfl rfl)
theorem dJ0_append_2_17 : decode cJ0_append_2 17 = .ok (.aload_n 0, 1) := dk_42 (dk_at dksJ0_append_2_0 17 rfl rfl)
theorem dJ0_append_2_18 : decode cJ0_append_2 18 = .ok (.invokevirtual 83, 3) := dk_182 0 83 (dk_at dksJ0_append_2_0 18 rfl rfl)
theorem dJ0_append_2_21 : decode cJ0_append_2 21 = .ok (.ifCond .eq 16, 3) := dk_153 0 16 (dk_at dksJ0_append_2_0 21 rfl rfl)
theorem dJ0_append_2_24 : decode cJ0_append_2 24 = .ok (.iload_n 1, 1) := dk_27 (dk_at dksJ0_append_2_1 0 rfl rfl)
theorem dJ0_append_2_25 : decode cJ0_append_2 25 = .ok (.iload_n 3, 1) := dk_29 (dk_at dksJ0_append_2_1 1 rfl rfl)
theorem dJ0_append_2_26 : decode cJ0_append_2 26 = .ok (.aload_n 0, 1) := dk_42 (dk_at dksJ0_append_2_1 2 rfl rfl)
theorem dJ0_append_2_27 : decode cJ0_append_2 27 = .ok (.getfield 15, 3) := dk_180 0 15 (dk_at dksJ0_append_2_1 3 rfl rfl)
theorem dJ0_append_2_30 : decode cJ0_append_2 30 = .ok (.invokestatic 248, 3) := dk_184 0 248 (dk_at dksJ0_append_2_1 6 rfl rfl)
theorem dJ0_append_2_33 : decode cJ0_append_2 33 = .ok (.pop, 1) := dk_87 (dk_at dksJ0_append_2_1 9 rfl rfl)
theorem dJ0_append_2_34 : decode cJ0_append_2 34 = .ok (.goto 14, 3) := dk_167 0 14 (dk_at dksJ0_append_2_1 10 rfl rfl)
theorem dJ0_append_2_37 : decode cJ0_append_2 37 = .ok (.iload_n 1, 1) := dk_27 (dk_at dksJ0_append_2_1 13 rfl rfl)
theorem dJ0_append_2_38 : decode cJ0_append_2 38 = .ok (.iload_n 2, 1) := dk_28 (dk_at dksJ0_append_2_1 14 rfl rfl)
theorem dJ0_append_2_39 : decode cJ0_append_2 39 = .ok (.iload_n 3, 1) := dk_29 (dk_at dksJ0_append_2_1 15 rfl rfl)
theorem dJ0_append_2_40 : decode cJ0_append_2 40 = .ok (.aload_n 0, 1) := dk_42 (dk_at dksJ0_append_2_1 16 rfl rfl)
theorem dJ0_append_2_41 : decode cJ0_append_2 41 = .ok (.getfield 15, 3) := dk_180 0 15 (dk_at dksJ0_append_2_1 17 rfl rfl)
theorem dJ0_append_2_44 : decode cJ0_append_2 44 = .ok (.invokestatic 251, 3) := dk_184 0 251 (dk_at dksJ0_append_2_1 20 rfl rfl)
theorem dJ0_append_2_47 : decode cJ0_append_2 47 = .ok (.pop, 1) := dk_87 (dk_at dksJ0_append_2_1 23 rfl rfl)
theorem dJ0_append_2_48 : decode cJ0_append_2 48 = .ok (.aload_n 0, 1) := dk_42 (dk_at dksJ0_append_2_2 0 rfl rfl)
theorem dJ0_append_2_49 : decode cJ0_append_2 49 = .ok (.iload_n 3, 1) := dk_29 (dk_at dksJ0_append_2_2 1 rfl rfl)
theorem dJ0_append_2_50 : decode cJ0_append_2 50 = .ok (.putfield 79, 3) := dk_181 0 79 (dk_at dksJ0_append_2_2 2 rfl rfl)
theorem dJ0_append_2_53 : decode cJ0_append_2 53 = .ok (.aload_n 0, 1) := dk_42 (dk_at dksJ0_append_2_2 5 rfl rfl)
theorem dJ0_append_2_54 : decode cJ0_append_2 54 = .ok (.areturn, 1) := dk_176 (dk_at dksJ0_append_2_2 6 rfl rfl)
abbrev cJ0_getValue : ByteArray := prog_9_method_64_code
def yJ0_getValue : MethodName := ⟨RJ0, "getValue", "()[B"⟩
theorem dJ0_getValue_0 : decode cJ0_getValue 0 = .ok (.aload_n 0, 1) := by decide +kernel
theorem dJ0_getValue_1 : decode cJ0_getValue 1 = .ok (.getfield 15, 3) := by decide +kernel
theorem dJ0_getValue_4 : decode cJ0_getValue 4 = .ok (.areturn, 1) := by decide +kernel
abbrev cJ0_getCoder : ByteArray := prog_9_method_67_code
def yJ0_getCoder : MethodName := ⟨RJ0, "getCoder", "()B"⟩
def dkwJ0_getCoder_0 : List UInt8 := [178, 0, 18, 153, 0, 10, 42, 180, 0, 22, 167, 0, 4, 4, 172]
abbrev dktJ0_getCoder_0 : List UInt8 := dkwJ0_getCoder_0 ++ []
theorem dksJ0_getCoder_0 : cJ0_getCoder.data.toList.drop 0 = dktJ0_getCoder_0 := by decide +kernel
theorem dJ0_getCoder_0 : decode cJ0_getCoder 0 = .ok (.getstatic 18, 3) := dk_178 0 18 (dk_at dksJ0_getCoder_0 0 rfl rfl)
theorem dJ0_getCoder_3 : decode cJ0_getCoder 3 = .ok (.ifCond .eq 10, 3) := dk_153 0 10 (dk_at dksJ0_getCoder_0 3 rfl rfl)
theorem dJ0_getCoder_6 : decode cJ0_getCoder 6 = .ok (.aload_n 0, 1) := dk_42 (dk_at dksJ0_getCoder_0 6 rfl rfl)
theorem dJ0_getCoder_7 : decode cJ0_getCoder 7 = .ok (.getfield 22, 3) := dk_180 0 22 (dk_at dksJ0_getCoder_0 7 rfl rfl)
theorem dJ0_getCoder_10 : decode cJ0_getCoder 10 = .ok (.goto 4, 3) := dk_167 0 4 (dk_at dksJ0_getCoder_0 10 rfl rfl)
theorem dJ0_getCoder_13 : decode cJ0_getCoder 13 = .ok (.iconst 1, 1) := dk_4 (dk_at dksJ0_getCoder_0 13 rfl rfl)
theorem dJ0_getCoder_14 : decode cJ0_getCoder 14 = .ok (.ireturn, 1) := dk_172 (dk_at dksJ0_getCoder_0 14 rfl rfl)
abbrev cJ0_charAt : ByteArray := prog_9_method_14_code
def yJ0_charAt : MethodName := ⟨RJ0, "charAt", "(I)C"⟩
def dkwJ0_charAt_1 : List UInt8 := [21, 4, 184, 0, 144, 28, 154, 0, 12, 45, 27, 51, 17, 0, 255, 126, 146, 172, 45, 27, 184, 0, 148, 172]
abbrev dktJ0_charAt_1 : List UInt8 := dkwJ0_charAt_1 ++ []
def dkwJ0_charAt_0 : List UInt8 := [42, 180, 0, 22, 61, 42, 180, 0, 15, 78, 42, 180, 0, 79, 45, 190, 28, 122, 184, 0, 138, 54, 4, 27]
abbrev dktJ0_charAt_0 : List UInt8 := dkwJ0_charAt_0 ++ dktJ0_charAt_1
theorem dksJ0_charAt_0 : cJ0_charAt.data.toList.drop 0 = dktJ0_charAt_0 := by decide +kernel
theorem dksJ0_charAt_1 : cJ0_charAt.data.toList.drop 24 = dktJ0_charAt_1 := dk_seg dksJ0_charAt_0 24 rfl rfl
theorem dJ0_charAt_0 : decode cJ0_charAt 0 = .ok (.aload_n 0, 1) := dk_42 (dk_at dksJ0_charAt_0 0 rfl rfl)
theorem dJ0_charAt_1 : decode cJ0_charAt 1 = .ok (.getfield 22, 3) := dk_180 0 22 (dk_at dksJ0_charAt_0 1 rfl rfl)
theorem dJ0_charAt_4 : decode cJ0_charAt 4 = .ok (.istore_n 2, 1) := dk_61 (dk_at dksJ0_charAt_0 4 rfl rfl)
theorem dJ0_charAt_5 : decode cJ0_charAt 5 = .ok (.aload_n 0, 1) := dk_42 (dk_at dksJ0_charAt_0 5 rfl rfl)
theorem dJ0_charAt_6 : decode cJ0_charAt 6 = .ok (.getfield 15, 3) := dk_180 0 15 (dk_at dksJ0_charAt_0 6 rfl rfl)
theorem dJ0_charAt_9 : decode cJ0_charAt 9 = .ok (.astore_n 3, 1) := dk_78 (dk_at dksJ0_charAt_0 9 rfl rfl)
theorem dJ0_charAt_10 : decode cJ0_charAt 10 = .ok (.aload_n 0, 1) := dk_42 (dk_at dksJ0_charAt_0 10 rfl rfl)
theorem dJ0_charAt_11 : decode cJ0_charAt 11 = .ok (.getfield 79, 3) := dk_180 0 79 (dk_at dksJ0_charAt_0 11 rfl rfl)
theorem dJ0_charAt_14 : decode cJ0_charAt 14 = .ok (.aload_n 3, 1) := dk_45 (dk_at dksJ0_charAt_0 14 rfl rfl)
theorem dJ0_charAt_15 : decode cJ0_charAt 15 = .ok (.arraylength, 1) := dk_190 (dk_at dksJ0_charAt_0 15 rfl rfl)
theorem dJ0_charAt_16 : decode cJ0_charAt 16 = .ok (.iload_n 2, 1) := dk_28 (dk_at dksJ0_charAt_0 16 rfl rfl)
theorem dJ0_charAt_17 : decode cJ0_charAt 17 = .ok (.ishr, 1) := dk_122 (dk_at dksJ0_charAt_0 17 rfl rfl)
theorem dJ0_charAt_18 : decode cJ0_charAt 18 = .ok (.invokestatic 138, 3) := dk_184 0 138 (dk_at dksJ0_charAt_0 18 rfl rfl)
theorem dJ0_charAt_21 : decode cJ0_charAt 21 = .ok (.istore 4, 2) := dk_54 4 (dk_at dksJ0_charAt_0 21 rfl rfl)
theorem dJ0_charAt_23 : decode cJ0_charAt 23 = .ok (.iload_n 1, 1) := dk_27 (dk_at dksJ0_charAt_0 23 rfl rfl)
theorem dJ0_charAt_24 : decode cJ0_charAt 24 = .ok (.iload 4, 2) := dk_21 4 (dk_at dksJ0_charAt_1 0 rfl rfl)
theorem dJ0_charAt_26 : decode cJ0_charAt 26 = .ok (.invokestatic 144, 3) := dk_184 0 144 (dk_at dksJ0_charAt_1 2 rfl rfl)
theorem dJ0_charAt_29 : decode cJ0_charAt 29 = .ok (.iload_n 2, 1) := dk_28 (dk_at dksJ0_charAt_1 5 rfl rfl)
theorem dJ0_charAt_30 : decode cJ0_charAt 30 = .ok (.ifCond .ne 12, 3) := dk_154 0 12 (dk_at dksJ0_charAt_1 6 rfl rfl)
theorem dJ0_charAt_33 : decode cJ0_charAt 33 = .ok (.aload_n 3, 1) := dk_45 (dk_at dksJ0_charAt_1 9 rfl rfl)
theorem dJ0_charAt_34 : decode cJ0_charAt 34 = .ok (.iload_n 1, 1) := dk_27 (dk_at dksJ0_charAt_1 10 rfl rfl)
theorem dJ0_charAt_35 : decode cJ0_charAt 35 = .ok (.baload, 1) := dk_51 (dk_at dksJ0_charAt_1 11 rfl rfl)
theorem dJ0_charAt_36 : decode cJ0_charAt 36 = .ok (.sipush 255, 3) := dk_17 0 255 (dk_at dksJ0_charAt_1 12 rfl rfl)
theorem dJ0_charAt_39 : decode cJ0_charAt 39 = .ok (.iand, 1) := dk_126 (dk_at dksJ0_charAt_1 15 rfl rfl)
theorem dJ0_charAt_40 : decode cJ0_charAt 40 = .ok (.i2c, 1) := dk_146 (dk_at dksJ0_charAt_1 16 rfl rfl)
theorem dJ0_charAt_41 : decode cJ0_charAt 41 = .ok (.ireturn, 1) := dk_172 (dk_at dksJ0_charAt_1 17 rfl rfl)
theorem dJ0_charAt_42 : decode cJ0_charAt 42 = .ok (.aload_n 3, 1) := dk_45 (dk_at dksJ0_charAt_1 18 rfl rfl)
theorem dJ0_charAt_43 : decode cJ0_charAt 43 = .ok (.iload_n 1, 1) := dk_27 (dk_at dksJ0_charAt_1 19 rfl rfl)
theorem dJ0_charAt_44 : decode cJ0_charAt 44 = .ok (.invokestatic 148, 3) := dk_184 0 148 (dk_at dksJ0_charAt_1 20 rfl rfl)
theorem dJ0_charAt_47 : decode cJ0_charAt 47 = .ok (.ireturn, 1) := dk_172 (dk_at dksJ0_charAt_1 23 rfl rfl)
abbrev cJ0_append_3 : ByteArray := prog_9_method_31_code
def yJ0_append_3 : MethodName := ⟨RJ0, "append", "(C)Ljava/lang/AbstractStringBuilder;"⟩
def dkwJ0_append_3_3 : List UInt8 := [181, 0, 79, 27, 184, 0, 197, 42, 176]
abbrev dktJ0_append_3_3 : List UInt8 := dkwJ0_append_3_3 ++ []
def dkwJ0_append_3_2 : List UInt8 := [182, 0, 83, 153, 0, 7, 42, 182, 0, 195, 42, 180, 0, 15, 42, 89, 180, 0, 79, 90, 4, 96]
abbrev dktJ0_append_3_2 : List UInt8 := dkwJ0_append_3_2 ++ dktJ0_append_3_3
def dkwJ0_append_3_1 : List UInt8 := [42, 180, 0, 15, 42, 89, 180, 0, 79, 90, 4, 96, 181, 0, 79, 27, 145, 84, 167, 0, 33, 42]
abbrev dktJ0_append_3_1 : List UInt8 := dkwJ0_append_3_1 ++ dktJ0_append_3_2
def dkwJ0_append_3_0 : List UInt8 := [42, 42, 180, 0, 79, 4, 96, 182, 0, 100, 42, 182, 0, 83, 153, 0, 31, 27, 184, 0, 191, 153, 0, 24]
abbrev dktJ0_append_3_0 : List UInt8 := dkwJ0_append_3_0 ++ dktJ0_append_3_1
theorem dksJ0_append_3_0 : cJ0_append_3.data.toList.drop 0 = dktJ0_append_3_0 := by decide +kernel
theorem dksJ0_append_3_1 : cJ0_append_3.data.toList.drop 24 = dktJ0_append_3_1 := dk_seg dksJ0_append_3_0 24 rfl rfl
theorem dksJ0_append_3_2 : cJ0_append_3.data.toList.drop 46 = dktJ0_append_3_2 := dk_seg dksJ0_append_3_1 22 rfl rfl
theorem dksJ0_append_3_3 : cJ0_append_3.data.toList.drop 68 = dktJ0_append_3_3 := dk_seg dksJ0_append_3_2 22 rfl rfl
theorem dJ0_append_3_0 : decode cJ0_append_3 0 = .ok (.aload_n 0, 1) := dk_42 (dk_at dksJ0_append_3_0 0 rfl rfl)
theorem dJ0_append_3_1 : decode cJ0_append_3 1 = .ok (.aload_n 0, 1) := dk_42 (dk_at dksJ0_append_3_0 1 rfl rfl)
theorem dJ0_append_3_2 : decode cJ0_append_3 2 = .ok (.getfield 79, 3) := dk_180 0 79 (dk_at dksJ0_append_3_0 2 rfl rfl)
theorem dJ0_append_3_5 : decode cJ0_append_3 5 = .ok (.iconst 1, 1) := dk_4 (dk_at dksJ0_append_3_0 5 rfl rfl)
theorem dJ0_append_3_6 : decode cJ0_append_3 6 = .ok (.iadd, 1) := dk_96 (dk_at dksJ0_append_3_0 6 rfl rfl)
theorem dJ0_append_3_7 : decode cJ0_append_3 7 = .ok (.invokevirtual 100, 3) := dk_182 0 100 (dk_at dksJ0_append_3_0 7 rfl rfl)
theorem dJ0_append_3_10 : decode cJ0_append_3 10 = .ok (.aload_n 0, 1) := dk_42 (dk_at dksJ0_append_3_0 10 rfl rfl)
theorem dJ0_append_3_11 : decode cJ0_append_3 11 = .ok (.invokevirtual 83, 3) := dk_182 0 83 (dk_at dksJ0_append_3_0 11 rfl rfl)
theorem dJ0_append_3_14 : decode cJ0_append_3 14 = .ok (.ifCond .eq 31, 3) := dk_153 0 31 (dk_at dksJ0_append_3_0 14 rfl rfl)
theorem dJ0_append_3_17 : decode cJ0_append_3 17 = .ok (.iload_n 1, 1) := dk_27 (dk_at dksJ0_append_3_0 17 rfl rfl)
theorem dJ0_append_3_18 : decode cJ0_append_3 18 = .ok (.invokestatic 191, 3) := dk_184 0 191 (dk_at dksJ0_append_3_0 18 rfl rfl)
theorem dJ0_append_3_21 : decode cJ0_append_3 21 = .ok (.ifCond .eq 24, 3) := dk_153 0 24 (dk_at dksJ0_append_3_0 21 rfl rfl)
theorem dJ0_append_3_24 : decode cJ0_append_3 24 = .ok (.aload_n 0, 1) := dk_42 (dk_at dksJ0_append_3_1 0 rfl rfl)
theorem dJ0_append_3_25 : decode cJ0_append_3 25 = .ok (.getfield 15, 3) := dk_180 0 15 (dk_at dksJ0_append_3_1 1 rfl rfl)
theorem dJ0_append_3_28 : decode cJ0_append_3 28 = .ok (.aload_n 0, 1) := dk_42 (dk_at dksJ0_append_3_1 4 rfl rfl)
theorem dJ0_append_3_29 : decode cJ0_append_3 29 = .ok (.dup, 1) := dk_89 (dk_at dksJ0_append_3_1 5 rfl rfl)
theorem dJ0_append_3_30 : decode cJ0_append_3 30 = .ok (.getfield 79, 3) := dk_180 0 79 (dk_at dksJ0_append_3_1 6 rfl rfl)
theorem dJ0_append_3_33 : decode cJ0_append_3 33 = .ok (.dup_x1, 1) := dk_90 (dk_at dksJ0_append_3_1 9 rfl rfl)
theorem dJ0_append_3_34 : decode cJ0_append_3 34 = .ok (.iconst 1, 1) := dk_4 (dk_at dksJ0_append_3_1 10 rfl rfl)
theorem dJ0_append_3_35 : decode cJ0_append_3 35 = .ok (.iadd, 1) := dk_96 (dk_at dksJ0_append_3_1 11 rfl rfl)
theorem dJ0_append_3_36 : decode cJ0_append_3 36 = .ok (.putfield 79, 3) := dk_181 0 79 (dk_at dksJ0_append_3_1 12 rfl rfl)
theorem dJ0_append_3_39 : decode cJ0_append_3 39 = .ok (.iload_n 1, 1) := dk_27 (dk_at dksJ0_append_3_1 15 rfl rfl)
theorem dJ0_append_3_40 : decode cJ0_append_3 40 = .ok (.i2b, 1) := dk_145 (dk_at dksJ0_append_3_1 16 rfl rfl)
theorem dJ0_append_3_41 : decode cJ0_append_3 41 = .ok (.bastore, 1) := dk_84 (dk_at dksJ0_append_3_1 17 rfl rfl)
theorem dJ0_append_3_42 : decode cJ0_append_3 42 = .ok (.goto 33, 3) := dk_167 0 33 (dk_at dksJ0_append_3_1 18 rfl rfl)
theorem dJ0_append_3_45 : decode cJ0_append_3 45 = .ok (.aload_n 0, 1) := dk_42 (dk_at dksJ0_append_3_1 21 rfl rfl)
theorem dJ0_append_3_46 : decode cJ0_append_3 46 = .ok (.invokevirtual 83, 3) := dk_182 0 83 (dk_at dksJ0_append_3_2 0 rfl rfl)
theorem dJ0_append_3_49 : decode cJ0_append_3 49 = .ok (.ifCond .eq 7, 3) := dk_153 0 7 (dk_at dksJ0_append_3_2 3 rfl rfl)
theorem dJ0_append_3_52 : decode cJ0_append_3 52 = .ok (.aload_n 0, 1) := dk_42 (dk_at dksJ0_append_3_2 6 rfl rfl)
theorem dJ0_append_3_53 : decode cJ0_append_3 53 = .ok (.invokevirtual 195, 3) := dk_182 0 195 (dk_at dksJ0_append_3_2 7 rfl rfl)
theorem dJ0_append_3_56 : decode cJ0_append_3 56 = .ok (.aload_n 0, 1) := dk_42 (dk_at dksJ0_append_3_2 10 rfl rfl)
theorem dJ0_append_3_57 : decode cJ0_append_3 57 = .ok (.getfield 15, 3) := dk_180 0 15 (dk_at dksJ0_append_3_2 11 rfl rfl)
theorem dJ0_append_3_60 : decode cJ0_append_3 60 = .ok (.aload_n 0, 1) := dk_42 (dk_at dksJ0_append_3_2 14 rfl rfl)
theorem dJ0_append_3_61 : decode cJ0_append_3 61 = .ok (.dup, 1) := dk_89 (dk_at dksJ0_append_3_2 15 rfl rfl)
theorem dJ0_append_3_62 : decode cJ0_append_3 62 = .ok (.getfield 79, 3) := dk_180 0 79 (dk_at dksJ0_append_3_2 16 rfl rfl)
theorem dJ0_append_3_65 : decode cJ0_append_3 65 = .ok (.dup_x1, 1) := dk_90 (dk_at dksJ0_append_3_2 19 rfl rfl)
theorem dJ0_append_3_66 : decode cJ0_append_3 66 = .ok (.iconst 1, 1) := dk_4 (dk_at dksJ0_append_3_2 20 rfl rfl)
theorem dJ0_append_3_67 : decode cJ0_append_3 67 = .ok (.iadd, 1) := dk_96 (dk_at dksJ0_append_3_2 21 rfl rfl)
theorem dJ0_append_3_68 : decode cJ0_append_3 68 = .ok (.putfield 79, 3) := dk_181 0 79 (dk_at dksJ0_append_3_3 0 rfl rfl)
theorem dJ0_append_3_71 : decode cJ0_append_3 71 = .ok (.iload_n 1, 1) := dk_27 (dk_at dksJ0_append_3_3 3 rfl rfl)
theorem dJ0_append_3_72 : decode cJ0_append_3 72 = .ok (.invokestatic 197, 3) := dk_184 0 197 (dk_at dksJ0_append_3_3 4 rfl rfl)
theorem dJ0_append_3_75 : decode cJ0_append_3 75 = .ok (.aload_n 0, 1) := dk_42 (dk_at dksJ0_append_3_3 7 rfl rfl)
theorem dJ0_append_3_76 : decode cJ0_append_3 76 = .ok (.areturn, 1) := dk_176 (dk_at dksJ0_append_3_3 8 rfl rfl)
abbrev cJ0_deleteCharAt : ByteArray := prog_9_method_38_code
def yJ0_deleteCharAt : MethodName := ⟨RJ0, "deleteCharAt", "(I)Ljava/lang/AbstractStringBuilder;"⟩
def dkwJ0_deleteCharAt_1 : List UInt8 := [181, 0, 79, 42, 4, 181, 0, 73, 42, 176]
abbrev dktJ0_deleteCharAt_1 : List UInt8 := dkwJ0_deleteCharAt_1 ++ []
def dkwJ0_deleteCharAt_0 : List UInt8 := [27, 42, 180, 0, 79, 184, 0, 144, 42, 27, 4, 96, 2, 182, 1, 27, 42, 89, 180, 0, 79, 4, 100]
abbrev dktJ0_deleteCharAt_0 : List UInt8 := dkwJ0_deleteCharAt_0 ++ dktJ0_deleteCharAt_1
theorem dksJ0_deleteCharAt_0 : cJ0_deleteCharAt.data.toList.drop 0 = dktJ0_deleteCharAt_0 := by decide +kernel
theorem dksJ0_deleteCharAt_1 : cJ0_deleteCharAt.data.toList.drop 23 = dktJ0_deleteCharAt_1 := dk_seg dksJ0_deleteCharAt_0 23 rfl rfl
theorem dJ0_deleteCharAt_0 : decode cJ0_deleteCharAt 0 = .ok (.iload_n 1, 1) := dk_27 (dk_at dksJ0_deleteCharAt_0 0 rfl rfl)
theorem dJ0_deleteCharAt_1 : decode cJ0_deleteCharAt 1 = .ok (.aload_n 0, 1) := dk_42 (dk_at dksJ0_deleteCharAt_0 1 rfl rfl)
theorem dJ0_deleteCharAt_2 : decode cJ0_deleteCharAt 2 = .ok (.getfield 79, 3) := dk_180 0 79 (dk_at dksJ0_deleteCharAt_0 2 rfl rfl)
theorem dJ0_deleteCharAt_5 : decode cJ0_deleteCharAt 5 = .ok (.invokestatic 144, 3) := dk_184 0 144 (dk_at dksJ0_deleteCharAt_0 5 rfl rfl)
theorem dJ0_deleteCharAt_8 : decode cJ0_deleteCharAt 8 = .ok (.aload_n 0, 1) := dk_42 (dk_at dksJ0_deleteCharAt_0 8 rfl rfl)
theorem dJ0_deleteCharAt_9 : decode cJ0_deleteCharAt 9 = .ok (.iload_n 1, 1) := dk_27 (dk_at dksJ0_deleteCharAt_0 9 rfl rfl)
theorem dJ0_deleteCharAt_10 : decode cJ0_deleteCharAt 10 = .ok (.iconst 1, 1) := dk_4 (dk_at dksJ0_deleteCharAt_0 10 rfl rfl)
theorem dJ0_deleteCharAt_11 : decode cJ0_deleteCharAt 11 = .ok (.iadd, 1) := dk_96 (dk_at dksJ0_deleteCharAt_0 11 rfl rfl)
theorem dJ0_deleteCharAt_12 : decode cJ0_deleteCharAt 12 = .ok (.iconst (-1), 1) := dk_2 (dk_at dksJ0_deleteCharAt_0 12 rfl rfl)
theorem dJ0_deleteCharAt_13 : decode cJ0_deleteCharAt 13 = .ok (.invokevirtual 283, 3) := dk_182 1 27 (dk_at dksJ0_deleteCharAt_0 13 rfl rfl)
theorem dJ0_deleteCharAt_16 : decode cJ0_deleteCharAt 16 = .ok (.aload_n 0, 1) := dk_42 (dk_at dksJ0_deleteCharAt_0 16 rfl rfl)
theorem dJ0_deleteCharAt_17 : decode cJ0_deleteCharAt 17 = .ok (.dup, 1) := dk_89 (dk_at dksJ0_deleteCharAt_0 17 rfl rfl)
theorem dJ0_deleteCharAt_18 : decode cJ0_deleteCharAt 18 = .ok (.getfield 79, 3) := dk_180 0 79 (dk_at dksJ0_deleteCharAt_0 18 rfl rfl)
theorem dJ0_deleteCharAt_21 : decode cJ0_deleteCharAt 21 = .ok (.iconst 1, 1) := dk_4 (dk_at dksJ0_deleteCharAt_0 21 rfl rfl)
theorem dJ0_deleteCharAt_22 : decode cJ0_deleteCharAt 22 = .ok (.isub, 1) := dk_100 (dk_at dksJ0_deleteCharAt_0 22 rfl rfl)
theorem dJ0_deleteCharAt_23 : decode cJ0_deleteCharAt 23 = .ok (.putfield 79, 3) := dk_181 0 79 (dk_at dksJ0_deleteCharAt_1 0 rfl rfl)
theorem dJ0_deleteCharAt_26 : decode cJ0_deleteCharAt 26 = .ok (.aload_n 0, 1) := dk_42 (dk_at dksJ0_deleteCharAt_1 3 rfl rfl)
theorem dJ0_deleteCharAt_27 : decode cJ0_deleteCharAt 27 = .ok (.iconst 1, 1) := dk_4 (dk_at dksJ0_deleteCharAt_1 4 rfl rfl)
theorem dJ0_deleteCharAt_28 : decode cJ0_deleteCharAt 28 = .ok (.putfield 73, 3) := dk_181 0 73 (dk_at dksJ0_deleteCharAt_1 5 rfl rfl)
theorem dJ0_deleteCharAt_31 : decode cJ0_deleteCharAt 31 = .ok (.aload_n 0, 1) := dk_42 (dk_at dksJ0_deleteCharAt_1 8 rfl rfl)
theorem dJ0_deleteCharAt_32 : decode cJ0_deleteCharAt 32 = .ok (.areturn, 1) := dk_176 (dk_at dksJ0_deleteCharAt_1 9 rfl rfl)
abbrev cJ0_shift : ByteArray := prog_9_method_43_code
def yJ0_shift : MethodName := ⟨RJ0, "shift", "(II)V"⟩
def dkwJ0_shift_1 : List UInt8 := [180, 0, 79, 27, 100, 42, 180, 0, 22, 120, 184, 1, 53, 177]
abbrev dktJ0_shift_1 : List UInt8 := dkwJ0_shift_1 ++ []
def dkwJ0_shift_0 : List UInt8 := [42, 180, 0, 15, 27, 42, 180, 0, 22, 120, 42, 180, 0, 15, 27, 28, 96, 42, 180, 0, 22, 120, 42]
abbrev dktJ0_shift_0 : List UInt8 := dkwJ0_shift_0 ++ dktJ0_shift_1
theorem dksJ0_shift_0 : cJ0_shift.data.toList.drop 0 = dktJ0_shift_0 := by decide +kernel
theorem dksJ0_shift_1 : cJ0_shift.data.toList.drop 23 = dktJ0_shift_1 := dk_seg dksJ0_shift_0 23 rfl rfl
theorem dJ0_shift_0 : decode cJ0_shift 0 = .ok (.aload_n 0, 1) := dk_42 (dk_at dksJ0_shift_0 0 rfl rfl)
theorem dJ0_shift_1 : decode cJ0_shift 1 = .ok (.getfield 15, 3) := dk_180 0 15 (dk_at dksJ0_shift_0 1 rfl rfl)
theorem dJ0_shift_4 : decode cJ0_shift 4 = .ok (.iload_n 1, 1) := dk_27 (dk_at dksJ0_shift_0 4 rfl rfl)
theorem dJ0_shift_5 : decode cJ0_shift 5 = .ok (.aload_n 0, 1) := dk_42 (dk_at dksJ0_shift_0 5 rfl rfl)
theorem dJ0_shift_6 : decode cJ0_shift 6 = .ok (.getfield 22, 3) := dk_180 0 22 (dk_at dksJ0_shift_0 6 rfl rfl)
theorem dJ0_shift_9 : decode cJ0_shift 9 = .ok (.ishl, 1) := dk_120 (dk_at dksJ0_shift_0 9 rfl rfl)
theorem dJ0_shift_10 : decode cJ0_shift 10 = .ok (.aload_n 0, 1) := dk_42 (dk_at dksJ0_shift_0 10 rfl rfl)
theorem dJ0_shift_11 : decode cJ0_shift 11 = .ok (.getfield 15, 3) := dk_180 0 15 (dk_at dksJ0_shift_0 11 rfl rfl)
theorem dJ0_shift_14 : decode cJ0_shift 14 = .ok (.iload_n 1, 1) := dk_27 (dk_at dksJ0_shift_0 14 rfl rfl)
theorem dJ0_shift_15 : decode cJ0_shift 15 = .ok (.iload_n 2, 1) := dk_28 (dk_at dksJ0_shift_0 15 rfl rfl)
theorem dJ0_shift_16 : decode cJ0_shift 16 = .ok (.iadd, 1) := dk_96 (dk_at dksJ0_shift_0 16 rfl rfl)
theorem dJ0_shift_17 : decode cJ0_shift 17 = .ok (.aload_n 0, 1) := dk_42 (dk_at dksJ0_shift_0 17 rfl rfl)
theorem dJ0_shift_18 : decode cJ0_shift 18 = .ok (.getfield 22, 3) := dk_180 0 22 (dk_at dksJ0_shift_0 18 rfl rfl)
theorem dJ0_shift_21 : decode cJ0_shift 21 = .ok (.ishl, 1) := dk_120 (dk_at dksJ0_shift_0 21 rfl rfl)
theorem dJ0_shift_22 : decode cJ0_shift 22 = .ok (.aload_n 0, 1) := dk_42 (dk_at dksJ0_shift_0 22 rfl rfl)
theorem dJ0_shift_23 : decode cJ0_shift 23 = .ok (.getfield 79, 3) := dk_180 0 79 (dk_at dksJ0_shift_1 0 rfl rfl)
theorem dJ0_shift_26 : decode cJ0_shift 26 = .ok (.iload_n 1, 1) := dk_27 (dk_at dksJ0_shift_1 3 rfl rfl)
theorem dJ0_shift_27 : decode cJ0_shift 27 = .ok (.isub, 1) := dk_100 (dk_at dksJ0_shift_1 4 rfl rfl)
theorem dJ0_shift_28 : decode cJ0_shift 28 = .ok (.aload_n 0, 1) := dk_42 (dk_at dksJ0_shift_1 5 rfl rfl)
theorem dJ0_shift_29 : decode cJ0_shift 29 = .ok (.getfield 22, 3) := dk_180 0 22 (dk_at dksJ0_shift_1 6 rfl rfl)
theorem dJ0_shift_32 : decode cJ0_shift 32 = .ok (.ishl, 1) := dk_120 (dk_at dksJ0_shift_1 9 rfl rfl)
theorem dJ0_shift_33 : decode cJ0_shift 33 = .ok (.invokestatic 309, 3) := dk_184 1 53 (dk_at dksJ0_shift_1 10 rfl rfl)
theorem dJ0_shift_36 : decode cJ0_shift 36 = .ok (.return_, 1) := dk_177 (dk_at dksJ0_shift_1 13 rfl rfl)
abbrev cJ0_substring : ByteArray := prog_9_method_42_code
def yJ0_substring : MethodName := ⟨RJ0, "substring", "(II)Ljava/lang/String;"⟩
def dkwJ0_substring_1 : List UInt8 := [27, 28, 27, 100, 184, 1, 48, 176, 42, 180, 0, 15, 27, 28, 27, 100, 184, 1, 52, 176]
abbrev dktJ0_substring_1 : List UInt8 := dkwJ0_substring_1 ++ []
def dkwJ0_substring_0 : List UInt8 := [27, 28, 42, 180, 0, 79, 178, 0, 179, 184, 0, 161, 87, 42, 182, 0, 83, 153, 0, 15, 42, 180, 0, 15]
abbrev dktJ0_substring_0 : List UInt8 := dkwJ0_substring_0 ++ dktJ0_substring_1
theorem dksJ0_substring_0 : cJ0_substring.data.toList.drop 0 = dktJ0_substring_0 := by decide +kernel
theorem dksJ0_substring_1 : cJ0_substring.data.toList.drop 24 = dktJ0_substring_1 := dk_seg dksJ0_substring_0 24 rfl rfl
theorem dJ0_substring_0 : decode cJ0_substring 0 = .ok (.iload_n 1, 1) := dk_27 (dk_at dksJ0_substring_0 0 rfl rfl)
theorem dJ0_substring_1 : decode cJ0_substring 1 = .ok (.iload_n 2, 1) := dk_28 (dk_at dksJ0_substring_0 1 rfl rfl)
theorem dJ0_substring_2 : decode cJ0_substring 2 = .ok (.aload_n 0, 1) := dk_42 (dk_at dksJ0_substring_0 2 rfl rfl)
theorem dJ0_substring_3 : decode cJ0_substring 3 = .ok (.getfield 79, 3) := dk_180 0 79 (dk_at dksJ0_substring_0 3 rfl rfl)
theorem dJ0_substring_6 : decode cJ0_substring 6 = .ok (.getstatic 179, 3) := dk_178 0 179 (dk_at dksJ0_substring_0 6 rfl rfl)
theorem dJ0_substring_9 : decode cJ0_substring 9 = .ok (.invokestatic 161, 3) := dk_184 0 161 (dk_at dksJ0_substring_0 9 rfl rfl)
theorem dJ0_substring_12 : decode cJ0_substring 12 = .ok (.pop, 1) := dk_87 (dk_at dksJ0_substring_0 12 rfl rfl)
theorem dJ0_substring_13 : decode cJ0_substring 13 = .ok (.aload_n 0, 1) := dk_42 (dk_at dksJ0_substring_0 13 rfl rfl)
theorem dJ0_substring_14 : decode cJ0_substring 14 = .ok (.invokevirtual 83, 3) := dk_182 0 83 (dk_at dksJ0_substring_0 14 rfl rfl)
theorem dJ0_substring_17 : decode cJ0_substring 17 = .ok (.ifCond .eq 15, 3) := dk_153 0 15 (dk_at dksJ0_substring_0 17 rfl rfl)
theorem dJ0_substring_20 : decode cJ0_substring 20 = .ok (.aload_n 0, 1) := dk_42 (dk_at dksJ0_substring_0 20 rfl rfl)
theorem dJ0_substring_21 : decode cJ0_substring 21 = .ok (.getfield 15, 3) := dk_180 0 15 (dk_at dksJ0_substring_0 21 rfl rfl)
theorem dJ0_substring_24 : decode cJ0_substring 24 = .ok (.iload_n 1, 1) := dk_27 (dk_at dksJ0_substring_1 0 rfl rfl)
theorem dJ0_substring_25 : decode cJ0_substring 25 = .ok (.iload_n 2, 1) := dk_28 (dk_at dksJ0_substring_1 1 rfl rfl)
theorem dJ0_substring_26 : decode cJ0_substring 26 = .ok (.iload_n 1, 1) := dk_27 (dk_at dksJ0_substring_1 2 rfl rfl)
theorem dJ0_substring_27 : decode cJ0_substring 27 = .ok (.isub, 1) := dk_100 (dk_at dksJ0_substring_1 3 rfl rfl)
theorem dJ0_substring_28 : decode cJ0_substring 28 = .ok (.invokestatic 304, 3) := dk_184 1 48 (dk_at dksJ0_substring_1 4 rfl rfl)
theorem dJ0_substring_31 : decode cJ0_substring 31 = .ok (.areturn, 1) := dk_176 (dk_at dksJ0_substring_1 7 rfl rfl)
theorem dJ0_substring_32 : decode cJ0_substring 32 = .ok (.aload_n 0, 1) := dk_42 (dk_at dksJ0_substring_1 8 rfl rfl)
theorem dJ0_substring_33 : decode cJ0_substring 33 = .ok (.getfield 15, 3) := dk_180 0 15 (dk_at dksJ0_substring_1 9 rfl rfl)
theorem dJ0_substring_36 : decode cJ0_substring 36 = .ok (.iload_n 1, 1) := dk_27 (dk_at dksJ0_substring_1 12 rfl rfl)
theorem dJ0_substring_37 : decode cJ0_substring 37 = .ok (.iload_n 2, 1) := dk_28 (dk_at dksJ0_substring_1 13 rfl rfl)
theorem dJ0_substring_38 : decode cJ0_substring 38 = .ok (.iload_n 1, 1) := dk_27 (dk_at dksJ0_substring_1 14 rfl rfl)
theorem dJ0_substring_39 : decode cJ0_substring 39 = .ok (.isub, 1) := dk_100 (dk_at dksJ0_substring_1 15 rfl rfl)
theorem dJ0_substring_40 : decode cJ0_substring 40 = .ok (.invokestatic 308, 3) := dk_184 1 52 (dk_at dksJ0_substring_1 16 rfl rfl)
theorem dJ0_substring_43 : decode cJ0_substring 43 = .ok (.areturn, 1) := dk_176 (dk_at dksJ0_substring_1 19 rfl rfl)
abbrev cJ0_init_2 : ByteArray := prog_9_method_3_code
def yJ0_init_2 : MethodName := ⟨RJ0, "<init>", "(Ljava/lang/String;)V"⟩
def dkwJ0_init_2_2 : List UInt8 := [167, 0, 7, 29, 184, 0, 26, 181, 0, 15, 42, 43, 182, 0, 43, 87, 177]
abbrev dktJ0_init_2_2 : List UInt8 := dkwJ0_init_2_2 ++ []
def dkwJ0_init_2_1 : List UInt8 := [62, 43, 182, 0, 40, 54, 4, 42, 21, 4, 181, 0, 22, 42, 21, 4, 154, 0, 9, 29, 188, 8]
abbrev dktJ0_init_2_1 : List UInt8 := dkwJ0_init_2_1 ++ dktJ0_init_2_2
def dkwJ0_init_2_0 : List UInt8 := [42, 183, 0, 3, 43, 182, 0, 32, 61, 28, 18, 38, 162, 0, 10, 28, 16, 16, 96, 167, 0, 5, 18, 39]
abbrev dktJ0_init_2_0 : List UInt8 := dkwJ0_init_2_0 ++ dktJ0_init_2_1
theorem dksJ0_init_2_0 : cJ0_init_2.data.toList.drop 0 = dktJ0_init_2_0 := by decide +kernel
theorem dksJ0_init_2_1 : cJ0_init_2.data.toList.drop 24 = dktJ0_init_2_1 := dk_seg dksJ0_init_2_0 24 rfl rfl
theorem dksJ0_init_2_2 : cJ0_init_2.data.toList.drop 46 = dktJ0_init_2_2 := dk_seg dksJ0_init_2_1 22 rfl rfl
theorem dJ0_init_2_0 : decode cJ0_init_2 0 = .ok (.aload_n 0, 1) := dk_42 (dk_at dksJ0_init_2_0 0 rfl rfl)
theorem dJ0_init_2_1 : decode cJ0_init_2 1 = .ok (.invokespecial 3, 3) := dk_183 0 3 (dk_at dksJ0_init_2_0 1 rfl rfl)
theorem dJ0_init_2_4 : decode cJ0_init_2 4 = .ok (.aload_n 1, 1) := dk_43 (dk_at dksJ0_init_2_0 4 rfl rfl)
theorem dJ0_init_2_5 : decode cJ0_init_2 5 = .ok (.invokevirtual 32, 3) := dk_182 0 32 (dk_at dksJ0_init_2_0 5 rfl rfl)
theorem dJ0_init_2_8 : decode cJ0_init_2 8 = .ok (.istore_n 2, 1) := dk_61 (dk_at dksJ0_init_2_0 8 rfl rfl)
theorem dJ0_init_2_9 : decode cJ0_init_2 9 = .ok (.iload_n 2, 1) := dk_28 (dk_at dksJ0_init_2_0 9 rfl rfl)
theorem dJ0_init_2_10 : decode cJ0_init_2 10 = .ok (.ldc 38, 2) := dk_18 38 (dk_at dksJ0_init_2_0 10 rfl rfl)
theorem dJ0_init_2_12 : decode cJ0_init_2 12 = .ok (.if_icmp .ge 10, 3) := dk_162 0 10 (dk_at dksJ0_init_2_0 12 rfl rfl)
theorem dJ0_init_2_15 : decode cJ0_init_2 15 = .ok (.iload_n 2, 1) := dk_28 (dk_at dksJ0_init_2_0 15 rfl rfl)
theorem dJ0_init_2_16 : decode cJ0_init_2 16 = .ok (.bipush 16, 2) := dk_16 16 (dk_at dksJ0_init_2_0 16 rfl rfl)
theorem dJ0_init_2_18 : decode cJ0_init_2 18 = .ok (.iadd, 1) := dk_96 (dk_at dksJ0_init_2_0 18 rfl rfl)
theorem dJ0_init_2_19 : decode cJ0_init_2 19 = .ok (.goto 5, 3) := dk_167 0 5 (dk_at dksJ0_init_2_0 19 rfl rfl)
theorem dJ0_init_2_22 : decode cJ0_init_2 22 = .ok (.ldc 39, 2) := dk_18 39 (dk_at dksJ0_init_2_0 22 rfl rfl)
theorem dJ0_init_2_24 : decode cJ0_init_2 24 = .ok (.istore_n 3, 1) := dk_62 (dk_at dksJ0_init_2_1 0 rfl rfl)
theorem dJ0_init_2_25 : decode cJ0_init_2 25 = .ok (.aload_n 1, 1) := dk_43 (dk_at dksJ0_init_2_1 1 rfl rfl)
theorem dJ0_init_2_26 : decode cJ0_init_2 26 = .ok (.invokevirtual 40, 3) := dk_182 0 40 (dk_at dksJ0_init_2_1 2 rfl rfl)
theorem dJ0_init_2_29 : decode cJ0_init_2 29 = .ok (.istore 4, 2) := dk_54 4 (dk_at dksJ0_init_2_1 5 rfl rfl)
theorem dJ0_init_2_31 : decode cJ0_init_2 31 = .ok (.aload_n 0, 1) := dk_42 (dk_at dksJ0_init_2_1 7 rfl rfl)
theorem dJ0_init_2_32 : decode cJ0_init_2 32 = .ok (.iload 4, 2) := dk_21 4 (dk_at dksJ0_init_2_1 8 rfl rfl)
theorem dJ0_init_2_34 : decode cJ0_init_2 34 = .ok (.putfield 22, 3) := dk_181 0 22 (dk_at dksJ0_init_2_1 10 rfl rfl)
theorem dJ0_init_2_37 : decode cJ0_init_2 37 = .ok (.aload_n 0, 1) := dk_42 (dk_at dksJ0_init_2_1 13 rfl rfl)
theorem dJ0_init_2_38 : decode cJ0_init_2 38 = .ok (.iload 4, 2) := dk_21 4 (dk_at dksJ0_init_2_1 14 rfl rfl)
theorem dJ0_init_2_40 : decode cJ0_init_2 40 = .ok (.ifCond .ne 9, 3) := dk_154 0 9 (dk_at dksJ0_init_2_1 16 rfl rfl)
theorem dJ0_init_2_43 : decode cJ0_init_2 43 = .ok (.iload_n 3, 1) := dk_29 (dk_at dksJ0_init_2_1 19 rfl rfl)
theorem dJ0_init_2_44 : decode cJ0_init_2 44 = .ok (.newarray .byte, 2) := dk_188_8 (dk_at dksJ0_init_2_1 20 rfl rfl)
theorem dJ0_init_2_46 : decode cJ0_init_2 46 = .ok (.goto 7, 3) := dk_167 0 7 (dk_at dksJ0_init_2_2 0 rfl rfl)
theorem dJ0_init_2_49 : decode cJ0_init_2 49 = .ok (.iload_n 3, 1) := dk_29 (dk_at dksJ0_init_2_2 3 rfl rfl)
theorem dJ0_init_2_50 : decode cJ0_init_2 50 = .ok (.invokestatic 26, 3) := dk_184 0 26 (dk_at dksJ0_init_2_2 4 rfl rfl)
theorem dJ0_init_2_53 : decode cJ0_init_2 53 = .ok (.putfield 15, 3) := dk_181 0 15 (dk_at dksJ0_init_2_2 7 rfl rfl)
theorem dJ0_init_2_56 : decode cJ0_init_2 56 = .ok (.aload_n 0, 1) := dk_42 (dk_at dksJ0_init_2_2 10 rfl rfl)
theorem dJ0_init_2_57 : decode cJ0_init_2 57 = .ok (.aload_n 1, 1) := dk_43 (dk_at dksJ0_init_2_2 11 rfl rfl)
theorem dJ0_init_2_58 : decode cJ0_init_2 58 = .ok (.invokevirtual 43, 3) := dk_182 0 43 (dk_at dksJ0_init_2_2 12 rfl rfl)
theorem dJ0_init_2_61 : decode cJ0_init_2 61 = .ok (.pop, 1) := dk_87 (dk_at dksJ0_init_2_2 15 rfl rfl)
theorem dJ0_init_2_62 : decode cJ0_init_2 62 = .ok (.return_, 1) := dk_177 (dk_at dksJ0_init_2_2 16 rfl rfl)
abbrev cJ0_delete : ByteArray := prog_9_method_36_code
def yJ0_delete : MethodName := ⟨RJ0, "delete", "(II)Ljava/lang/AbstractStringBuilder;"⟩
def dkwJ0_delete_2 : List UInt8 := [42, 4, 181, 0, 73, 42, 176]
abbrev dktJ0_delete_2 : List UInt8 := dkwJ0_delete_2 ++ []
def dkwJ0_delete_1 : List UInt8 := [100, 54, 4, 21, 4, 158, 0, 24, 42, 28, 21, 4, 116, 182, 1, 27, 42, 29, 21, 4, 100, 181, 0, 79]
abbrev dktJ0_delete_1 : List UInt8 := dkwJ0_delete_1 ++ dktJ0_delete_2
def dkwJ0_delete_0 : List UInt8 := [42, 180, 0, 79, 62, 28, 29, 164, 0, 5, 29, 61, 27, 28, 29, 178, 0, 179, 184, 0, 161, 87, 28, 27]
abbrev dktJ0_delete_0 : List UInt8 := dkwJ0_delete_0 ++ dktJ0_delete_1
theorem dksJ0_delete_0 : cJ0_delete.data.toList.drop 0 = dktJ0_delete_0 := by decide +kernel
theorem dksJ0_delete_1 : cJ0_delete.data.toList.drop 24 = dktJ0_delete_1 := dk_seg dksJ0_delete_0 24 rfl rfl
theorem dksJ0_delete_2 : cJ0_delete.data.toList.drop 48 = dktJ0_delete_2 := dk_seg dksJ0_delete_1 24 rfl rfl
theorem dJ0_delete_0 : decode cJ0_delete 0 = .ok (.aload_n 0, 1) := dk_42 (dk_at dksJ0_delete_0 0 rfl rfl)
theorem dJ0_delete_1 : decode cJ0_delete 1 = .ok (.getfield 79, 3) := dk_180 0 79 (dk_at dksJ0_delete_0 1 rfl rfl)
theorem dJ0_delete_4 : decode cJ0_delete 4 = .ok (.istore_n 3, 1) := dk_62 (dk_at dksJ0_delete_0 4 rfl rfl)
theorem dJ0_delete_5 : decode cJ0_delete 5 = .ok (.iload_n 2, 1) := dk_28 (dk_at dksJ0_delete_0 5 rfl rfl)
theorem dJ0_delete_6 : decode cJ0_delete 6 = .ok (.iload_n 3, 1) := dk_29 (dk_at dksJ0_delete_0 6 rfl rfl)
theorem dJ0_delete_7 : decode cJ0_delete 7 = .ok (.if_icmp .le 5, 3) := dk_164 0 5 (dk_at dksJ0_delete_0 7 rfl rfl)
theorem dJ0_delete_10 : decode cJ0_delete 10 = .ok (.iload_n 3, 1) := dk_29 (dk_at dksJ0_delete_0 10 rfl rfl)
theorem dJ0_delete_11 : decode cJ0_delete 11 = .ok (.istore_n 2, 1) := dk_61 (dk_at dksJ0_delete_0 11 rfl rfl)
theorem dJ0_delete_12 : decode cJ0_delete 12 = .ok (.iload_n 1, 1) := dk_27 (dk_at dksJ0_delete_0 12 rfl rfl)
theorem dJ0_delete_13 : decode cJ0_delete 13 = .ok (.iload_n 2, 1) := dk_28 (dk_at dksJ0_delete_0 13 rfl rfl)
theorem dJ0_delete_14 : decode cJ0_delete 14 = .ok (.iload_n 3, 1) := dk_29 (dk_at dksJ0_delete_0 14 rfl rfl)
theorem dJ0_delete_15 : decode cJ0_delete 15 = .ok (.getstatic 179, 3) := dk_178 0 179 (dk_at dksJ0_delete_0 15 rfl rfl)
theorem dJ0_delete_18 : decode cJ0_delete 18 = .ok (.invokestatic 161, 3) := dk_184 0 161 (dk_at dksJ0_delete_0 18 rfl rfl)
theorem dJ0_delete_21 : decode cJ0_delete 21 = .ok (.pop, 1) := dk_87 (dk_at dksJ0_delete_0 21 rfl rfl)
theorem dJ0_delete_22 : decode cJ0_delete 22 = .ok (.iload_n 2, 1) := dk_28 (dk_at dksJ0_delete_0 22 rfl rfl)
theorem dJ0_delete_23 : decode cJ0_delete 23 = .ok (.iload_n 1, 1) := dk_27 (dk_at dksJ0_delete_0 23 rfl rfl)
theorem dJ0_delete_24 : decode cJ0_delete 24 = .ok (.isub, 1) := dk_100 (dk_at dksJ0_delete_1 0 rfl rfl)
theorem dJ0_delete_25 : decode cJ0_delete 25 = .ok (.istore 4, 2) := dk_54 4 (dk_at dksJ0_delete_1 1 rfl rfl)
theorem dJ0_delete_27 : decode cJ0_delete 27 = .ok (.iload 4, 2) := dk_21 4 (dk_at dksJ0_delete_1 3 rfl rfl)
theorem dJ0_delete_29 : decode cJ0_delete 29 = .ok (.ifCond .le 24, 3) := dk_158 0 24 (dk_at dksJ0_delete_1 5 rfl rfl)
theorem dJ0_delete_32 : decode cJ0_delete 32 = .ok (.aload_n 0, 1) := dk_42 (dk_at dksJ0_delete_1 8 rfl rfl)
theorem dJ0_delete_33 : decode cJ0_delete 33 = .ok (.iload_n 2, 1) := dk_28 (dk_at dksJ0_delete_1 9 rfl rfl)
theorem dJ0_delete_34 : decode cJ0_delete 34 = .ok (.iload 4, 2) := dk_21 4 (dk_at dksJ0_delete_1 10 rfl rfl)
theorem dJ0_delete_36 : decode cJ0_delete 36 = .ok (.ineg, 1) := dk_116 (dk_at dksJ0_delete_1 12 rfl rfl)
theorem dJ0_delete_37 : decode cJ0_delete 37 = .ok (.invokevirtual 283, 3) := dk_182 1 27 (dk_at dksJ0_delete_1 13 rfl rfl)
theorem dJ0_delete_40 : decode cJ0_delete 40 = .ok (.aload_n 0, 1) := dk_42 (dk_at dksJ0_delete_1 16 rfl rfl)
theorem dJ0_delete_41 : decode cJ0_delete 41 = .ok (.iload_n 3, 1) := dk_29 (dk_at dksJ0_delete_1 17 rfl rfl)
theorem dJ0_delete_42 : decode cJ0_delete 42 = .ok (.iload 4, 2) := dk_21 4 (dk_at dksJ0_delete_1 18 rfl rfl)
theorem dJ0_delete_44 : decode cJ0_delete 44 = .ok (.isub, 1) := dk_100 (dk_at dksJ0_delete_1 20 rfl rfl)
theorem dJ0_delete_45 : decode cJ0_delete 45 = .ok (.putfield 79, 3) := dk_181 0 79 (dk_at dksJ0_delete_1 21 rfl rfl)
theorem dJ0_delete_48 : decode cJ0_delete 48 = .ok (.aload_n 0, 1) := dk_42 (dk_at dksJ0_delete_2 0 rfl rfl)
theorem dJ0_delete_49 : decode cJ0_delete 49 = .ok (.iconst 1, 1) := dk_4 (dk_at dksJ0_delete_2 1 rfl rfl)
theorem dJ0_delete_50 : decode cJ0_delete 50 = .ok (.putfield 73, 3) := dk_181 0 73 (dk_at dksJ0_delete_2 2 rfl rfl)
theorem dJ0_delete_53 : decode cJ0_delete 53 = .ok (.aload_n 0, 1) := dk_42 (dk_at dksJ0_delete_2 5 rfl rfl)
theorem dJ0_delete_54 : decode cJ0_delete 54 = .ok (.areturn, 1) := dk_176 (dk_at dksJ0_delete_2 6 rfl rfl)
abbrev cJ0_insert : ByteArray := prog_9_method_46_code
def yJ0_insert : MethodName := ⟨RJ0, "insert", "(ILjava/lang/String;)Ljava/lang/AbstractStringBuilder;"⟩
def dkwJ0_insert_2 : List UInt8 := [42, 27, 44, 182, 0, 208, 42, 176]
abbrev dktJ0_insert_2 : List UInt8 := dkwJ0_insert_2 ++ []
def dkwJ0_insert_1 : List UInt8 := [180, 0, 79, 29, 96, 182, 0, 100, 42, 27, 29, 182, 1, 27, 42, 89, 180, 0, 79, 29, 96, 181, 0, 79]
abbrev dktJ0_insert_1 : List UInt8 := dkwJ0_insert_1 ++ dktJ0_insert_2
def dkwJ0_insert_0 : List UInt8 := [27, 42, 180, 0, 79, 184, 1, 59, 44, 199, 0, 6, 18, 230, 77, 44, 182, 0, 32, 62, 42, 42]
abbrev dktJ0_insert_0 : List UInt8 := dkwJ0_insert_0 ++ dktJ0_insert_1
theorem dksJ0_insert_0 : cJ0_insert.data.toList.drop 0 = dktJ0_insert_0 := by decide +kernel
theorem dksJ0_insert_1 : cJ0_insert.data.toList.drop 22 = dktJ0_insert_1 := dk_seg dksJ0_insert_0 22 rfl rfl
theorem dksJ0_insert_2 : cJ0_insert.data.toList.drop 46 = dktJ0_insert_2 := dk_seg dksJ0_insert_1 24 rfl rfl
theorem dJ0_insert_0 : decode cJ0_insert 0 = .ok (.iload_n 1, 1) := dk_27 (dk_at dksJ0_insert_0 0 rfl rfl)
theorem dJ0_insert_1 : decode cJ0_insert 1 = .ok (.aload_n 0, 1) := dk_42 (dk_at dksJ0_insert_0 1 rfl rfl)
theorem dJ0_insert_2 : decode cJ0_insert 2 = .ok (.getfield 79, 3) := dk_180 0 79 (dk_at dksJ0_insert_0 2 rfl rfl)
theorem dJ0_insert_5 : decode cJ0_insert 5 = .ok (.invokestatic 315, 3) := dk_184 1 59 (dk_at dksJ0_insert_0 5 rfl rfl)
theorem dJ0_insert_8 : decode cJ0_insert 8 = .ok (.aload_n 2, 1) := dk_44 (dk_at dksJ0_insert_0 8 rfl rfl)
theorem dJ0_insert_9 : decode cJ0_insert 9 = .ok (.ifnonnull 6, 3) := dk_199 0 6 (dk_at dksJ0_insert_0 9 rfl rfl)
theorem dJ0_insert_12 : decode cJ0_insert 12 = .ok (.ldc 230, 2) := dk_18 230 (dk_at dksJ0_insert_0 12 rfl rfl)
theorem dJ0_insert_14 : decode cJ0_insert 14 = .ok (.astore_n 2, 1) := dk_77 (dk_at dksJ0_insert_0 14 rfl rfl)
theorem dJ0_insert_15 : decode cJ0_insert 15 = .ok (.aload_n 2, 1) := dk_44 (dk_at dksJ0_insert_0 15 rfl rfl)
theorem dJ0_insert_16 : decode cJ0_insert 16 = .ok (.invokevirtual 32, 3) := dk_182 0 32 (dk_at dksJ0_insert_0 16 rfl rfl)
theorem dJ0_insert_19 : decode cJ0_insert 19 = .ok (.istore_n 3, 1) := dk_62 (dk_at dksJ0_insert_0 19 rfl rfl)
theorem dJ0_insert_20 : decode cJ0_insert 20 = .ok (.aload_n 0, 1) := dk_42 (dk_at dksJ0_insert_0 20 rfl rfl)
theorem dJ0_insert_21 : decode cJ0_insert 21 = .ok (.aload_n 0, 1) := dk_42 (dk_at dksJ0_insert_0 21 rfl rfl)
theorem dJ0_insert_22 : decode cJ0_insert 22 = .ok (.getfield 79, 3) := dk_180 0 79 (dk_at dksJ0_insert_1 0 rfl rfl)
theorem dJ0_insert_25 : decode cJ0_insert 25 = .ok (.iload_n 3, 1) := dk_29 (dk_at dksJ0_insert_1 3 rfl rfl)
theorem dJ0_insert_26 : decode cJ0_insert 26 = .ok (.iadd, 1) := dk_96 (dk_at dksJ0_insert_1 4 rfl rfl)
theorem dJ0_insert_27 : decode cJ0_insert 27 = .ok (.invokevirtual 100, 3) := dk_182 0 100 (dk_at dksJ0_insert_1 5 rfl rfl)
theorem dJ0_insert_30 : decode cJ0_insert 30 = .ok (.aload_n 0, 1) := dk_42 (dk_at dksJ0_insert_1 8 rfl rfl)
theorem dJ0_insert_31 : decode cJ0_insert 31 = .ok (.iload_n 1, 1) := dk_27 (dk_at dksJ0_insert_1 9 rfl rfl)
theorem dJ0_insert_32 : decode cJ0_insert 32 = .ok (.iload_n 3, 1) := dk_29 (dk_at dksJ0_insert_1 10 rfl rfl)
theorem dJ0_insert_33 : decode cJ0_insert 33 = .ok (.invokevirtual 283, 3) := dk_182 1 27 (dk_at dksJ0_insert_1 11 rfl rfl)
theorem dJ0_insert_36 : decode cJ0_insert 36 = .ok (.aload_n 0, 1) := dk_42 (dk_at dksJ0_insert_1 14 rfl rfl)
theorem dJ0_insert_37 : decode cJ0_insert 37 = .ok (.dup, 1) := dk_89 (dk_at dksJ0_insert_1 15 rfl rfl)
theorem dJ0_insert_38 : decode cJ0_insert 38 = .ok (.getfield 79, 3) := dk_180 0 79 (dk_at dksJ0_insert_1 16 rfl rfl)
theorem dJ0_insert_41 : decode cJ0_insert 41 = .ok (.iload_n 3, 1) := dk_29 (dk_at dksJ0_insert_1 19 rfl rfl)
theorem dJ0_insert_42 : decode cJ0_insert 42 = .ok (.iadd, 1) := dk_96 (dk_at dksJ0_insert_1 20 rfl rfl)
theorem dJ0_insert_43 : decode cJ0_insert 43 = .ok (.putfield 79, 3) := dk_181 0 79 (dk_at dksJ0_insert_1 21 rfl rfl)
theorem dJ0_insert_46 : decode cJ0_insert 46 = .ok (.aload_n 0, 1) := dk_42 (dk_at dksJ0_insert_2 0 rfl rfl)
theorem dJ0_insert_47 : decode cJ0_insert 47 = .ok (.iload_n 1, 1) := dk_27 (dk_at dksJ0_insert_2 1 rfl rfl)
theorem dJ0_insert_48 : decode cJ0_insert 48 = .ok (.aload_n 2, 1) := dk_44 (dk_at dksJ0_insert_2 2 rfl rfl)
theorem dJ0_insert_49 : decode cJ0_insert 49 = .ok (.invokevirtual 208, 3) := dk_182 0 208 (dk_at dksJ0_insert_2 3 rfl rfl)
theorem dJ0_insert_52 : decode cJ0_insert 52 = .ok (.aload_n 0, 1) := dk_42 (dk_at dksJ0_insert_2 6 rfl rfl)
theorem dJ0_insert_53 : decode cJ0_insert 53 = .ok (.areturn, 1) := dk_176 (dk_at dksJ0_insert_2 7 rfl rfl)
theorem q37 : (Jvm.Cond.initialized "java/lang/AbstractStringBuilder") ∈ lw_all := lw_g (lw_at lw_m1 2 rfl) rfl
theorem q83 : (Jvm.Cond.instanceMethod ({ cls := "java/lang/AbstractStringBuilder", name := "<init>", desc := "(I)V" } : Jvm.MethodName)) ∈ lw_all := lw_g (lw_at lw_m1 48 rfl) rfl
theorem q84 : (Jvm.Cond.code ({ cls := "java/lang/AbstractStringBuilder", name := "<init>", desc := "(I)V" } : Jvm.MethodName) prog_9_method_2_code (2 : Nat) (Option.none : Option Jvm.ClassFile.FieldType)) ∈ lw_all := lw_g (lw_at lw_m1 49 rfl) rfl
theorem q85 : (Jvm.Cond.methodLink "java/lang/AbstractStringBuilder" (3 : Nat) ({ cls := "java/lang/Object", name := "<init>", desc := "()V" } : Jvm.MethodName)) ∈ lw_all := lw_g (lw_at lw_m1 50 rfl) rfl
theorem q86 : (Jvm.Cond.fieldLink "java/lang/AbstractStringBuilder" (18 : Nat) "java/lang/String" "COMPACT_STRINGS" "Z") ∈ lw_all := lw_g (lw_at lw_m1 51 rfl) rfl
theorem q88 : (Jvm.Cond.methodLink "java/lang/AbstractStringBuilder" (26 : Nat) ({ cls := "java/lang/StringUTF16", name := "newBytesFor", desc := "(I)[B" } : Jvm.MethodName)) ∈ lw_all := lw_g (lw_at lw_m1 53 rfl) rfl
theorem q95 : (Jvm.Cond.fieldLink "java/lang/AbstractStringBuilder" (15 : Nat) "java/lang/AbstractStringBuilder" "value" "[B") ∈ lw_all := lw_g (lw_at lw_m1 60 rfl) rfl
theorem q96 : (Jvm.Cond.fieldLink "java/lang/AbstractStringBuilder" (22 : Nat) "java/lang/AbstractStringBuilder" "coder" "B") ∈ lw_all := lw_g (lw_at lw_m1 61 rfl) rfl
theorem q97 : (Jvm.Cond.fieldLink "java/lang/AbstractStringBuilder" (73 : Nat) "java/lang/AbstractStringBuilder" "maybeLatin1" "Z") ∈ lw_all := lw_g (lw_at lw_m1 62 rfl) rfl
theorem q99 : (Jvm.Cond.fieldLink "java/lang/AbstractStringBuilder" (79 : Nat) "java/lang/AbstractStringBuilder" "count" "I") ∈ lw_all := lw_g (lw_at lw_m1 64 rfl) rfl
theorem q101 : (Jvm.Cond.soleField "java/lang/AbstractStringBuilder" "value") ∈ lw_all := lw_g (lw_at lw_m1 66 rfl) rfl
theorem q103 : (Jvm.Cond.soleField "java/lang/AbstractStringBuilder" "coder") ∈ lw_all := lw_g (lw_at lw_m1 68 rfl) rfl
theorem q105 : (Jvm.Cond.soleField "java/lang/AbstractStringBuilder" "maybeLatin1") ∈ lw_all := lw_g (lw_at lw_m1 70 rfl) rfl
theorem q107 : (Jvm.Cond.soleField "java/lang/AbstractStringBuilder" "count") ∈ lw_all := lw_g (lw_at lw_m1 72 rfl) rfl
theorem q290 : (Jvm.Cond.instanceMethod ({ cls := "java/lang/AbstractStringBuilder", name := "length", desc := "()I" } : Jvm.MethodName)) ∈ lw_all := lw_g (lw_at lw_m2 15 rfl) rfl
theorem q291 : (Jvm.Cond.code ({ cls := "java/lang/AbstractStringBuilder", name := "length", desc := "()I" } : Jvm.MethodName) prog_9_method_6_code (1 : Nat) (Option.some Jvm.ClassFile.FieldType.int)) ∈ lw_all := lw_g (lw_at lw_m2 16 rfl) rfl
theorem q297 : (Jvm.Cond.instanceMethod ({ cls := "java/lang/AbstractStringBuilder", name := "setLength", desc := "(I)V" } : Jvm.MethodName)) ∈ lw_all := lw_g (lw_at lw_m2 22 rfl) rfl
theorem q298 : (Jvm.Cond.code ({ cls := "java/lang/AbstractStringBuilder", name := "setLength", desc := "(I)V" } : Jvm.MethodName) prog_9_method_13_code (2 : Nat) (Option.none : Option Jvm.ClassFile.FieldType)) ∈ lw_all := lw_g (lw_at lw_m2 23 rfl) rfl
theorem q299 : (Jvm.Cond.classLink "java/lang/AbstractStringBuilder" (129 : Nat) "java/lang/StringIndexOutOfBoundsException") ∈ lw_all := lw_g (lw_at lw_m2 24 rfl) rfl
theorem q301 : (Jvm.Cond.methodLink "java/lang/AbstractStringBuilder" (131 : Nat) ({ cls := "java/lang/StringIndexOutOfBoundsException", name := "<init>", desc := "(I)V" } : Jvm.MethodName)) ∈ lw_all := lw_g (lw_at lw_m2 26 rfl) rfl
theorem q312 : (Jvm.Cond.instanceMethod ({ cls := "java/lang/AbstractStringBuilder", name := "append", desc := "(Ljava/lang/String;)Ljava/lang/AbstractStringBuilder;" } : Jvm.MethodName)) ∈ lw_all := lw_g (lw_at lw_m2 37 rfl) rfl
theorem q313 : (Jvm.Cond.code ({ cls := "java/lang/AbstractStringBuilder", name := "append", desc := "(Ljava/lang/String;)Ljava/lang/AbstractStringBuilder;" } : Jvm.MethodName) prog_9_method_22_code (3 : Nat) (Option.some (Jvm.ClassFile.FieldType.object "java/lang/AbstractStringBuilder"))) ∈ lw_all := lw_g (lw_at lw_m2 38 rfl) rfl
theorem q314 : (Jvm.Cond.methodLink "java/lang/AbstractStringBuilder" (204 : Nat) ({ cls := "java/lang/AbstractStringBuilder", name := "appendNull", desc := "()Ljava/lang/AbstractStringBuilder;" } : Jvm.MethodName)) ∈ lw_all := lw_g (lw_at lw_m2 39 rfl) rfl
theorem q315 : (Jvm.Cond.privateMethod ({ cls := "java/lang/AbstractStringBuilder", name := "appendNull", desc := "()Ljava/lang/AbstractStringBuilder;" } : Jvm.MethodName)) ∈ lw_tbl := lw_at lw_m2 40 rfl
theorem q316 : (Jvm.Cond.instanceMethod ({ cls := "java/lang/AbstractStringBuilder", name := "appendNull", desc := "()Ljava/lang/AbstractStringBuilder;" } : Jvm.MethodName)) ∈ lw_all := lw_g (lw_at lw_m2 41 rfl) rfl
theorem q317 : (Jvm.Cond.code ({ cls := "java/lang/AbstractStringBuilder", name := "appendNull", desc := "()Ljava/lang/AbstractStringBuilder;" } : Jvm.MethodName) prog_9_method_26_code (3 : Nat) (Option.some (Jvm.ClassFile.FieldType.object "java/lang/AbstractStringBuilder"))) ∈ lw_all := lw_g (lw_at lw_m2 42 rfl) rfl
theorem q318 : (Jvm.Cond.methodLink "java/lang/AbstractStringBuilder" (100 : Nat) ({ cls := "java/lang/AbstractStringBuilder", name := "ensureCapacityInternal", desc := "(I)V" } : Jvm.MethodName)) ∈ lw_all := lw_g (lw_at lw_m2 43 rfl) rfl
theorem q319 : (Jvm.Cond.privateMethod ({ cls := "java/lang/AbstractStringBuilder", name := "ensureCapacityInternal", desc := "(I)V" } : Jvm.MethodName)) ∈ lw_tbl := lw_at lw_m2 44 rfl
theorem q320 : (Jvm.Cond.instanceMethod ({ cls := "java/lang/AbstractStringBuilder", name := "ensureCapacityInternal", desc := "(I)V" } : Jvm.MethodName)) ∈ lw_all := lw_g (lw_at lw_m2 45 rfl) rfl
theorem q321 : (Jvm.Cond.code ({ cls := "java/lang/AbstractStringBuilder", name := "ensureCapacityInternal", desc := "(I)V" } : Jvm.MethodName) prog_9_method_9_code (3 : Nat) (Option.none : Option Jvm.ClassFile.FieldType)) ∈ lw_all := lw_g (lw_at lw_m2 46 rfl) rfl
theorem q322 : (Jvm.Cond.methodLink "java/lang/AbstractStringBuilder" (104 : Nat) ({ cls := "java/lang/AbstractStringBuilder", name := "newCapacity", desc := "(I)I" } : Jvm.MethodName)) ∈ lw_all := lw_g (lw_at lw_m2 47 rfl) rfl
theorem q323 : (Jvm.Cond.privateMethod ({ cls := "java/lang/AbstractStringBuilder", name := "newCapacity", desc := "(I)I" } : Jvm.MethodName)) ∈ lw_tbl := lw_at lw_m2 48 rfl
theorem q324 : (Jvm.Cond.instanceMethod ({ cls := "java/lang/AbstractStringBuilder", name := "newCapacity", desc := "(I)I" } : Jvm.MethodName)) ∈ lw_all := lw_g (lw_at lw_m2 49 rfl) rfl
theorem q325 : (Jvm.Cond.code ({ cls := "java/lang/AbstractStringBuilder", name := "newCapacity", desc := "(I)I" } : Jvm.MethodName) prog_9_method_10_code (6 : Nat) (Option.some Jvm.ClassFile.FieldType.int)) ∈ lw_all := lw_g (lw_at lw_m2 50 rfl) rfl
theorem q326 : (Jvm.Cond.methodLink "java/lang/AbstractStringBuilder" (114 : Nat) ({ cls := "jdk/internal/util/ArraysSupport", name := "newLength", desc := "(III)I" } : Jvm.MethodName)) ∈ lw_all := lw_g (lw_at lw_m2 51 rfl) rfl
theorem q327 : (Jvm.Cond.constant "java/lang/AbstractStringBuilder" (39 : Nat) (2147483647 : Int32)) ∈ lw_all := lw_g (lw_at lw_m2 52 rfl) rfl
theorem q328 : (Jvm.Cond.methodLink "java/lang/AbstractStringBuilder" (108 : Nat) ({ cls := "java/util/Arrays", name := "copyOf", desc := "([BI)[B" } : Jvm.MethodName)) ∈ lw_all := lw_g (lw_at lw_m2 53 rfl) rfl
theorem q338 : (Jvm.Cond.methodLink "java/lang/AbstractStringBuilder" (83 : Nat) ({ cls := "java/lang/AbstractStringBuilder", name := "isLatin1", desc := "()Z" } : Jvm.MethodName)) ∈ lw_all := lw_g (lw_at lw_m2 63 rfl) rfl
theorem q339 : (Jvm.Cond.instanceMethod ({ cls := "java/lang/AbstractStringBuilder", name := "isLatin1", desc := "()Z" } : Jvm.MethodName)) ∈ lw_all := lw_g (lw_at lw_m2 64 rfl) rfl
theorem q340 : (Jvm.Cond.sameMethod "java/lang/AbstractStringBuilder" "java/lang/AbstractStringBuilder" "isLatin1" "()Z") ∈ lw_all := lw_g (lw_at lw_m2 65 rfl) rfl
theorem q342 : (Jvm.Cond.code ({ cls := "java/lang/AbstractStringBuilder", name := "isLatin1", desc := "()Z" } : Jvm.MethodName) prog_9_method_68_code (1 : Nat) (Option.some Jvm.ClassFile.FieldType.boolean)) ∈ lw_all := lw_g (lw_at lw_m2 67 rfl) rfl
theorem q343 : (Jvm.Cond.methodLink "java/lang/AbstractStringBuilder" (226 : Nat) ({ cls := "java/lang/StringUTF16", name := "putCharsAt", desc := "([BICCCC)I" } : Jvm.MethodName)) ∈ lw_all := lw_g (lw_at lw_m2 68 rfl) rfl
theorem q369 : (Jvm.Cond.methodLink "java/lang/AbstractStringBuilder" (32 : Nat) ({ cls := "java/lang/String", name := "length", desc := "()I" } : Jvm.MethodName)) ∈ lw_all := lw_g (lw_at lw_m2 94 rfl) rfl
theorem q378 : (Jvm.Cond.methodLink "java/lang/AbstractStringBuilder" (208 : Nat) ({ cls := "java/lang/AbstractStringBuilder", name := "putStringAt", desc := "(ILjava/lang/String;)V" } : Jvm.MethodName)) ∈ lw_all := lw_g (lw_at lw_m2 103 rfl) rfl
theorem q379 : (Jvm.Cond.privateMethod ({ cls := "java/lang/AbstractStringBuilder", name := "putStringAt", desc := "(ILjava/lang/String;)V" } : Jvm.MethodName)) ∈ lw_tbl := lw_at lw_m2 104 rfl
theorem q380 : (Jvm.Cond.instanceMethod ({ cls := "java/lang/AbstractStringBuilder", name := "putStringAt", desc := "(ILjava/lang/String;)V" } : Jvm.MethodName)) ∈ lw_all := lw_g (lw_at lw_m2 105 rfl) rfl
theorem q381 : (Jvm.Cond.code ({ cls := "java/lang/AbstractStringBuilder", name := "putStringAt", desc := "(ILjava/lang/String;)V" } : Jvm.MethodName) prog_9_method_73_code (3 : Nat) (Option.none : Option Jvm.ClassFile.FieldType)) ∈ lw_all := lw_g (lw_at lw_m2 106 rfl) rfl
theorem q382 : (Jvm.Cond.methodLink "java/lang/AbstractStringBuilder" (397 : Nat) ({ cls := "java/lang/AbstractStringBuilder", name := "inflateIfNeededFor", desc := "(Ljava/lang/String;)V" } : Jvm.MethodName)) ∈ lw_all := lw_g (lw_at lw_m2 107 rfl) rfl
theorem q383 : (Jvm.Cond.privateMethod ({ cls := "java/lang/AbstractStringBuilder", name := "inflateIfNeededFor", desc := "(Ljava/lang/String;)V" } : Jvm.MethodName)) ∈ lw_tbl := lw_at lw_m2 108 rfl
theorem q384 : (Jvm.Cond.instanceMethod ({ cls := "java/lang/AbstractStringBuilder", name := "inflateIfNeededFor", desc := "(Ljava/lang/String;)V" } : Jvm.MethodName)) ∈ lw_all := lw_g (lw_at lw_m2 109 rfl) rfl
theorem q385 : (Jvm.Cond.code ({ cls := "java/lang/AbstractStringBuilder", name := "inflateIfNeededFor", desc := "(Ljava/lang/String;)V" } : Jvm.MethodName) prog_9_method_71_code (2 : Nat) (Option.none : Option Jvm.ClassFile.FieldType)) ∈ lw_all := lw_g (lw_at lw_m2 110 rfl) rfl
theorem q386 : (Jvm.Cond.methodLink "java/lang/AbstractStringBuilder" (40 : Nat) ({ cls := "java/lang/String", name := "coder", desc := "()B" } : Jvm.MethodName)) ∈ lw_all := lw_g (lw_at lw_m2 111 rfl) rfl
theorem q387 : (Jvm.Cond.methodLink "java/lang/AbstractStringBuilder" (195 : Nat) ({ cls := "java/lang/AbstractStringBuilder", name := "inflate", desc := "()V" } : Jvm.MethodName)) ∈ lw_all := lw_g (lw_at lw_m2 112 rfl) rfl
theorem q388 : (Jvm.Cond.privateMethod ({ cls := "java/lang/AbstractStringBuilder", name := "inflate", desc := "()V" } : Jvm.MethodName)) ∈ lw_tbl := lw_at lw_m2 113 rfl
theorem q389 : (Jvm.Cond.instanceMethod ({ cls := "java/lang/AbstractStringBuilder", name := "inflate", desc := "()V" } : Jvm.MethodName)) ∈ lw_all := lw_g (lw_at lw_m2 114 rfl) rfl
theorem q390 : (Jvm.Cond.code ({ cls := "java/lang/AbstractStringBuilder", name := "inflate", desc := "()V" } : Jvm.MethodName) prog_9_method_11_code (2 : Nat) (Option.none : Option Jvm.ClassFile.FieldType)) ∈ lw_all := lw_g (lw_at lw_m2 115 rfl) rfl
theorem q391 : (Jvm.Cond.methodLink "java/lang/AbstractStringBuilder" (125 : Nat) ({ cls := "java/lang/StringLatin1", name := "inflate", desc := "([BI[BII)V" } : Jvm.MethodName)) ∈ lw_all := lw_g (lw_at lw_m2 116 rfl) rfl
theorem q406 : (Jvm.Cond.methodLink "java/lang/AbstractStringBuilder" (399 : Nat) ({ cls := "java/lang/String", name := "getBytes", desc := "([BIB)V" } : Jvm.MethodName)) ∈ lw_all := lw_g (lw_at lw_m2 131 rfl) rfl
theorem q417 : (Jvm.Cond.instanceMethod ({ cls := "java/lang/AbstractStringBuilder", name := "append", desc := "(I)Ljava/lang/AbstractStringBuilder;" } : Jvm.MethodName)) ∈ lw_all := lw_g (lw_at lw_m2 142 rfl) rfl
theorem q418 : (Jvm.Cond.code ({ cls := "java/lang/AbstractStringBuilder", name := "append", desc := "(I)Ljava/lang/AbstractStringBuilder;" } : Jvm.MethodName) prog_9_method_32_code (4 : Nat) (Option.some (Jvm.ClassFile.FieldType.object "java/lang/AbstractStringBuilder"))) ∈ lw_all := lw_g (lw_at lw_m2 143 rfl) rfl
theorem q419 : (Jvm.Cond.methodLink "java/lang/AbstractStringBuilder" (245 : Nat) ({ cls := "java/lang/Integer", name := "stringSize", desc := "(I)I" } : Jvm.MethodName)) ∈ lw_all := lw_g (lw_at lw_m2 144 rfl) rfl
theorem q422 : (Jvm.Cond.methodLink "java/lang/AbstractStringBuilder" (248 : Nat) ({ cls := "java/lang/Integer", name := "getChars", desc := "(II[B)I" } : Jvm.MethodName)) ∈ lw_all := lw_g (lw_at lw_m2 147 rfl) rfl
theorem q429 : (Jvm.Cond.methodLink "java/lang/AbstractStringBuilder" (251 : Nat) ({ cls := "java/lang/StringUTF16", name := "getChars", desc := "(III[B)I" } : Jvm.MethodName)) ∈ lw_all := lw_g (lw_at lw_m2 154 rfl) rfl
theorem q451 : (Jvm.Cond.instanceMethod ({ cls := "java/lang/AbstractStringBuilder", name := "getValue", desc := "()[B" } : Jvm.MethodName)) ∈ lw_all := lw_g (lw_at lw_m2 176 rfl) rfl
theorem q452 : (Jvm.Cond.sameMethod "java/lang/AbstractStringBuilder" "java/lang/AbstractStringBuilder" "getValue" "()[B") ∈ lw_all := lw_g (lw_at lw_m2 177 rfl) rfl
theorem q454 : (Jvm.Cond.code ({ cls := "java/lang/AbstractStringBuilder", name := "getValue", desc := "()[B" } : Jvm.MethodName) prog_9_method_64_code (1 : Nat) (Option.some (Jvm.ClassFile.FieldType.array Jvm.ClassFile.FieldType.byte))) ∈ lw_all := lw_g (lw_at lw_m2 179 rfl) rfl
theorem q575 : (Jvm.Cond.methodLink "java/lang/AbstractStringBuilder" (133 : Nat) ({ cls := "java/lang/StringLatin1", name := "fillNull", desc := "([BII)V" } : Jvm.MethodName)) ∈ lw_all := lw_g (lw_at lw_m3 60 rfl) rfl
theorem q610 : (Jvm.Cond.methodLink "java/lang/AbstractStringBuilder" (137 : Nat) ({ cls := "java/lang/StringUTF16", name := "fillNull", desc := "([BII)V" } : Jvm.MethodName)) ∈ lw_all := lw_g (lw_at lw_m3 95 rfl) rfl
theorem q652 : (Jvm.Cond.instanceMethod ({ cls := "java/lang/AbstractStringBuilder", name := "getCoder", desc := "()B" } : Jvm.MethodName)) ∈ lw_all := lw_g (lw_at lw_m3 137 rfl) rfl
theorem q653 : (Jvm.Cond.sameMethod "java/lang/AbstractStringBuilder" "java/lang/AbstractStringBuilder" "getCoder" "()B") ∈ lw_all := lw_g (lw_at lw_m3 138 rfl) rfl
theorem q655 : (Jvm.Cond.code ({ cls := "java/lang/AbstractStringBuilder", name := "getCoder", desc := "()B" } : Jvm.MethodName) prog_9_method_67_code (1 : Nat) (Option.some Jvm.ClassFile.FieldType.byte)) ∈ lw_all := lw_g (lw_at lw_m3 140 rfl) rfl
theorem q816 : (Jvm.Cond.instanceMethod ({ cls := "java/lang/AbstractStringBuilder", name := "charAt", desc := "(I)C" } : Jvm.MethodName)) ∈ lw_all := lw_g (lw_at lw_m4 61 rfl) rfl
theorem q817 : (Jvm.Cond.code ({ cls := "java/lang/AbstractStringBuilder", name := "charAt", desc := "(I)C" } : Jvm.MethodName) prog_9_method_14_code (5 : Nat) (Option.some Jvm.ClassFile.FieldType.char)) ∈ lw_all := lw_g (lw_at lw_m4 62 rfl) rfl
theorem q818 : (Jvm.Cond.methodLink "java/lang/AbstractStringBuilder" (138 : Nat) ({ cls := "java/lang/Math", name := "min", desc := "(II)I" } : Jvm.MethodName)) ∈ lw_all := lw_g (lw_at lw_m4 63 rfl) rfl
theorem q819 : (Jvm.Cond.methodLink "java/lang/AbstractStringBuilder" (144 : Nat) ({ cls := "java/lang/String", name := "checkIndex", desc := "(II)V" } : Jvm.MethodName)) ∈ lw_all := lw_g (lw_at lw_m4 64 rfl) rfl
theorem q820 : (Jvm.Cond.methodLink "java/lang/AbstractStringBuilder" (148 : Nat) ({ cls := "java/lang/StringUTF16", name := "getChar", desc := "([BI)C" } : Jvm.MethodName)) ∈ lw_all := lw_g (lw_at lw_m4 65 rfl) rfl
theorem q886 : (Jvm.Cond.instanceMethod ({ cls := "java/lang/AbstractStringBuilder", name := "append", desc := "(C)Ljava/lang/AbstractStringBuilder;" } : Jvm.MethodName)) ∈ lw_all := lw_g (lw_at lw_m4 131 rfl) rfl
theorem q887 : (Jvm.Cond.code ({ cls := "java/lang/AbstractStringBuilder", name := "append", desc := "(C)Ljava/lang/AbstractStringBuilder;" } : Jvm.MethodName) prog_9_method_31_code (2 : Nat) (Option.some (Jvm.ClassFile.FieldType.object "java/lang/AbstractStringBuilder"))) ∈ lw_all := lw_g (lw_at lw_m4 132 rfl) rfl
theorem q888 : (Jvm.Cond.methodLink "java/lang/AbstractStringBuilder" (191 : Nat) ({ cls := "java/lang/StringLatin1", name := "canEncode", desc := "(C)Z" } : Jvm.MethodName)) ∈ lw_all := lw_g (lw_at lw_m4 133 rfl) rfl
theorem q891 : (Jvm.Cond.methodLink "java/lang/AbstractStringBuilder" (197 : Nat) ({ cls := "java/lang/StringUTF16", name := "putCharSB", desc := "([BII)V" } : Jvm.MethodName)) ∈ lw_all := lw_g (lw_at lw_m4 136 rfl) rfl
theorem q906 : (Jvm.Cond.instanceMethod ({ cls := "java/lang/AbstractStringBuilder", name := "deleteCharAt", desc := "(I)Ljava/lang/AbstractStringBuilder;" } : Jvm.MethodName)) ∈ lw_all := lw_g (lw_at lw_m4 151 rfl) rfl
theorem q907 : (Jvm.Cond.code ({ cls := "java/lang/AbstractStringBuilder", name := "deleteCharAt", desc := "(I)Ljava/lang/AbstractStringBuilder;" } : Jvm.MethodName) prog_9_method_38_code (2 : Nat) (Option.some (Jvm.ClassFile.FieldType.object "java/lang/AbstractStringBuilder"))) ∈ lw_all := lw_g (lw_at lw_m4 152 rfl) rfl
theorem q908 : (Jvm.Cond.methodLink "java/lang/AbstractStringBuilder" (283 : Nat) ({ cls := "java/lang/AbstractStringBuilder", name := "shift", desc := "(II)V" } : Jvm.MethodName)) ∈ lw_all := lw_g (lw_at lw_m4 153 rfl) rfl
theorem q909 : (Jvm.Cond.privateMethod ({ cls := "java/lang/AbstractStringBuilder", name := "shift", desc := "(II)V" } : Jvm.MethodName)) ∈ lw_tbl := lw_at lw_m4 154 rfl
theorem q910 : (Jvm.Cond.instanceMethod ({ cls := "java/lang/AbstractStringBuilder", name := "shift", desc := "(II)V" } : Jvm.MethodName)) ∈ lw_all := lw_g (lw_at lw_m4 155 rfl) rfl
theorem q911 : (Jvm.Cond.code ({ cls := "java/lang/AbstractStringBuilder", name := "shift", desc := "(II)V" } : Jvm.MethodName) prog_9_method_43_code (3 : Nat) (Option.none : Option Jvm.ClassFile.FieldType)) ∈ lw_all := lw_g (lw_at lw_m4 156 rfl) rfl
theorem q912 : (Jvm.Cond.methodLink "java/lang/AbstractStringBuilder" (309 : Nat) ({ cls := "java/lang/System", name := "arraycopy", desc := "(Ljava/lang/Object;ILjava/lang/Object;II)V" } : Jvm.MethodName)) ∈ lw_all := lw_g (lw_at lw_m4 157 rfl) rfl
theorem q925 : (Jvm.Cond.instanceMethod ({ cls := "java/lang/AbstractStringBuilder", name := "substring", desc := "(II)Ljava/lang/String;" } : Jvm.MethodName)) ∈ lw_all := lw_g (lw_at lw_m4 170 rfl) rfl
theorem q926 : (Jvm.Cond.code ({ cls := "java/lang/AbstractStringBuilder", name := "substring", desc := "(II)Ljava/lang/String;" } : Jvm.MethodName) prog_9_method_42_code (3 : Nat) (Option.some (Jvm.ClassFile.FieldType.object "java/lang/String"))) ∈ lw_all := lw_g (lw_at lw_m4 171 rfl) rfl
theorem q927 : (Jvm.Cond.fieldLink "java/lang/AbstractStringBuilder" (179 : Nat) "jdk/internal/util/Preconditions" "SIOOBE_FORMATTER" "Ljava/util/function/BiFunction;") ∈ lw_all := lw_g (lw_at lw_m4 172 rfl) rfl
theorem q928 : (Jvm.Cond.methodLink "java/lang/AbstractStringBuilder" (161 : Nat) ({ cls := "jdk/internal/util/Preconditions", name := "checkFromToIndex", desc := "(IIILjava/util/function/BiFunction;)I" } : Jvm.MethodName)) ∈ lw_all := lw_g (lw_at lw_m4 173 rfl) rfl
theorem q929 : (Jvm.Cond.methodLink "java/lang/AbstractStringBuilder" (304 : Nat) ({ cls := "java/lang/StringLatin1", name := "newString", desc := "([BII)Ljava/lang/String;" } : Jvm.MethodName)) ∈ lw_all := lw_g (lw_at lw_m4 174 rfl) rfl
theorem q938 : (Jvm.Cond.methodLink "java/lang/AbstractStringBuilder" (308 : Nat) ({ cls := "java/lang/StringUTF16", name := "newString", desc := "([BII)Ljava/lang/String;" } : Jvm.MethodName)) ∈ lw_all := lw_g (lw_at lw_m4 183 rfl) rfl
theorem q1009 : (Jvm.Cond.instanceMethod ({ cls := "java/lang/AbstractStringBuilder", name := "<init>", desc := "(Ljava/lang/String;)V" } : Jvm.MethodName)) ∈ lw_all := lw_g (lw_at lw_m5 14 rfl) rfl
theorem q1010 : (Jvm.Cond.code ({ cls := "java/lang/AbstractStringBuilder", name := "<init>", desc := "(Ljava/lang/String;)V" } : Jvm.MethodName) prog_9_method_3_code (5 : Nat) (Option.none : Option Jvm.ClassFile.FieldType)) ∈ lw_all := lw_g (lw_at lw_m5 15 rfl) rfl
theorem q1011 : (Jvm.Cond.constant "java/lang/AbstractStringBuilder" (38 : Nat) (2147483631 : Int32)) ∈ lw_all := lw_g (lw_at lw_m5 16 rfl) rfl
theorem q1012 : (Jvm.Cond.methodLink "java/lang/AbstractStringBuilder" (43 : Nat) ({ cls := "java/lang/AbstractStringBuilder", name := "append", desc := "(Ljava/lang/String;)Ljava/lang/AbstractStringBuilder;" } : Jvm.MethodName)) ∈ lw_all := lw_g (lw_at lw_m5 17 rfl) rfl
theorem q1021 : (Jvm.Cond.instanceMethod ({ cls := "java/lang/AbstractStringBuilder", name := "delete", desc := "(II)Ljava/lang/AbstractStringBuilder;" } : Jvm.MethodName)) ∈ lw_all := lw_g (lw_at lw_m5 26 rfl) rfl
theorem q1022 : (Jvm.Cond.code ({ cls := "java/lang/AbstractStringBuilder", name := "delete", desc := "(II)Ljava/lang/AbstractStringBuilder;" } : Jvm.MethodName) prog_9_method_36_code (5 : Nat) (Option.some (Jvm.ClassFile.FieldType.object "java/lang/AbstractStringBuilder"))) ∈ lw_all := lw_g (lw_at lw_m5 27 rfl) rfl
theorem q1028 : (Jvm.Cond.instanceMethod ({ cls := "java/lang/AbstractStringBuilder", name := "insert", desc := "(ILjava/lang/String;)Ljava/lang/AbstractStringBuilder;" } : Jvm.MethodName)) ∈ lw_all := lw_g (lw_at lw_m5 33 rfl) rfl
theorem q1029 : (Jvm.Cond.code ({ cls := "java/lang/AbstractStringBuilder", name := "insert", desc := "(ILjava/lang/String;)Ljava/lang/AbstractStringBuilder;" } : Jvm.MethodName) prog_9_method_46_code (4 : Nat) (Option.some (Jvm.ClassFile.FieldType.object "java/lang/AbstractStringBuilder"))) ∈ lw_all := lw_g (lw_at lw_m5 34 rfl) rfl
theorem q1030 : (Jvm.Cond.methodLink "java/lang/AbstractStringBuilder" (315 : Nat) ({ cls := "java/lang/String", name := "checkOffset", desc := "(II)V" } : Jvm.MethodName)) ∈ lw_all := lw_g (lw_at lw_m5 35 rfl) rfl
theorem q1031 : (Jvm.Cond.stringRef "java/lang/AbstractStringBuilder" (230 : Nat) "null") ∈ lw_tbl := lw_at lw_m5 36 rfl
theorem q1535 : (Jvm.Cond.sameMethod "java/lang/AbstractStringBuilder" "java/lang/AbstractStringBuilder" "length" "()I") ∈ lw_all := lw_g (lw_at lw_m7 60 rfl) rfl
theorem q1536 : (Jvm.Cond.sameMethod "java/lang/AbstractStringBuilder" "java/lang/AbstractStringBuilder" "setLength" "(I)V") ∈ lw_all := lw_g (lw_at lw_m7 61 rfl) rfl
theorem q1537 : (Jvm.Cond.sameMethod "java/lang/AbstractStringBuilder" "java/lang/AbstractStringBuilder" "append" "(Ljava/lang/String;)Ljava/lang/AbstractStringBuilder;") ∈ lw_all := lw_g (lw_at lw_m7 62 rfl) rfl
theorem q1538 : (Jvm.Cond.sameMethod "java/lang/AbstractStringBuilder" "java/lang/AbstractStringBuilder" "appendNull" "()Ljava/lang/AbstractStringBuilder;") ∈ lw_all := lw_g (lw_at lw_m7 63 rfl) rfl
theorem q1539 : (Jvm.Cond.sameMethod "java/lang/AbstractStringBuilder" "java/lang/AbstractStringBuilder" "ensureCapacityInternal" "(I)V") ∈ lw_all := lw_g (lw_at lw_m7 64 rfl) rfl
theorem q1540 : (Jvm.Cond.sameMethod "java/lang/AbstractStringBuilder" "java/lang/AbstractStringBuilder" "newCapacity" "(I)I") ∈ lw_all := lw_g (lw_at lw_m7 65 rfl) rfl
theorem q1541 : (Jvm.Cond.sameMethod "java/lang/AbstractStringBuilder" "java/lang/AbstractStringBuilder" "putStringAt" "(ILjava/lang/String;)V") ∈ lw_all := lw_g (lw_at lw_m7 66 rfl) rfl
theorem q1542 : (Jvm.Cond.sameMethod "java/lang/AbstractStringBuilder" "java/lang/AbstractStringBuilder" "inflateIfNeededFor" "(Ljava/lang/String;)V") ∈ lw_all := lw_g (lw_at lw_m7 67 rfl) rfl
theorem q1543 : (Jvm.Cond.sameMethod "java/lang/AbstractStringBuilder" "java/lang/AbstractStringBuilder" "inflate" "()V") ∈ lw_all := lw_g (lw_at lw_m7 68 rfl) rfl
theorem q1544 : (Jvm.Cond.sameMethod "java/lang/AbstractStringBuilder" "java/lang/AbstractStringBuilder" "append" "(I)Ljava/lang/AbstractStringBuilder;") ∈ lw_all := lw_g (lw_at lw_m7 69 rfl) rfl
theorem q1547 : (Jvm.Cond.sameMethod "java/lang/AbstractStringBuilder" "java/lang/AbstractStringBuilder" "charAt" "(I)C") ∈ lw_all := lw_g (lw_at lw_m7 72 rfl) rfl
theorem q1548 : (Jvm.Cond.sameMethod "java/lang/AbstractStringBuilder" "java/lang/AbstractStringBuilder" "append" "(C)Ljava/lang/AbstractStringBuilder;") ∈ lw_all := lw_g (lw_at lw_m7 73 rfl) rfl
theorem q1549 : (Jvm.Cond.sameMethod "java/lang/AbstractStringBuilder" "java/lang/AbstractStringBuilder" "deleteCharAt" "(I)Ljava/lang/AbstractStringBuilder;") ∈ lw_all := lw_g (lw_at lw_m7 74 rfl) rfl
theorem q1550 : (Jvm.Cond.sameMethod "java/lang/AbstractStringBuilder" "java/lang/AbstractStringBuilder" "shift" "(II)V") ∈ lw_all := lw_g (lw_at lw_m7 75 rfl) rfl
theorem q1551 : (Jvm.Cond.sameMethod "java/lang/AbstractStringBuilder" "java/lang/AbstractStringBuilder" "substring" "(II)Ljava/lang/String;") ∈ lw_all := lw_g (lw_at lw_m7 76 rfl) rfl
theorem q1553 : (Jvm.Cond.sameMethod "java/lang/AbstractStringBuilder" "java/lang/AbstractStringBuilder" "delete" "(II)Ljava/lang/AbstractStringBuilder;") ∈ lw_all := lw_g (lw_at lw_m7 78 rfl) rfl
theorem q1554 : (Jvm.Cond.sameMethod "java/lang/AbstractStringBuilder" "java/lang/AbstractStringBuilder" "insert" "(ILjava/lang/String;)Ljava/lang/AbstractStringBuilder;") ∈ lw_all := lw_g (lw_at lw_m7 79 rfl) rfl

/-! java/util/AbstractCollection -/
set_option maxRecDepth 100000
def RJ4 : String := "java/util/AbstractCollection"
abbrev cJ4_init : ByteArray := prog_35_method_1_code
def yJ4_init : MethodName := ⟨RJ4, "<init>", "()V"⟩
theorem dJ4_init_0 : decode cJ4_init 0 = .ok (.aload_n 0, 1) := by decide +kernel
theorem dJ4_init_1 : decode cJ4_init 1 = .ok (.invokespecial 1, 3) := by decide +kernel
theorem dJ4_init_4 : decode cJ4_init 4 = .ok (.return_, 1) := by decide +kernel
theorem q41 : (Jvm.Cond.initialized "java/util/AbstractCollection") ∈ lw_all := lw_g (lw_at lw_m1 6 rfl) rfl
theorem q121 : (Jvm.Cond.instanceMethod ({ cls := "java/util/AbstractCollection", name := "<init>", desc := "()V" } : Jvm.MethodName)) ∈ lw_all := lw_g (lw_at lw_m1 86 rfl) rfl
theorem q122 : (Jvm.Cond.code ({ cls := "java/util/AbstractCollection", name := "<init>", desc := "()V" } : Jvm.MethodName) prog_35_method_1_code (1 : Nat) (Option.none : Option Jvm.ClassFile.FieldType)) ∈ lw_all := lw_g (lw_at lw_m1 87 rfl) rfl
theorem q123 : (Jvm.Cond.methodLink "java/util/AbstractCollection" (1 : Nat) ({ cls := "java/lang/Object", name := "<init>", desc := "()V" } : Jvm.MethodName)) ∈ lw_all := lw_g (lw_at lw_m1 88 rfl) rfl

/-! java/util/AbstractList -/
set_option maxRecDepth 100000
def RJ5 : String := "java/util/AbstractList"
abbrev cJ5_init : ByteArray := prog_36_method_1_code
def yJ5_init : MethodName := ⟨RJ5, "<init>", "()V"⟩
def dkwJ5_init_0 : List UInt8 := [42, 183, 0, 1, 42, 3, 181, 0, 7, 177]
abbrev dktJ5_init_0 : List UInt8 := dkwJ5_init_0 ++ []
theorem dksJ5_init_0 : cJ5_init.data.toList.drop 0 = dktJ5_init_0 := by decide +kernel
theorem dJ5_init_0 : decode cJ5_init 0 = .ok (.aload_n 0, 1) := dk_42 (dk_at dksJ5_init_0 0 rfl rfl)
theorem dJ5_init_1 : decode cJ5_init 1 = .ok (.invokespecial 1, 3) := dk_183 0 1 (dk_at dksJ5_init_0 1 rfl rfl)
theorem dJ5_init_4 : decode cJ5_init 4 = .ok (.aload_n 0, 1) := dk_42 (dk_at dksJ5_init_0 4 rfl rfl)
theorem dJ5_init_5 : decode cJ5_init 5 = .ok (.iconst 0, 1) := dk_3 (dk_at dksJ5_init_0 5 rfl rfl)
theorem dJ5_init_6 : decode cJ5_init 6 = .ok (.putfield 7, 3) := dk_181 0 7 (dk_at dksJ5_init_0 6 rfl rfl)
theorem dJ5_init_9 : decode cJ5_init 9 = .ok (.return_, 1) := dk_177 (dk_at dksJ5_init_0 9 rfl rfl)
theorem q42 : (Jvm.Cond.initialized "java/util/AbstractList") ∈ lw_all := lw_g (lw_at lw_m1 7 rfl) rfl
theorem q118 : (Jvm.Cond.instanceMethod ({ cls := "java/util/AbstractList", name := "<init>", desc := "()V" } : Jvm.MethodName)) ∈ lw_all := lw_g (lw_at lw_m1 83 rfl) rfl
theorem q119 : (Jvm.Cond.code ({ cls := "java/util/AbstractList", name := "<init>", desc := "()V" } : Jvm.MethodName) prog_36_method_1_code (1 : Nat) (Option.none : Option Jvm.ClassFile.FieldType)) ∈ lw_all := lw_g (lw_at lw_m1 84 rfl) rfl
theorem q120 : (Jvm.Cond.methodLink "java/util/AbstractList" (1 : Nat) ({ cls := "java/util/AbstractCollection", name := "<init>", desc := "()V" } : Jvm.MethodName)) ∈ lw_all := lw_g (lw_at lw_m1 85 rfl) rfl
theorem q128 : (Jvm.Cond.fieldLink "java/util/AbstractList" (7 : Nat) "java/util/AbstractList" "modCount" "I") ∈ lw_all := lw_g (lw_at lw_m1 93 rfl) rfl
theorem q136 : (Jvm.Cond.soleField "java/util/AbstractList" "modCount") ∈ lw_all := lw_g (lw_at lw_m1 101 rfl) rfl

/-! jdk/internal/util/ArraysSupport -/
set_option maxRecDepth 100000
def RJ7 : String := "jdk/internal/util/ArraysSupport"
abbrev cJ7_newLength : ByteArray := prog_46_method_27_code
def yJ7_newLength : MethodName := ⟨RJ7, "newLength", "(III)I"⟩
def dkwJ7_newLength_1 : List UInt8 := [184, 0, 201, 172]
abbrev dktJ7_newLength_1 : List UInt8 := dkwJ7_newLength_1 ++ []
def dkwJ7_newLength_0 : List UInt8 := [26, 27, 28, 184, 0, 194, 96, 62, 3, 29, 162, 0, 11, 29, 18, 200, 163, 0, 5, 29, 172, 26, 27]
abbrev dktJ7_newLength_0 : List UInt8 := dkwJ7_newLength_0 ++ dktJ7_newLength_1
theorem dksJ7_newLength_0 : cJ7_newLength.data.toList.drop 0 = dktJ7_newLength_0 := by decide +kernel
theorem dksJ7_newLength_1 : cJ7_newLength.data.toList.drop 23 = dktJ7_newLength_1 := dk_seg dksJ7_newLength_0 23 rfl rfl
theorem dJ7_newLength_0 : decode cJ7_newLength 0 = .ok (.iload_n 0, 1) := dk_26 (dk_at dksJ7_newLength_0 0 rfl rfl)
theorem dJ7_newLength_1 : decode cJ7_newLength 1 = .ok (.iload_n 1, 1) := dk_27 (dk_at dksJ7_newLength_0 1 rfl rfl)
theorem dJ7_newLength_2 : decode cJ7_newLength 2 = .ok (.iload_n 2, 1) := dk_28 (dk_at dksJ7_newLength_0 2 rfl rfl)
theorem dJ7_newLength_3 : decode cJ7_newLength 3 = .ok (.invokestatic 194, 3) := dk_184 0 194 (dk_at dksJ7_newLength_0 3 rfl rfl)
theorem dJ7_newLength_6 : decode cJ7_newLength 6 = .ok (.iadd, 1) := dk_96 (dk_at dksJ7_newLength_0 6 rfl rfl)
theorem dJ7_newLength_7 : decode cJ7_newLength 7 = .ok (.istore_n 3, 1) := dk_62 (dk_at dksJ7_newLength_0 7 rfl rfl)
theorem dJ7_newLength_8 : decode cJ7_newLength 8 = .ok (.iconst 0, 1) := dk_3 (dk_at dksJ7_newLength_0 8 rfl rfl)
theorem dJ7_newLength_9 : decode cJ7_newLength 9 = .ok (.iload_n 3, 1) := dk_29 (dk_at dksJ7_newLength_0 9 rfl rfl)
theorem dJ7_newLength_10 : decode cJ7_newLength 10 = .ok (.if_icmp .ge 11, 3) := dk_162 0 11 (dk_at dksJ7_newLength_0 10 rfl rfl)
theorem dJ7_newLength_13 : decode cJ7_newLength 13 = .ok (.iload_n 3, 1) := dk_29 (dk_at dksJ7_newLength_0 13 rfl rfl)
theorem dJ7_newLength_14 : decode cJ7_newLength 14 = .ok (.ldc 200, 2) := dk_18 200 (dk_at dksJ7_newLength_0 14 rfl rfl)
theorem dJ7_newLength_16 : decode cJ7_newLength 16 = .ok (.if_icmp .gt 5, 3) := dk_163 0 5 (dk_at dksJ7_newLength_0 16 rfl rfl)
theorem dJ7_newLength_19 : decode cJ7_newLength 19 = .ok (.iload_n 3, 1) := dk_29 (dk_at dksJ7_newLength_0 19 rfl rfl)
theorem dJ7_newLength_20 : decode cJ7_newLength 20 = .ok (.ireturn, 1) := dk_172 (dk_at dksJ7_newLength_0 20 rfl rfl)
theorem dJ7_newLength_21 : decode cJ7_newLength 21 = .ok (.iload_n 0, 1) := dk_26 (dk_at dksJ7_newLength_0 21 rfl rfl)
theorem dJ7_newLength_22 : decode cJ7_newLength 22 = .ok (.iload_n 1, 1) := dk_27 (dk_at dksJ7_newLength_0 22 rfl rfl)
theorem dJ7_newLength_23 : decode cJ7_newLength 23 = .ok (.invokestatic 201, 3) := dk_184 0 201 (dk_at dksJ7_newLength_1 0 rfl rfl)
theorem dJ7_newLength_26 : decode cJ7_newLength 26 = .ok (.ireturn, 1) := dk_172 (dk_at dksJ7_newLength_1 3 rfl rfl)
abbrev cJ7_hugeLength : ByteArray := prog_46_method_28_code
def yJ7_hugeLength : MethodName := ⟨RJ7, "hugeLength", "(II)I"⟩
def dkwJ7_hugeLength_2 : List UInt8 := [191, 28, 18, 200, 163, 0, 6, 18, 200, 172, 28, 172]
abbrev dktJ7_hugeLength_2 : List UInt8 := dkwJ7_hugeLength_2 ++ []
def dkwJ7_hugeLength_1 : List UInt8 := [26, 182, 0, 98, 18, 208, 182, 0, 94, 27, 182, 0, 98, 18, 210, 182, 0, 94, 182, 0, 101, 183, 0, 212]
abbrev dktJ7_hugeLength_1 : List UInt8 := dkwJ7_hugeLength_1 ++ dktJ7_hugeLength_2
def dkwJ7_hugeLength_0 : List UInt8 := [26, 27, 96, 61, 28, 156, 0, 44, 187, 0, 204, 89, 187, 0, 89, 89, 183, 0, 91, 18, 206, 182, 0, 94]
abbrev dktJ7_hugeLength_0 : List UInt8 := dkwJ7_hugeLength_0 ++ dktJ7_hugeLength_1
theorem dksJ7_hugeLength_0 : cJ7_hugeLength.data.toList.drop 0 = dktJ7_hugeLength_0 := by decide +kernel
theorem dksJ7_hugeLength_1 : cJ7_hugeLength.data.toList.drop 24 = dktJ7_hugeLength_1 := dk_seg dksJ7_hugeLength_0 24 rfl rfl
theorem dksJ7_hugeLength_2 : cJ7_hugeLength.data.toList.drop 48 = dktJ7_hugeLength_2 := dk_seg dksJ7_hugeLength_1 24 rfl rfl
theorem dJ7_hugeLength_0 : decode cJ7_hugeLength 0 = .ok (.iload_n 0, 1) := dk_26 (dk_at dksJ7_hugeLength_0 0 rfl rfl)
theorem dJ7_hugeLength_1 : decode cJ7_hugeLength 1 = .ok (.iload_n 1, 1) := dk_27 (dk_at dksJ7_hugeLength_0 1 rfl rfl)
theorem dJ7_hugeLength_2 : decode cJ7_hugeLength 2 = .ok (.iadd, 1) := dk_96 (dk_at dksJ7_hugeLength_0 2 rfl rfl)
theorem dJ7_hugeLength_3 : decode cJ7_hugeLength 3 = .ok (.istore_n 2, 1) := dk_61 (dk_at dksJ7_hugeLength_0 3 rfl rfl)
theorem dJ7_hugeLength_4 : decode cJ7_hugeLength 4 = .ok (.iload_n 2, 1) := dk_28 (dk_at dksJ7_hugeLength_0 4 rfl rfl)
theorem dJ7_hugeLength_5 : decode cJ7_hugeLength 5 = .ok (.ifCond .ge 44, 3) := dk_156 0 44 (dk_at dksJ7_hugeLength_0 5 rfl rfl)
theorem dJ7_hugeLength_8 : decode cJ7_hugeLength 8 = .ok (.new 204, 3) := dk_187 0 204 (dk_at dksJ7_hugeLength_0 8 rfl rfl)
theorem dJ7_hugeLength_11 : decode cJ7_hugeLength 11 = .ok (.dup, 1) := dk_89 (dk_at dksJ7_hugeLength_0 11 rfl rfl)
theorem dJ7_hugeLength_12 : decode cJ7_hugeLength 12 = .ok (.new 89, 3) := dk_187 0 89 (dk_at dksJ7_hugeLength_0 12 rfl rfl)
theorem dJ7_hugeLength_15 : decode cJ7_hugeLength 15 = .ok (.dup, 1) := dk_89 (dk_at dksJ7_hugeLength_0 15 rfl rfl)
theorem dJ7_hugeLength_16 : decode cJ7_hugeLength 16 = .ok (.invokespecial 91, 3) := dk_183 0 91 (dk_at dksJ7_hugeLength_0 16 rfl rfl)
theorem dJ7_hugeLength_19 : decode cJ7_hugeLength 19 = .ok (.ldc 206, 2) := dk_18 206 (dk_at dksJ7_hugeLength_0 19 rfl rfl)
theorem dJ7_hugeLength_21 : decode cJ7_hugeLength 21 = .ok (.invokevirtual 94, 3) := dk_182 0 94 (dk_at dksJ7_hugeLength_0 21 rfl rfl)
theorem dJ7_hugeLength_24 : decode cJ7_hugeLength 24 = .ok (.iload_n 0, 1) := dk_26 (dk_at dksJ7_hugeLength_1 0 rfl rfl)
theorem dJ7_hugeLength_25 : decode cJ7_hugeLength 25 = .ok (.invokevirtual 98, 3) := dk_182 0 98 (dk_at dksJ7_hugeLength_1 1 rfl rfl)
theorem dJ7_hugeLength_28 : decode cJ7_hugeLength 28 = .ok (.ldc 208, 2) := dk_18 208 (dk_at dksJ7_hugeLength_1 4 rfl rfl)
theorem dJ7_hugeLength_30 : decode cJ7_hugeLength 30 = .ok (.invokevirtual 94, 3) := dk_182 0 94 (dk_at dksJ7_hugeLength_1 6 rfl rfl)
theorem dJ7_hugeLength_33 : decode cJ7_hugeLength 33 = .ok (.iload_n 1, 1) := dk_27 (dk_at dksJ7_hugeLength_1 9 rfl rfl)
theorem dJ7_hugeLength_34 : decode cJ7_hugeLength 34 = .ok (.invokevirtual 98, 3) := dk_182 0 98 (dk_at dksJ7_hugeLength_1 10 rfl rfl)
theorem dJ7_hugeLength_37 : decode cJ7_hugeLength 37 = .ok (.ldc 210, 2) := dk_18 210 (dk_at dksJ7_hugeLength_1 13 rfl rfl)
theorem dJ7_hugeLength_39 : decode cJ7_hugeLength 39 = .ok (.invokevirtual 94, 3) := dk_182 0 94 (dk_at dksJ7_hugeLength_1 15 rfl rfl)
theorem dJ7_hugeLength_42 : decode cJ7_hugeLength 42 = .ok (.invokevirtual 101, 3) := dk_182 0 101 (dk_at dksJ7_hugeLength_1 18 rfl rfl)
theorem dJ7_hugeLength_45 : decode cJ7_hugeLength 45 = .ok (.invokespecial 212, 3) := dk_183 0 212 (dk_at dksJ7_hugeLength_1 21 rfl rfl)
theorem dJ7_hugeLength_48 : decode cJ7_hugeLength 48 = .ok (.athrow, 1) := dk_191 (dk_at dksJ7_hugeLength_2 0 rfl rfl)
theorem dJ7_hugeLength_49 : decode cJ7_hugeLength 49 = .ok (.iload_n 2, 1) := dk_28 (dk_at dksJ7_hugeLength_2 1 rfl rfl)
theorem dJ7_hugeLength_50 : decode cJ7_hugeLength 50 = .ok (.ldc 200, 2) := dk_18 200 (dk_at dksJ7_hugeLength_2 2 rfl rfl)
theorem dJ7_hugeLength_52 : decode cJ7_hugeLength 52 = .ok (.if_icmp .gt 6, 3) := dk_163 0 6 (dk_at dksJ7_hugeLength_2 4 rfl rfl)
theorem dJ7_hugeLength_55 : decode cJ7_hugeLength 55 = .ok (.ldc 200, 2) := dk_18 200 (dk_at dksJ7_hugeLength_2 7 rfl rfl)
theorem dJ7_hugeLength_57 : decode cJ7_hugeLength 57 = .ok (.ireturn, 1) := dk_172 (dk_at dksJ7_hugeLength_2 9 rfl rfl)
theorem dJ7_hugeLength_58 : decode cJ7_hugeLength 58 = .ok (.iload_n 2, 1) := dk_28 (dk_at dksJ7_hugeLength_2 10 rfl rfl)
theorem dJ7_hugeLength_59 : decode cJ7_hugeLength 59 = .ok (.ireturn, 1) := dk_172 (dk_at dksJ7_hugeLength_2 11 rfl rfl)
abbrev cJ7_mismatch : ByteArray := prog_46_method_13_code
def yJ7_mismatch : MethodName := ⟨RJ7, "mismatch", "([B[BI)I"⟩
def dkwJ7_mismatch_3 : List UInt8 := [172]
abbrev dktJ7_mismatch_3 : List UInt8 := dkwJ7_mismatch_3 ++ []
def dkwJ7_mismatch_2 : List UInt8 := [62, 29, 28, 162, 0, 20, 42, 29, 51, 43, 29, 51, 159, 0, 5, 29, 172, 132, 3, 1, 167, 255, 237, 2]
abbrev dktJ7_mismatch_2 : List UInt8 := dkwJ7_mismatch_2 ++ dktJ7_mismatch_3
def dkwJ7_mismatch_1 : List UInt8 := [43, 178, 0, 126, 133, 28, 178, 0, 129, 184, 0, 122, 62, 29, 155, 0, 5, 29, 172, 28, 29, 2, 130, 100]
abbrev dktJ7_mismatch_1 : List UInt8 := dkwJ7_mismatch_1 ++ dktJ7_mismatch_2
def dkwJ7_mismatch_0 : List UInt8 := [3, 62, 28, 16, 7, 164, 0, 44, 42, 3, 51, 43, 3, 51, 159, 0, 5, 3, 172, 42, 178, 0, 126, 133]
abbrev dktJ7_mismatch_0 : List UInt8 := dkwJ7_mismatch_0 ++ dktJ7_mismatch_1
theorem dksJ7_mismatch_0 : cJ7_mismatch.data.toList.drop 0 = dktJ7_mismatch_0 := by decide +kernel
theorem dksJ7_mismatch_1 : cJ7_mismatch.data.toList.drop 24 = dktJ7_mismatch_1 := dk_seg dksJ7_mismatch_0 24 rfl rfl
theorem dksJ7_mismatch_2 : cJ7_mismatch.data.toList.drop 48 = dktJ7_mismatch_2 := dk_seg dksJ7_mismatch_1 24 rfl rfl
theorem dksJ7_mismatch_3 : cJ7_mismatch.data.toList.drop 72 = dktJ7_mismatch_3 := dk_seg dksJ7_mismatch_2 24 rfl rfl
theorem dJ7_mismatch_0 : decode cJ7_mismatch 0 = .ok (.iconst 0, 1) := dk_3 (dk_at dksJ7_mismatch_0 0 rfl rfl)
theorem dJ7_mismatch_1 : decode cJ7_mismatch 1 = .ok (.istore_n 3, 1) := dk_62 (dk_at dksJ7_mismatch_0 1 rfl rfl)
theorem dJ7_mismatch_2 : decode cJ7_mismatch 2 = .ok (.iload_n 2, 1) := dk_28 (dk_at dksJ7_mismatch_0 2 rfl rfl)
theorem dJ7_mismatch_3 : decode cJ7_mismatch 3 = .ok (.bipush 7, 2) := dk_16 7 (dk_at dksJ7_mismatch_0 3 rfl rfl)
theorem dJ7_mismatch_5 : decode cJ7_mismatch 5 = .ok (.if_icmp .le 44, 3) := dk_164 0 44 (dk_at dksJ7_mismatch_0 5 rfl rfl)
theorem dJ7_mismatch_8 : decode cJ7_mismatch 8 = .ok (.aload_n 0, 1) := dk_42 (dk_at dksJ7_mismatch_0 8 rfl rfl)
theorem dJ7_mismatch_9 : decode cJ7_mismatch 9 = .ok (.iconst 0, 1) := dk_3 (dk_at dksJ7_mismatch_0 9 rfl rfl)
theorem dJ7_mismatch_10 : decode cJ7_mismatch 10 = .ok (.baload, 1) := dk_51 (dk_at dksJ7_mismatch_0 10 rfl rfl)
theorem dJ7_mismatch_11 : decode cJ7_mismatch 11 = .ok (.aload_n 1, 1) := dk_43 (dk_at dksJ7_mismatch_0 11 rfl rfl)
theorem dJ7_mismatch_12 : decode cJ7_mismatch 12 = .ok (.iconst 0, 1) := dk_3 (dk_at dksJ7_mismatch_0 12 rfl rfl)
theorem dJ7_mismatch_13 : decode cJ7_mismatch 13 = .ok (.baload, 1) := dk_51 (dk_at dksJ7_mismatch_0 13 rfl rfl)
theorem dJ7_mismatch_14 : decode cJ7_mismatch 14 = .ok (.if_icmp .eq 5, 3) := dk_159 0 5 (dk_at dksJ7_mismatch_0 14 rfl rfl)
theorem dJ7_mismatch_17 : decode cJ7_mismatch 17 = .ok (.iconst 0, 1) := dk_3 (dk_at dksJ7_mismatch_0 17 rfl rfl)
theorem dJ7_mismatch_18 : decode cJ7_mismatch 18 = .ok (.ireturn, 1) := dk_172 (dk_at dksJ7_mismatch_0 18 rfl rfl)
theorem dJ7_mismatch_19 : decode cJ7_mismatch 19 = .ok (.aload_n 0, 1) := dk_42 (dk_at dksJ7_mismatch_0 19 rfl rfl)
theorem dJ7_mismatch_20 : decode cJ7_mismatch 20 = .ok (.getstatic 126, 3) := dk_178 0 126 (dk_at dksJ7_mismatch_0 20 rfl rfl)
theorem dJ7_mismatch_23 : decode cJ7_mismatch 23 = .ok (.i2l, 1) := dk_133 (dk_at dksJ7_mismatch_0 23 rfl rfl)
theorem dJ7_mismatch_24 : decode cJ7_mismatch 24 = .ok (.aload_n 1, 1) := dk_43 (dk_at dksJ7_mismatch_1 0 rfl rfl)
theorem dJ7_mismatch_25 : decode cJ7_mismatch 25 = .ok (.getstatic 126, 3) := dk_178 0 126 (dk_at dksJ7_mismatch_1 1 rfl rfl)
theorem dJ7_mismatch_28 : decode cJ7_mismatch 28 = .ok (.i2l, 1) := dk_133 (dk_at dksJ7_mismatch_1 4 rfl rfl)
theorem dJ7_mismatch_29 : decode cJ7_mismatch 29 = .ok (.iload_n 2, 1) := dk_28 (dk_at dksJ7_mismatch_1 5 rfl rfl)
theorem dJ7_mismatch_30 : decode cJ7_mismatch 30 = .ok (.getstatic 129, 3) := dk_178 0 129 (dk_at dksJ7_mismatch_1 6 rfl rfl)
theorem dJ7_mismatch_33 : decode cJ7_mismatch 33 = .ok (.invokestatic 122, 3) := dk_184 0 122 (dk_at dksJ7_mismatch_1 9 rfl rfl)
theorem dJ7_mismatch_36 : decode cJ7_mismatch 36 = .ok (.istore_n 3, 1) := dk_62 (dk_at dksJ7_mismatch_1 12 rfl rfl)
theorem dJ7_mismatch_37 : decode cJ7_mismatch 37 = .ok (.iload_n 3, 1) := dk_29 (dk_at dksJ7_mismatch_1 13 rfl rfl)
theorem dJ7_mismatch_38 : decode cJ7_mismatch 38 = .ok (.ifCond .lt 5, 3) := dk_155 0 5 (dk_at dksJ7_mismatch_1 14 rfl rfl)
theorem dJ7_mismatch_41 : decode cJ7_mismatch 41 = .ok (.iload_n 3, 1) := dk_29 (dk_at dksJ7_mismatch_1 17 rfl rfl)
theorem dJ7_mismatch_42 : decode cJ7_mismatch 42 = .ok (.ireturn, 1) := dk_172 (dk_at dksJ7_mismatch_1 18 rfl rfl)
theorem dJ7_mismatch_43 : decode cJ7_mismatch 43 = .ok (.iload_n 2, 1) := dk_28 (dk_at dksJ7_mismatch_1 19 rfl rfl)
theorem dJ7_mismatch_44 : decode cJ7_mismatch 44 = .ok (.iload_n 3, 1) := dk_29 (dk_at dksJ7_mismatch_1 20 rfl rfl)
theorem dJ7_mismatch_45 : decode cJ7_mismatch 45 = .ok (.iconst (-1), 1) := dk_2 (dk_at dksJ7_mismatch_1 21 rfl rfl)
theorem dJ7_mismatch_46 : decode cJ7_mismatch 46 = .ok (.ixor, 1) := dk_130 (dk_at dksJ7_mismatch_1 22 rfl rfl)
theorem dJ7_mismatch_47 : decode cJ7_mismatch 47 = .ok (.isub, 1) := dk_100 (dk_at dksJ7_mismatch_1 23 rfl rfl)
theorem dJ7_mismatch_48 : decode cJ7_mismatch 48 = .ok (.istore_n 3, 1) := dk_62 (dk_at dksJ7_mismatch_2 0 rfl rfl)
theorem dJ7_mismatch_49 : decode cJ7_mismatch 49 = .ok (.iload_n 3, 1) := dk_29 (dk_at dksJ7_mismatch_2 1 rfl rfl)
theorem dJ7_mismatch_50 : decode cJ7_mismatch 50 = .ok (.iload_n 2, 1) := dk_28 (dk_at dksJ7_mismatch_2 2 rfl rfl)
theorem dJ7_mismatch_51 : decode cJ7_mismatch 51 = .ok (.if_icmp .ge 20, 3) := dk_162 0 20 (dk_at dksJ7_mismatch_2 3 rfl rfl)
theorem dJ7_mismatch_54 : decode cJ7_mismatch 54 = .ok (.aload_n 0, 1) := dk_42 (dk_at dksJ7_mismatch_2 6 rfl rfl)
theorem dJ7_mismatch_55 : decode cJ7_mismatch 55 = .ok (.iload_n 3, 1) := dk_29 (dk_at dksJ7_mismatch_2 7 rfl rfl)
theorem dJ7_mismatch_56 : decode cJ7_mismatch 56 = .ok (.baload, 1) := dk_51 (dk_at dksJ7_mismatch_2 8 rfl rfl)
theorem dJ7_mismatch_57 : decode cJ7_mismatch 57 = .ok (.aload_n 1, 1) := dk_43 (dk_at dksJ7_mismatch_2 9 rfl rfl)
theorem dJ7_mismatch_58 : decode cJ7_mismatch 58 = .ok (.iload_n 3, 1) := dk_29 (dk_at dksJ7_mismatch_2 10 rfl rfl)
theorem dJ7_mismatch_59 : decode cJ7_mismatch 59 = .ok (.baload, 1) := dk_51 (dk_at dksJ7_mismatch_2 11 rfl rfl)
theorem dJ7_mismatch_60 : decode cJ7_mismatch 60 = .ok (.if_icmp .eq 5, 3) := dk_159 0 5 (dk_at dksJ7_mismatch_2 12 rfl rfl)
theorem dJ7_mismatch_63 : decode cJ7_mismatch 63 = .ok (.iload_n 3, 1) := dk_29 (dk_at dksJ7_mismatch_2 15 rfl rfl)
theorem dJ7_mismatch_64 : decode cJ7_mismatch 64 = .ok (.ireturn, 1) := dk_172 (dk_at dksJ7_mismatch_2 16 rfl rfl)
theorem dJ7_mismatch_65 : decode cJ7_mismatch 65 = .ok (.iinc 3 1, 3) := dk_132 3 1 (dk_at dksJ7_mismatch_2 17 rfl rfl)
theorem dJ7_mismatch_68 : decode cJ7_mismatch 68 = .ok (.goto (-19), 3) := dk_167 255 237 (dk_at dksJ7_mismatch_2 20 rfl rfl)
theorem dJ7_mismatch_71 : decode cJ7_mismatch 71 = .ok (.iconst (-1), 1) := dk_2 (dk_at dksJ7_mismatch_2 23 rfl rfl)
theorem dJ7_mismatch_72 : decode cJ7_mismatch 72 = .ok (.ireturn, 1) := dk_172 (dk_at dksJ7_mismatch_3 0 rfl rfl)
abbrev cJ7_vectorizedMismatch : ByteArray := prog_46_method_3_code
def yJ7_vectorizedMismatch : MethodName := ⟨RJ7, "vectorizedMismatch", "(Ljava/lang/Object;JLjava/lang/Object;JII)I"⟩
def dkwJ7_vectorizedMismatch_11 : List UInt8 := [54, 10, 21, 10, 2, 130, 172, 21, 10, 2, 130, 172]
abbrev dktJ7_vectorizedMismatch_11 : List UInt8 := dkwJ7_vectorizedMismatch_11 ++ []
def dkwJ7_vectorizedMismatch_10 : List UInt8 := [178, 0, 46, 21, 7, 96, 122, 54, 17, 21, 9, 21, 8, 120, 21, 17, 96, 172, 21, 10, 21, 11, 100]
abbrev dktJ7_vectorizedMismatch_10 : List UInt8 := dkwJ7_vectorizedMismatch_10 ++ dktJ7_vectorizedMismatch_11
def dkwJ7_vectorizedMismatch_9 : List UInt8 := [153, 0, 18, 21, 16, 184, 0, 58, 178, 0, 46, 21, 7, 96, 122, 167, 0, 15, 21, 16, 184, 0, 11]
abbrev dktJ7_vectorizedMismatch_9 : List UInt8 := dkwJ7_vectorizedMismatch_9 ++ dktJ7_vectorizedMismatch_10
def dkwJ7_vectorizedMismatch_8 : List UInt8 := [182, 0, 54, 54, 15, 21, 14, 21, 15, 159, 0, 54, 21, 14, 21, 15, 130, 54, 16, 178, 0, 36]
abbrev dktJ7_vectorizedMismatch_8 : List UInt8 := dkwJ7_vectorizedMismatch_8 ++ dktJ7_vectorizedMismatch_9
def dkwJ7_vectorizedMismatch_7 : List UInt8 := [55, 12, 178, 0, 26, 42, 31, 22, 12, 97, 182, 0, 54, 54, 14, 178, 0, 26, 45, 22, 4, 22, 12, 97]
abbrev dktJ7_vectorizedMismatch_7 : List UInt8 := dkwJ7_vectorizedMismatch_7 ++ dktJ7_vectorizedMismatch_8
def dkwJ7_vectorizedMismatch_6 : List UInt8 := [4, 178, 0, 51, 21, 7, 100, 120, 54, 11, 21, 10, 21, 11, 161, 0, 104, 21, 9, 133, 178, 0, 20, 121]
abbrev dktJ7_vectorizedMismatch_6 : List UInt8 := dkwJ7_vectorizedMismatch_6 ++ dktJ7_vectorizedMismatch_7
def dkwJ7_vectorizedMismatch_5 : List UInt8 := [132, 9, 1, 167, 255, 148, 21, 6, 21, 9, 21, 8, 120, 100, 54, 10, 21, 7, 178, 0, 51, 162, 0, 126]
abbrev dktJ7_vectorizedMismatch_5 : List UInt8 := dkwJ7_vectorizedMismatch_5 ++ dktJ7_vectorizedMismatch_6
def dkwJ7_vectorizedMismatch_4 : List UInt8 := [22, 16, 184, 0, 49, 178, 0, 46, 21, 7, 96, 122, 54, 18, 21, 9, 21, 8, 120, 21, 18, 96, 172]
abbrev dktJ7_vectorizedMismatch_4 : List UInt8 := dkwJ7_vectorizedMismatch_4 ++ dktJ7_vectorizedMismatch_5
def dkwJ7_vectorizedMismatch_3 : List UInt8 := [55, 16, 178, 0, 36, 153, 0, 18, 22, 16, 184, 0, 40, 178, 0, 46, 21, 7, 96, 122, 167, 0, 15]
abbrev dktJ7_vectorizedMismatch_3 : List UInt8 := dkwJ7_vectorizedMismatch_3 ++ dktJ7_vectorizedMismatch_4
def dkwJ7_vectorizedMismatch_2 : List UInt8 := [22, 4, 22, 10, 97, 182, 0, 30, 55, 14, 22, 12, 22, 14, 148, 153, 0, 54, 22, 12, 22, 14, 131]
abbrev dktJ7_vectorizedMismatch_2 : List UInt8 := dkwJ7_vectorizedMismatch_2 ++ dktJ7_vectorizedMismatch_3
def dkwJ7_vectorizedMismatch_1 : List UInt8 := [178, 0, 20, 121, 55, 10, 178, 0, 26, 42, 31, 22, 10, 97, 182, 0, 30, 55, 12, 178, 0, 26, 45]
abbrev dktJ7_vectorizedMismatch_1 : List UInt8 := dkwJ7_vectorizedMismatch_1 ++ dktJ7_vectorizedMismatch_2
def dkwJ7_vectorizedMismatch_0 : List UInt8 := [178, 0, 20, 21, 7, 100, 54, 8, 3, 54, 9, 21, 9, 21, 6, 21, 8, 122, 162, 0, 104, 21, 9, 133]
abbrev dktJ7_vectorizedMismatch_0 : List UInt8 := dkwJ7_vectorizedMismatch_0 ++ dktJ7_vectorizedMismatch_1
theorem dksJ7_vectorizedMismatch_0 : cJ7_vectorizedMismatch.data.toList.drop 0 = dktJ7_vectorizedMismatch_0 := by decide +kernel
theorem dksJ7_vectorizedMismatch_1 : cJ7_vectorizedMismatch.data.toList.drop 24 = dktJ7_vectorizedMismatch_1 := dk_seg dksJ7_vectorizedMismatch_0 24 rfl rfl
theorem dksJ7_vectorizedMismatch_2 : cJ7_vectorizedMismatch.data.toList.drop 47 = dktJ7_vectorizedMismatch_2 := dk_seg dksJ7_vectorizedMismatch_1 23 rfl rfl
theorem dksJ7_vectorizedMismatch_3 : cJ7_vectorizedMismatch.data.toList.drop 70 = dktJ7_vectorizedMismatch_3 := dk_seg dksJ7_vectorizedMismatch_2 23 rfl rfl
theorem dksJ7_vectorizedMismatch_4 : cJ7_vectorizedMismatch.data.toList.drop 93 = dktJ7_vectorizedMismatch_4 := dk_seg dksJ7_vectorizedMismatch_3 23 rfl rfl
theorem dksJ7_vectorizedMismatch_5 : cJ7_vectorizedMismatch.data.toList.drop 116 = dktJ7_vectorizedMismatch_5 := dk_seg dksJ7_vectorizedMismatch_4 23 rfl rfl
theorem dksJ7_vectorizedMismatch_6 : cJ7_vectorizedMismatch.data.toList.drop 140 = dktJ7_vectorizedMismatch_6 := dk_seg dksJ7_vectorizedMismatch_5 24 rfl rfl
theorem dksJ7_vectorizedMismatch_7 : cJ7_vectorizedMismatch.data.toList.drop 164 = dktJ7_vectorizedMismatch_7 := dk_seg dksJ7_vectorizedMismatch_6 24 rfl rfl
theorem dksJ7_vectorizedMismatch_8 : cJ7_vectorizedMismatch.data.toList.drop 188 = dktJ7_vectorizedMismatch_8 := dk_seg dksJ7_vectorizedMismatch_7 24 rfl rfl
theorem dksJ7_vectorizedMismatch_9 : cJ7_vectorizedMismatch.data.toList.drop 210 = dktJ7_vectorizedMismatch_9 := dk_seg dksJ7_vectorizedMismatch_8 22 rfl rfl
theorem dksJ7_vectorizedMismatch_10 : cJ7_vectorizedMismatch.data.toList.drop 233 = dktJ7_vectorizedMismatch_10 := dk_seg dksJ7_vectorizedMismatch_9 23 rfl rfl
theorem dksJ7_vectorizedMismatch_11 : cJ7_vectorizedMismatch.data.toList.drop 256 = dktJ7_vectorizedMismatch_11 := dk_seg dksJ7_vectorizedMismatch_10 23 rfl rfl
theorem dJ7_vectorizedMismatch_0 : decode cJ7_vectorizedMismatch 0 = .ok (.getstatic 20, 3) := dk_178 0 20 (dk_at dksJ7_vectorizedMismatch_0 0 rfl rfl)
theorem dJ7_vectorizedMismatch_3 : decode cJ7_vectorizedMismatch 3 = .ok (.iload 7, 2) := dk_21 7 (dk_at dksJ7_vectorizedMismatch_0 3 rfl rfl)
theorem dJ7_vectorizedMismatch_5 : decode cJ7_vectorizedMismatch 5 = .ok (.isub, 1) := dk_100 (dk_at dksJ7_vectorizedMismatch_0 5 rfl rfl)
theorem dJ7_vectorizedMismatch_6 : decode cJ7_vectorizedMismatch 6 = .ok (.istore 8, 2) := dk_54 8 (dk_at dksJ7_vectorizedMismatch_0 6 rfl rfl)
theorem dJ7_vectorizedMismatch_8 : decode cJ7_vectorizedMismatch 8 = .ok (.iconst 0, 1) := dk_3 (dk_at dksJ7_vectorizedMismatch_0 8 rfl rfl)
theorem dJ7_vectorizedMismatch_9 : decode cJ7_vectorizedMismatch 9 = .ok (.istore 9, 2) := dk_54 9 (dk_at dksJ7_vectorizedMismatch_0 9 rfl rfl)
theorem dJ7_vectorizedMismatch_11 : decode cJ7_vectorizedMismatch 11 = .ok (.iload 9, 2) := dk_21 9 (dk_at dksJ7_vectorizedMismatch_0 11 rfl rfl)
theorem dJ7_vectorizedMismatch_13 : decode cJ7_vectorizedMismatch 13 = .ok (.iload 6, 2) := dk_21 6 (dk_at dksJ7_vectorizedMismatch_0 13 rfl rfl)
theorem dJ7_vectorizedMismatch_15 : decode cJ7_vectorizedMismatch 15 = .ok (.iload 8, 2) := dk_21 8 (dk_at dksJ7_vectorizedMismatch_0 15 rfl rfl)
theorem dJ7_vectorizedMismatch_17 : decode cJ7_vectorizedMismatch 17 = .ok (.ishr, 1) := dk_122 (dk_at dksJ7_vectorizedMismatch_0 17 rfl rfl)
theorem dJ7_vectorizedMismatch_18 : decode cJ7_vectorizedMismatch 18 = .ok (.if_icmp .ge 104, 3) := dk_162 0 104 (dk_at dksJ7_vectorizedMismatch_0 18 rfl rfl)
theorem dJ7_vectorizedMismatch_21 : decode cJ7_vectorizedMismatch 21 = .ok (.iload 9, 2) := dk_21 9 (dk_at dksJ7_vectorizedMismatch_0 21 rfl rfl)
theorem dJ7_vectorizedMismatch_23 : decode cJ7_vectorizedMismatch 23 = .ok (.i2l, 1) := dk_133 (dk_at dksJ7_vectorizedMismatch_0 23 rfl rfl)
theorem dJ7_vectorizedMismatch_24 : decode cJ7_vectorizedMismatch 24 = .ok (.getstatic 20, 3) := dk_178 0 20 (dk_at dksJ7_vectorizedMismatch_1 0 rfl rfl)
theorem dJ7_vectorizedMismatch_27 : decode cJ7_vectorizedMismatch 27 = .ok (.lshl, 1) := dk_121 (dk_at dksJ7_vectorizedMismatch_1 3 rfl rfl)
theorem dJ7_vectorizedMismatch_28 : decode cJ7_vectorizedMismatch 28 = .ok (.lstore 10, 2) := dk_55 10 (dk_at dksJ7_vectorizedMismatch_1 4 rfl rfl)
theorem dJ7_vectorizedMismatch_30 : decode cJ7_vectorizedMismatch 30 = .ok (.getstatic 26, 3) := dk_178 0 26 (dk_at dksJ7_vectorizedMismatch_1 6 rfl rfl)
theorem dJ7_vectorizedMismatch_33 : decode cJ7_vectorizedMismatch 33 = .ok (.aload_n 0, 1) := dk_42 (dk_at dksJ7_vectorizedMismatch_1 9 rfl rfl)
theorem dJ7_vectorizedMismatch_34 : decode cJ7_vectorizedMismatch 34 = .ok (.lload_n 1, 1) := dk_31 (dk_at dksJ7_vectorizedMismatch_1 10 rfl rfl)
theorem dJ7_vectorizedMismatch_35 : decode cJ7_vectorizedMismatch 35 = .ok (.lload 10, 2) := dk_22 10 (dk_at dksJ7_vectorizedMismatch_1 11 rfl rfl)
theorem dJ7_vectorizedMismatch_37 : decode cJ7_vectorizedMismatch 37 = .ok (.ladd, 1) := dk_97 (dk_at dksJ7_vectorizedMismatch_1 13 rfl rfl)
theorem dJ7_vectorizedMismatch_38 : decode cJ7_vectorizedMismatch 38 = .ok (.invokevirtual 30, 3) := dk_182 0 30 (dk_at dksJ7_vectorizedMismatch_1 14 rfl rfl)
theorem dJ7_vectorizedMismatch_41 : decode cJ7_vectorizedMismatch 41 = .ok (.lstore 12, 2) := dk_55 12 (dk_at dksJ7_vectorizedMismatch_1 17 rfl rfl)
theorem dJ7_vectorizedMismatch_43 : decode cJ7_vectorizedMismatch 43 = .ok (.getstatic 26, 3) := dk_178 0 26 (dk_at dksJ7_vectorizedMismatch_1 19 rfl rfl)
theorem dJ7_vectorizedMismatch_46 : decode cJ7_vectorizedMismatch 46 = .ok (.aload_n 3, 1) := dk_45 (dk_at dksJ7_vectorizedMismatch_1 22 rfl rfl)
theorem dJ7_vectorizedMismatch_47 : decode cJ7_vectorizedMismatch 47 = .ok (.lload 4, 2) := dk_22 4 (dk_at dksJ7_vectorizedMismatch_2 0 rfl rfl)
theorem dJ7_vectorizedMismatch_49 : decode cJ7_vectorizedMismatch 49 = .ok (.lload 10, 2) := dk_22 10 (dk_at dksJ7_vectorizedMismatch_2 2 rfl rfl)
theorem dJ7_vectorizedMismatch_51 : decode cJ7_vectorizedMismatch 51 = .ok (.ladd, 1) := dk_97 (dk_at dksJ7_vectorizedMismatch_2 4 rfl rfl)
theorem dJ7_vectorizedMismatch_52 : decode cJ7_vectorizedMismatch 52 = .ok (.invokevirtual 30, 3) := dk_182 0 30 (dk_at dksJ7_vectorizedMismatch_2 5 rfl rfl)
theorem dJ7_vectorizedMismatch_55 : decode cJ7_vectorizedMismatch 55 = .ok (.lstore 14, 2) := dk_55 14 (dk_at dksJ7_vectorizedMismatch_2 8 rfl rfl)
theorem dJ7_vectorizedMismatch_57 : decode cJ7_vectorizedMismatch 57 = .ok (.lload 12, 2) := dk_22 12 (dk_at dksJ7_vectorizedMismatch_2 10 rfl rfl)
theorem dJ7_vectorizedMismatch_59 : decode cJ7_vectorizedMismatch 59 = .ok (.lload 14, 2) := dk_22 14 (dk_at dksJ7_vectorizedMismatch_2 12 rfl rfl)
theorem dJ7_vectorizedMismatch_61 : decode cJ7_vectorizedMismatch 61 = .ok (.lcmp, 1) := dk_148 (dk_at dksJ7_vectorizedMismatch_2 14 rfl rfl)
theorem dJ7_vectorizedMismatch_62 : decode cJ7_vectorizedMismatch 62 = .ok (.ifCond .eq 54, 3) := dk_153 0 54 (dk_at dksJ7_vectorizedMismatch_2 15 rfl rfl)
theorem dJ7_vectorizedMismatch_65 : decode cJ7_vectorizedMismatch 65 = .ok (.lload 12, 2) := dk_22 12 (dk_at dksJ7_vectorizedMismatch_2 18 rfl rfl)
theorem dJ7_vectorizedMismatch_67 : decode cJ7_vectorizedMismatch 67 = .ok (.lload 14, 2) := dk_22 14 (dk_at dksJ7_vectorizedMismatch_2 20 rfl rfl)
theorem dJ7_vectorizedMismatch_69 : decode cJ7_vectorizedMismatch 69 = .ok (.lxor, 1) := dk_131 (dk_at dksJ7_vectorizedMismatch_2 22 rfl rfl)
theorem dJ7_vectorizedMismatch_70 : decode cJ7_vectorizedMismatch 70 = .ok (.lstore 16, 2) := dk_55 16 (dk_at dksJ7_vectorizedMismatch_3 0 rfl rfl)
theorem dJ7_vectorizedMismatch_72 : decode cJ7_vectorizedMismatch 72 = .ok (.getstatic 36, 3) := dk_178 0 36 (dk_at dksJ7_vectorizedMismatch_3 2 rfl rfl)
theorem dJ7_vectorizedMismatch_75 : decode cJ7_vectorizedMismatch 75 = .ok (.ifCond .eq 18, 3) := dk_153 0 18 (dk_at dksJ7_vectorizedMismatch_3 5 rfl rfl)
theorem dJ7_vectorizedMismatch_78 : decode cJ7_vectorizedMismatch 78 = .ok (.lload 16, 2) := dk_22 16 (dk_at dksJ7_vectorizedMismatch_3 8 rfl rfl)
theorem dJ7_vectorizedMismatch_80 : decode cJ7_vectorizedMismatch 80 = .ok (.invokestatic 40, 3) := dk_184 0 40 (dk_at dksJ7_vectorizedMismatch_3 10 rfl rfl)
theorem dJ7_vectorizedMismatch_83 : decode cJ7_vectorizedMismatch 83 = .ok (.getstatic 46, 3) := dk_178 0 46 (dk_at dksJ7_vectorizedMismatch_3 13 rfl rfl)
theorem dJ7_vectorizedMismatch_86 : decode cJ7_vectorizedMismatch 86 = .ok (.iload 7, 2) := dk_21 7 (dk_at dksJ7_vectorizedMismatch_3 16 rfl rfl)
theorem dJ7_vectorizedMismatch_88 : decode cJ7_vectorizedMismatch 88 = .ok (.iadd, 1) := dk_96 (dk_at dksJ7_vectorizedMismatch_3 18 rfl rfl)
theorem dJ7_vectorizedMismatch_89 : decode cJ7_vectorizedMismatch 89 = .ok (.ishr, 1) := dk_122 (dk_at dksJ7_vectorizedMismatch_3 19 rfl rfl)
theorem dJ7_vectorizedMismatch_90 : decode cJ7_vectorizedMismatch 90 = .ok (.goto 15, 3) := dk_167 0 15 (dk_at dksJ7_vectorizedMismatch_3 20 rfl rfl)
theorem dJ7_vectorizedMismatch_93 : decode cJ7_vectorizedMismatch 93 = .ok (.lload 16, 2) := dk_22 16 (dk_at dksJ7_vectorizedMismatch_4 0 rfl rfl)
theorem dJ7_vectorizedMismatch_95 : decode cJ7_vectorizedMismatch 95 = .ok (.invokestatic 49, 3) := dk_184 0 49 (dk_at dksJ7_vectorizedMismatch_4 2 rfl rfl)
theorem dJ7_vectorizedMismatch_98 : decode cJ7_vectorizedMismatch 98 = .ok (.getstatic 46, 3) := dk_178 0 46 (dk_at dksJ7_vectorizedMismatch_4 5 rfl rfl)
theorem dJ7_vectorizedMismatch_101 : decode cJ7_vectorizedMismatch 101 = .ok (.iload 7, 2) := dk_21 7 (dk_at dksJ7_vectorizedMismatch_4 8 rfl rfl)
theorem dJ7_vectorizedMismatch_103 : decode cJ7_vectorizedMismatch 103 = .ok (.iadd, 1) := dk_96 (dk_at dksJ7_vectorizedMismatch_4 10 rfl rfl)
theorem dJ7_vectorizedMismatch_104 : decode cJ7_vectorizedMismatch 104 = .ok (.ishr, 1) := dk_122 (dk_at dksJ7_vectorizedMismatch_4 11 rfl rfl)
theorem dJ7_vectorizedMismatch_105 : decode cJ7_vectorizedMismatch 105 = .ok (.istore 18, 2) := dk_54 18 (dk_at dksJ7_vectorizedMismatch_4 12 rfl rfl)
theorem dJ7_vectorizedMismatch_107 : decode cJ7_vectorizedMismatch 107 = .ok (.iload 9, 2) := dk_21 9 (dk_at dksJ7_vectorizedMismatch_4 14 rfl rfl)
theorem dJ7_vectorizedMismatch_109 : decode cJ7_vectorizedMismatch 109 = .ok (.iload 8, 2) := dk_21 8 (dk_at dksJ7_vectorizedMismatch_4 16 rfl rfl)
theorem dJ7_vectorizedMismatch_111 : decode cJ7_vectorizedMismatch 111 = .ok (.ishl, 1) := dk_120 (dk_at dksJ7_vectorizedMismatch_4 18 rfl rfl)
theorem dJ7_vectorizedMismatch_112 : decode cJ7_vectorizedMismatch 112 = .ok (.iload 18, 2) := dk_21 18 (dk_at dksJ7_vectorizedMismatch_4 19 rfl rfl)
theorem dJ7_vectorizedMismatch_114 : decode cJ7_vectorizedMismatch 114 = .ok (.iadd, 1) := dk_96 (dk_at dksJ7_vectorizedMismatch_4 21 rfl rfl)
theorem dJ7_vectorizedMismatch_115 : decode cJ7_vectorizedMismatch 115 = .ok (.ireturn, 1) := dk_172 (dk_at dksJ7_vectorizedMismatch_4 22 rfl rfl)
theorem dJ7_vectorizedMismatch_116 : decode cJ7_vectorizedMismatch 116 = .ok (.iinc 9 1, 3) := dk_132 9 1 (dk_at dksJ7_vectorizedMismatch_5 0 rfl rfl)
theorem dJ7_vectorizedMismatch_119 : decode cJ7_vectorizedMismatch 119 = .ok (.goto (-108), 3) := dk_167 255 148 (dk_at dksJ7_vectorizedMismatch_5 3 rfl rfl)
theorem dJ7_vectorizedMismatch_122 : decode cJ7_vectorizedMismatch 122 = .ok (.iload 6, 2) := dk_21 6 (dk_at dksJ7_vectorizedMismatch_5 6 rfl rfl)
theorem dJ7_vectorizedMismatch_124 : decode cJ7_vectorizedMismatch 124 = .ok (.iload 9, 2) := dk_21 9 (dk_at dksJ7_vectorizedMismatch_5 8 rfl rfl)
theorem dJ7_vectorizedMismatch_126 : decode cJ7_vectorizedMismatch 126 = .ok (.iload 8, 2) := dk_21 8 (dk_at dksJ7_vectorizedMismatch_5 10 rfl rfl)
theorem dJ7_vectorizedMismatch_128 : decode cJ7_vectorizedMismatch 128 = .ok (.ishl, 1) := dk_120 (dk_at dksJ7_vectorizedMismatch_5 12 rfl rfl)
theorem dJ7_vectorizedMismatch_129 : decode cJ7_vectorizedMismatch 129 = .ok (.isub, 1) := dk_100 (dk_at dksJ7_vectorizedMismatch_5 13 rfl rfl)
theorem dJ7_vectorizedMismatch_130 : decode cJ7_vectorizedMismatch 130 = .ok (.istore 10, 2) := dk_54 10 (dk_at dksJ7_vectorizedMismatch_5 14 rfl rfl)
theorem dJ7_vectorizedMismatch_132 : decode cJ7_vectorizedMismatch 132 = .ok (.iload 7, 2) := dk_21 7 (dk_at dksJ7_vectorizedMismatch_5 16 rfl rfl)
theorem dJ7_vectorizedMismatch_134 : decode cJ7_vectorizedMismatch 134 = .ok (.getstatic 51, 3) := dk_178 0 51 (dk_at dksJ7_vectorizedMismatch_5 18 rfl rfl)
theorem dJ7_vectorizedMismatch_137 : decode cJ7_vectorizedMismatch 137 = .ok (.if_icmp .ge 126, 3) := dk_162 0 126 (dk_at dksJ7_vectorizedMismatch_5 21 rfl rfl)
theorem dJ7_vectorizedMismatch_140 : decode cJ7_vectorizedMismatch 140 = .ok (.iconst 1, 1) := dk_4 (dk_at dksJ7_vectorizedMismatch_6 0 rfl rfl)
theorem dJ7_vectorizedMismatch_141 : decode cJ7_vectorizedMismatch 141 = .ok (.getstatic 51, 3) := dk_178 0 51 (dk_at dksJ7_vectorizedMismatch_6 1 rfl rfl)
theorem dJ7_vectorizedMismatch_144 : decode cJ7_vectorizedMismatch 144 = .ok (.iload 7, 2) := dk_21 7 (dk_at dksJ7_vectorizedMismatch_6 4 rfl rfl)
theorem dJ7_vectorizedMismatch_146 : decode cJ7_vectorizedMismatch 146 = .ok (.isub, 1) := dk_100 (dk_at dksJ7_vectorizedMismatch_6 6 rfl rfl)
theorem dJ7_vectorizedMismatch_147 : decode cJ7_vectorizedMismatch 147 = .ok (.ishl, 1) := dk_120 (dk_at dksJ7_vectorizedMismatch_6 7 rfl rfl)
theorem dJ7_vectorizedMismatch_148 : decode cJ7_vectorizedMismatch 148 = .ok (.istore 11, 2) := dk_54 11 (dk_at dksJ7_vectorizedMismatch_6 8 rfl rfl)
theorem dJ7_vectorizedMismatch_150 : decode cJ7_vectorizedMismatch 150 = .ok (.iload 10, 2) := dk_21 10 (dk_at dksJ7_vectorizedMismatch_6 10 rfl rfl)
theorem dJ7_vectorizedMismatch_152 : decode cJ7_vectorizedMismatch 152 = .ok (.iload 11, 2) := dk_21 11 (dk_at dksJ7_vectorizedMismatch_6 12 rfl rfl)
theorem dJ7_vectorizedMismatch_154 : decode cJ7_vectorizedMismatch 154 = .ok (.if_icmp .lt 104, 3) := dk_161 0 104 (dk_at dksJ7_vectorizedMismatch_6 14 rfl rfl)
theorem dJ7_vectorizedMismatch_157 : decode cJ7_vectorizedMismatch 157 = .ok (.iload 9, 2) := dk_21 9 (dk_at dksJ7_vectorizedMismatch_6 17 rfl rfl)
theorem dJ7_vectorizedMismatch_159 : decode cJ7_vectorizedMismatch 159 = .ok (.i2l, 1) := dk_133 (dk_at dksJ7_vectorizedMismatch_6 19 rfl rfl)
theorem dJ7_vectorizedMismatch_160 : decode cJ7_vectorizedMismatch 160 = .ok (.getstatic 20, 3) := dk_178 0 20 (dk_at dksJ7_vectorizedMismatch_6 20 rfl rfl)
theorem dJ7_vectorizedMismatch_163 : decode cJ7_vectorizedMismatch 163 = .ok (.lshl, 1) := dk_121 (dk_at dksJ7_vectorizedMismatch_6 23 rfl rfl)
theorem dJ7_vectorizedMismatch_164 : decode cJ7_vectorizedMismatch 164 = .ok (.lstore 12, 2) := dk_55 12 (dk_at dksJ7_vectorizedMismatch_7 0 rfl rfl)
theorem dJ7_vectorizedMismatch_166 : decode cJ7_vectorizedMismatch 166 = .ok (.getstatic 26, 3) := dk_178 0 26 (dk_at dksJ7_vectorizedMismatch_7 2 rfl rfl)
theorem dJ7_vectorizedMismatch_169 : decode cJ7_vectorizedMismatch 169 = .ok (.aload_n 0, 1) := dk_42 (dk_at dksJ7_vectorizedMismatch_7 5 rfl rfl)
theorem dJ7_vectorizedMismatch_170 : decode cJ7_vectorizedMismatch 170 = .ok (.lload_n 1, 1) := dk_31 (dk_at dksJ7_vectorizedMismatch_7 6 rfl rfl)
theorem dJ7_vectorizedMismatch_171 : decode cJ7_vectorizedMismatch 171 = .ok (.lload 12, 2) := dk_22 12 (dk_at dksJ7_vectorizedMismatch_7 7 rfl rfl)
theorem dJ7_vectorizedMismatch_173 : decode cJ7_vectorizedMismatch 173 = .ok (.ladd, 1) := dk_97 (dk_at dksJ7_vectorizedMismatch_7 9 rfl rfl)
theorem dJ7_vectorizedMismatch_174 : decode cJ7_vectorizedMismatch 174 = .ok (.invokevirtual 54, 3) := dk_182 0 54 (dk_at dksJ7_vectorizedMismatch_7 10 rfl rfl)
theorem dJ7_vectorizedMismatch_177 : decode cJ7_vectorizedMismatch 177 = .ok (.istore 14, 2) := dk_54 14 (dk_at dksJ7_vectorizedMismatch_7 13 rfl rfl)
theorem dJ7_vectorizedMismatch_179 : decode cJ7_vectorizedMismatch 179 = .ok (.getstatic 26, 3) := dk_178 0 26 (dk_at dksJ7_vectorizedMismatch_7 15 rfl rfl)
theorem dJ7_vectorizedMismatch_182 : decode cJ7_vectorizedMismatch 182 = .ok (.aload_n 3, 1) := dk_45 (dk_at dksJ7_vectorizedMismatch_7 18 rfl rfl)
theorem dJ7_vectorizedMismatch_183 : decode cJ7_vectorizedMismatch 183 = .ok (.lload 4, 2) := dk_22 4 (dk_at dksJ7_vectorizedMismatch_7 19 rfl rfl)
theorem dJ7_vectorizedMismatch_185 : decode cJ7_vectorizedMismatch 185 = .ok (.lload 12, 2) := dk_22 12 (dk_at dksJ7_vectorizedMismatch_7 21 rfl rfl)
theorem dJ7_vectorizedMismatch_187 : decode cJ7_vectorizedMismatch 187 = .ok (.ladd, 1) := dk_97 (dk_at dksJ7_vectorizedMismatch_7 23 rfl rfl)
theorem dJ7_vectorizedMismatch_188 : decode cJ7_vectorizedMismatch 188 = .ok (.invokevirtual 54, 3) := dk_182 0 54 (dk_at dksJ7_vectorizedMismatch_8 0 rfl rfl)
theorem dJ7_vectorizedMismatch_191 : decode cJ7_vectorizedMismatch 191 = .ok (.istore 15, 2) := dk_54 15 (dk_at dksJ7_vectorizedMismatch_8 3 rfl rfl)
theorem dJ7_vectorizedMismatch_193 : decode cJ7_vectorizedMismatch 193 = .ok (.iload 14, 2) := dk_21 14 (dk_at dksJ7_vectorizedMismatch_8 5 rfl rfl)
theorem dJ7_vectorizedMismatch_195 : decode cJ7_vectorizedMismatch 195 = .ok (.iload 15, 2) := dk_21 15 (dk_at dksJ7_vectorizedMismatch_8 7 rfl rfl)
theorem dJ7_vectorizedMismatch_197 : decode cJ7_vectorizedMismatch 197 = .ok (.if_icmp .eq 54, 3) := dk_159 0 54 (dk_at dksJ7_vectorizedMismatch_8 9 rfl rfl)
theorem dJ7_vectorizedMismatch_200 : decode cJ7_vectorizedMismatch 200 = .ok (.iload 14, 2) := dk_21 14 (dk_at dksJ7_vectorizedMismatch_8 12 rfl rfl)
theorem dJ7_vectorizedMismatch_202 : decode cJ7_vectorizedMismatch 202 = .ok (.iload 15, 2) := dk_21 15 (dk_at dksJ7_vectorizedMismatch_8 14 rfl rfl)
theorem dJ7_vectorizedMismatch_204 : decode cJ7_vectorizedMismatch 204 = .ok (.ixor, 1) := dk_130 (dk_at dksJ7_vectorizedMismatch_8 16 rfl rfl)
theorem dJ7_vectorizedMismatch_205 : decode cJ7_vectorizedMismatch 205 = .ok (.istore 16, 2) := dk_54 16 (dk_at dksJ7_vectorizedMismatch_8 17 rfl rfl)
theorem dJ7_vectorizedMismatch_207 : decode cJ7_vectorizedMismatch 207 = .ok (.getstatic 36, 3) := dk_178 0 36 (dk_at dksJ7_vectorizedMismatch_8 19 rfl rfl)
theorem dJ7_vectorizedMismatch_210 : decode cJ7_vectorizedMismatch 210 = .ok (.ifCond .eq 18, 3) := dk_153 0 18 (dk_at dksJ7_vectorizedMismatch_9 0 rfl rfl)
theorem dJ7_vectorizedMismatch_213 : decode cJ7_vectorizedMismatch 213 = .ok (.iload 16, 2) := dk_21 16 (dk_at dksJ7_vectorizedMismatch_9 3 rfl rfl)
theorem dJ7_vectorizedMismatch_215 : decode cJ7_vectorizedMismatch 215 = .ok (.invokestatic 58, 3) := dk_184 0 58 (dk_at dksJ7_vectorizedMismatch_9 5 rfl rfl)
theorem dJ7_vectorizedMismatch_218 : decode cJ7_vectorizedMismatch 218 = .ok (.getstatic 46, 3) := dk_178 0 46 (dk_at dksJ7_vectorizedMismatch_9 8 rfl rfl)
theorem dJ7_vectorizedMismatch_221 : decode cJ7_vectorizedMismatch 221 = .ok (.iload 7, 2) := dk_21 7 (dk_at dksJ7_vectorizedMismatch_9 11 rfl rfl)
theorem dJ7_vectorizedMismatch_223 : decode cJ7_vectorizedMismatch 223 = .ok (.iadd, 1) := dk_96 (dk_at dksJ7_vectorizedMismatch_9 13 rfl rfl)
theorem dJ7_vectorizedMismatch_224 : decode cJ7_vectorizedMismatch 224 = .ok (.ishr, 1) := dk_122 (dk_at dksJ7_vectorizedMismatch_9 14 rfl rfl)
theorem dJ7_vectorizedMismatch_225 : decode cJ7_vectorizedMismatch 225 = .ok (.goto 15, 3) := dk_167 0 15 (dk_at dksJ7_vectorizedMismatch_9 15 rfl rfl)
theorem dJ7_vectorizedMismatch_228 : decode cJ7_vectorizedMismatch 228 = .ok (.iload 16, 2) := dk_21 16 (dk_at dksJ7_vectorizedMismatch_9 18 rfl rfl)
theorem dJ7_vectorizedMismatch_230 : decode cJ7_vectorizedMismatch 230 = .ok (.invokestatic 11, 3) := dk_184 0 11 (dk_at dksJ7_vectorizedMismatch_9 20 rfl rfl)
theorem dJ7_vectorizedMismatch_233 : decode cJ7_vectorizedMismatch 233 = .ok (.getstatic 46, 3) := dk_178 0 46 (dk_at dksJ7_vectorizedMismatch_10 0 rfl rfl)
theorem dJ7_vectorizedMismatch_236 : decode cJ7_vectorizedMismatch 236 = .ok (.iload 7, 2) := dk_21 7 (dk_at dksJ7_vectorizedMismatch_10 3 rfl rfl)
theorem dJ7_vectorizedMismatch_238 : decode cJ7_vectorizedMismatch 238 = .ok (.iadd, 1) := dk_96 (dk_at dksJ7_vectorizedMismatch_10 5 rfl rfl)
theorem dJ7_vectorizedMismatch_239 : decode cJ7_vectorizedMismatch 239 = .ok (.ishr, 1) := dk_122 (dk_at dksJ7_vectorizedMismatch_10 6 rfl rfl)
theorem dJ7_vectorizedMismatch_240 : decode cJ7_vectorizedMismatch 240 = .ok (.istore 17, 2) := dk_54 17 (dk_at dksJ7_vectorizedMismatch_10 7 rfl rfl)
theorem dJ7_vectorizedMismatch_242 : decode cJ7_vectorizedMismatch 242 = .ok (.iload 9, 2) := dk_21 9 (dk_at dksJ7_vectorizedMismatch_10 9 rfl rfl)
theorem dJ7_vectorizedMismatch_244 : decode cJ7_vectorizedMismatch 244 = .ok (.iload 8, 2) := dk_21 8 (dk_at dksJ7_vectorizedMismatch_10 11 rfl rfl)
theorem dJ7_vectorizedMismatch_246 : decode cJ7_vectorizedMismatch 246 = .ok (.ishl, 1) := dk_120 (dk_at dksJ7_vectorizedMismatch_10 13 rfl rfl)
theorem dJ7_vectorizedMismatch_247 : decode cJ7_vectorizedMismatch 247 = .ok (.iload 17, 2) := dk_21 17 (dk_at dksJ7_vectorizedMismatch_10 14 rfl rfl)
theorem dJ7_vectorizedMismatch_249 : decode cJ7_vectorizedMismatch 249 = .ok (.iadd, 1) := dk_96 (dk_at dksJ7_vectorizedMismatch_10 16 rfl rfl)
theorem dJ7_vectorizedMismatch_250 : decode cJ7_vectorizedMismatch 250 = .ok (.ireturn, 1) := dk_172 (dk_at dksJ7_vectorizedMismatch_10 17 rfl rfl)
theorem dJ7_vectorizedMismatch_251 : decode cJ7_vectorizedMismatch 251 = .ok (.iload 10, 2) := dk_21 10 (dk_at dksJ7_vectorizedMismatch_10 18 rfl rfl)
theorem dJ7_vectorizedMismatch_253 : decode cJ7_vectorizedMismatch 253 = .ok (.iload 11, 2) := dk_21 11 (dk_at dksJ7_vectorizedMismatch_10 20 rfl rfl)
theorem dJ7_vectorizedMismatch_255 : decode cJ7_vectorizedMismatch 255 = .ok (.isub, 1) := dk_100 (dk_at dksJ7_vectorizedMismatch_10 22 rfl rfl)
theorem dJ7_vectorizedMismatch_256 : decode cJ7_vectorizedMismatch 256 = .ok (.istore 10, 2) := dk_54 10 (dk_at dksJ7_vectorizedMismatch_11 0 rfl rfl)
theorem dJ7_vectorizedMismatch_258 : decode cJ7_vectorizedMismatch 258 = .ok (.iload 10, 2) := dk_21 10 (dk_at dksJ7_vectorizedMismatch_11 2 rfl rfl)
theorem dJ7_vectorizedMismatch_260 : decode cJ7_vectorizedMismatch 260 = .ok (.iconst (-1), 1) := dk_2 (dk_at dksJ7_vectorizedMismatch_11 4 rfl rfl)
theorem dJ7_vectorizedMismatch_261 : decode cJ7_vectorizedMismatch 261 = .ok (.ixor, 1) := dk_130 (dk_at dksJ7_vectorizedMismatch_11 5 rfl rfl)
theorem dJ7_vectorizedMismatch_262 : decode cJ7_vectorizedMismatch 262 = .ok (.ireturn, 1) := dk_172 (dk_at dksJ7_vectorizedMismatch_11 6 rfl rfl)
theorem dJ7_vectorizedMismatch_263 : decode cJ7_vectorizedMismatch 263 = .ok (.iload 10, 2) := dk_21 10 (dk_at dksJ7_vectorizedMismatch_11 7 rfl rfl)
theorem dJ7_vectorizedMismatch_265 : decode cJ7_vectorizedMismatch 265 = .ok (.iconst (-1), 1) := dk_2 (dk_at dksJ7_vectorizedMismatch_11 9 rfl rfl)
theorem dJ7_vectorizedMismatch_266 : decode cJ7_vectorizedMismatch 266 = .ok (.ixor, 1) := dk_130 (dk_at dksJ7_vectorizedMismatch_11 10 rfl rfl)
theorem dJ7_vectorizedMismatch_267 : decode cJ7_vectorizedMismatch 267 = .ok (.ireturn, 1) := dk_172 (dk_at dksJ7_vectorizedMismatch_11 11 rfl rfl)
abbrev cJ7_mismatch_2 : ByteArray := prog_46_method_14_code
def yJ7_mismatch_2 : MethodName := ⟨RJ7, "mismatch", "([BI[BII)I"⟩
def dkwJ7_mismatch_2_4 : List UInt8 := [132, 5, 1, 167, 255, 228, 2, 172]
abbrev dktJ7_mismatch_2_4 : List UInt8 := dkwJ7_mismatch_2_4 ++ []
def dkwJ7_mismatch_2_3 : List UInt8 := [21, 4, 162, 0, 27, 42, 27, 21, 5, 96, 51, 44, 29, 21, 5, 96, 51, 159, 0, 6, 21, 5, 172]
abbrev dktJ7_mismatch_2_3 : List UInt8 := dkwJ7_mismatch_2_3 ++ dktJ7_mismatch_2_4
def dkwJ7_mismatch_2_2 : List UInt8 := [184, 0, 122, 54, 5, 21, 5, 155, 0, 6, 21, 5, 172, 21, 4, 21, 5, 2, 130, 100, 54, 5, 21, 5]
abbrev dktJ7_mismatch_2_2 : List UInt8 := dkwJ7_mismatch_2_2 ++ dktJ7_mismatch_2_3
def dkwJ7_mismatch_2_1 : List UInt8 := [27, 96, 54, 6, 178, 0, 126, 29, 96, 54, 7, 42, 21, 6, 133, 44, 21, 7, 133, 21, 4, 178, 0, 129]
abbrev dktJ7_mismatch_2_1 : List UInt8 := dkwJ7_mismatch_2_1 ++ dktJ7_mismatch_2_2
def dkwJ7_mismatch_2_0 : List UInt8 := [3, 54, 5, 21, 4, 16, 7, 164, 0, 63, 42, 27, 51, 44, 29, 51, 159, 0, 5, 3, 172, 178, 0, 126]
abbrev dktJ7_mismatch_2_0 : List UInt8 := dkwJ7_mismatch_2_0 ++ dktJ7_mismatch_2_1
theorem dksJ7_mismatch_2_0 : cJ7_mismatch_2.data.toList.drop 0 = dktJ7_mismatch_2_0 := by decide +kernel
theorem dksJ7_mismatch_2_1 : cJ7_mismatch_2.data.toList.drop 24 = dktJ7_mismatch_2_1 := dk_seg dksJ7_mismatch_2_0 24 rfl rfl
theorem dksJ7_mismatch_2_2 : cJ7_mismatch_2.data.toList.drop 48 = dktJ7_mismatch_2_2 := dk_seg dksJ7_mismatch_2_1 24 rfl rfl
theorem dksJ7_mismatch_2_3 : cJ7_mismatch_2.data.toList.drop 72 = dktJ7_mismatch_2_3 := dk_seg dksJ7_mismatch_2_2 24 rfl rfl
theorem dksJ7_mismatch_2_4 : cJ7_mismatch_2.data.toList.drop 95 = dktJ7_mismatch_2_4 := dk_seg dksJ7_mismatch_2_3 23 rfl rfl
theorem dJ7_mismatch_2_0 : decode cJ7_mismatch_2 0 = .ok (.iconst 0, 1) := dk_3 (dk_at dksJ7_mismatch_2_0 0 rfl rfl)
theorem dJ7_mismatch_2_1 : decode cJ7_mismatch_2 1 = .ok (.istore 5, 2) := dk_54 5 (dk_at dksJ7_mismatch_2_0 1 rfl rfl)
theorem dJ7_mismatch_2_3 : decode cJ7_mismatch_2 3 = .ok (.iload 4, 2) := dk_21 4 (dk_at dksJ7_mismatch_2_0 3 rfl rfl)
theorem dJ7_mismatch_2_5 : decode cJ7_mismatch_2 5 = .ok (.bipush 7, 2) := dk_16 7 (dk_at dksJ7_mismatch_2_0 5 rfl rfl)
theorem dJ7_mismatch_2_7 : decode cJ7_mismatch_2 7 = .ok (.if_icmp .le 63, 3) := dk_164 0 63 (dk_at dksJ7_mismatch_2_0 7 rfl rfl)
theorem dJ7_mismatch_2_10 : decode cJ7_mismatch_2 10 = .ok (.aload_n 0, 1) := dk_42 (dk_at dksJ7_mismatch_2_0 10 rfl rfl)
theorem dJ7_mismatch_2_11 : decode cJ7_mismatch_2 11 = .ok (.iload_n 1, 1) := dk_27 (dk_at dksJ7_mismatch_2_0 11 rfl rfl)
theorem dJ7_mismatch_2_12 : decode cJ7_mismatch_2 12 = .ok (.baload, 1) := dk_51 (dk_at dksJ7_mismatch_2_0 12 rfl rfl)
theorem dJ7_mismatch_2_13 : decode cJ7_mismatch_2 13 = .ok (.aload_n 2, 1) := dk_44 (dk_at dksJ7_mismatch_2_0 13 rfl rfl)
theorem dJ7_mismatch_2_14 : decode cJ7_mismatch_2 14 = .ok (.iload_n 3, 1) := dk_29 (dk_at dksJ7_mismatch_2_0 14 rfl rfl)
theorem dJ7_mismatch_2_15 : decode cJ7_mismatch_2 15 = .ok (.baload, 1) := dk_51 (dk_at dksJ7_mismatch_2_0 15 rfl rfl)
theorem dJ7_mismatch_2_16 : decode cJ7_mismatch_2 16 = .ok (.if_icmp .eq 5, 3) := dk_159 0 5 (dk_at dksJ7_mismatch_2_0 16 rfl rfl)
theorem dJ7_mismatch_2_19 : decode cJ7_mismatch_2 19 = .ok (.iconst 0, 1) := dk_3 (dk_at dksJ7_mismatch_2_0 19 rfl rfl)
theorem dJ7_mismatch_2_20 : decode cJ7_mismatch_2 20 = .ok (.ireturn, 1) := dk_172 (dk_at dksJ7_mismatch_2_0 20 rfl rfl)
theorem dJ7_mismatch_2_21 : decode cJ7_mismatch_2 21 = .ok (.getstatic 126, 3) := dk_178 0 126 (dk_at dksJ7_mismatch_2_0 21 rfl rfl)
theorem dJ7_mismatch_2_24 : decode cJ7_mismatch_2 24 = .ok (.iload_n 1, 1) := dk_27 (dk_at dksJ7_mismatch_2_1 0 rfl rfl)
theorem dJ7_mismatch_2_25 : decode cJ7_mismatch_2 25 = .ok (.iadd, 1) := dk_96 (dk_at dksJ7_mismatch_2_1 1 rfl rfl)
theorem dJ7_mismatch_2_26 : decode cJ7_mismatch_2 26 = .ok (.istore 6, 2) := dk_54 6 (dk_at dksJ7_mismatch_2_1 2 rfl rfl)
theorem dJ7_mismatch_2_28 : decode cJ7_mismatch_2 28 = .ok (.getstatic 126, 3) := dk_178 0 126 (dk_at dksJ7_mismatch_2_1 4 rfl rfl)
theorem dJ7_mismatch_2_31 : decode cJ7_mismatch_2 31 = .ok (.iload_n 3, 1) := dk_29 (dk_at dksJ7_mismatch_2_1 7 rfl rfl)
theorem dJ7_mismatch_2_32 : decode cJ7_mismatch_2 32 = .ok (.iadd, 1) := dk_96 (dk_at dksJ7_mismatch_2_1 8 rfl rfl)
theorem dJ7_mismatch_2_33 : decode cJ7_mismatch_2 33 = .ok (.istore 7, 2) := dk_54 7 (dk_at dksJ7_mismatch_2_1 9 rfl rfl)
theorem dJ7_mismatch_2_35 : decode cJ7_mismatch_2 35 = .ok (.aload_n 0, 1) := dk_42 (dk_at dksJ7_mismatch_2_1 11 rfl rfl)
theorem dJ7_mismatch_2_36 : decode cJ7_mismatch_2 36 = .ok (.iload 6, 2) := dk_21 6 (dk_at dksJ7_mismatch_2_1 12 rfl rfl)
theorem dJ7_mismatch_2_38 : decode cJ7_mismatch_2 38 = .ok (.i2l, 1) := dk_133 (dk_at dksJ7_mismatch_2_1 14 rfl rfl)
theorem dJ7_mismatch_2_39 : decode cJ7_mismatch_2 39 = .ok (.aload_n 2, 1) := dk_44 (dk_at dksJ7_mismatch_2_1 15 rfl rfl)
theorem dJ7_mismatch_2_40 : decode cJ7_mismatch_2 40 = .ok (.iload 7, 2) := dk_21 7 (dk_at dksJ7_mismatch_2_1 16 rfl rfl)
theorem dJ7_mismatch_2_42 : decode cJ7_mismatch_2 42 = .ok (.i2l, 1) := dk_133 (dk_at dksJ7_mismatch_2_1 18 rfl rfl)
theorem dJ7_mismatch_2_43 : decode cJ7_mismatch_2 43 = .ok (.iload 4, 2) := dk_21 4 (dk_at dksJ7_mismatch_2_1 19 rfl rfl)
theorem dJ7_mismatch_2_45 : decode cJ7_mismatch_2 45 = .ok (.getstatic 129, 3) := dk_178 0 129 (dk_at dksJ7_mismatch_2_1 21 rfl rfl)
theorem dJ7_mismatch_2_48 : decode cJ7_mismatch_2 48 = .ok (.invokestatic 122, 3) := dk_184 0 122 (dk_at dksJ7_mismatch_2_2 0 rfl rfl)
theorem dJ7_mismatch_2_51 : decode cJ7_mismatch_2 51 = .ok (.istore 5, 2) := dk_54 5 (dk_at dksJ7_mismatch_2_2 3 rfl rfl)
theorem dJ7_mismatch_2_53 : decode cJ7_mismatch_2 53 = .ok (.iload 5, 2) := dk_21 5 (dk_at dksJ7_mismatch_2_2 5 rfl rfl)
theorem dJ7_mismatch_2_55 : decode cJ7_mismatch_2 55 = .ok (.ifCond .lt 6, 3) := dk_155 0 6 (dk_at dksJ7_mismatch_2_2 7 rfl rfl)
theorem dJ7_mismatch_2_58 : decode cJ7_mismatch_2 58 = .ok (.iload 5, 2) := dk_21 5 (dk_at dksJ7_mismatch_2_2 10 rfl rfl)
theorem dJ7_mismatch_2_60 : decode cJ7_mismatch_2 60 = .ok (.ireturn, 1) := dk_172 (dk_at dksJ7_mismatch_2_2 12 rfl rfl)
theorem dJ7_mismatch_2_61 : decode cJ7_mismatch_2 61 = .ok (.iload 4, 2) := dk_21 4 (dk_at dksJ7_mismatch_2_2 13 rfl rfl)
theorem dJ7_mismatch_2_63 : decode cJ7_mismatch_2 63 = .ok (.iload 5, 2) := dk_21 5 (dk_at dksJ7_mismatch_2_2 15 rfl rfl)
theorem dJ7_mismatch_2_65 : decode cJ7_mismatch_2 65 = .ok (.iconst (-1), 1) := dk_2 (dk_at dksJ7_mismatch_2_2 17 rfl rfl)
theorem dJ7_mismatch_2_66 : decode cJ7_mismatch_2 66 = .ok (.ixor, 1) := dk_130 (dk_at dksJ7_mismatch_2_2 18 rfl rfl)
theorem dJ7_mismatch_2_67 : decode cJ7_mismatch_2 67 = .ok (.isub, 1) := dk_100 (dk_at dksJ7_mismatch_2_2 19 rfl rfl)
theorem dJ7_mismatch_2_68 : decode cJ7_mismatch_2 68 = .ok (.istore 5, 2) := dk_54 5 (dk_at dksJ7_mismatch_2_2 20 rfl rfl)
theorem dJ7_mismatch_2_70 : decode cJ7_mismatch_2 70 = .ok (.iload 5, 2) := dk_21 5 (dk_at dksJ7_mismatch_2_2 22 rfl rfl)
theorem dJ7_mismatch_2_72 : decode cJ7_mismatch_2 72 = .ok (.iload 4, 2) := dk_21 4 (dk_at dksJ7_mismatch_2_3 0 rfl rfl)
theorem dJ7_mismatch_2_74 : decode cJ7_mismatch_2 74 = .ok (.if_icmp .ge 27, 3) := dk_162 0 27 (dk_at dksJ7_mismatch_2_3 2 rfl rfl)
theorem dJ7_mismatch_2_77 : decode cJ7_mismatch_2 77 = .ok (.aload_n 0, 1) := dk_42 (dk_at dksJ7_mismatch_2_3 5 rfl rfl)
theorem dJ7_mismatch_2_78 : decode cJ7_mismatch_2 78 = .ok (.iload_n 1, 1) := dk_27 (dk_at dksJ7_mismatch_2_3 6 rfl rfl)
theorem dJ7_mismatch_2_79 : decode cJ7_mismatch_2 79 = .ok (.iload 5, 2) := dk_21 5 (dk_at dksJ7_mismatch_2_3 7 rfl rfl)
theorem dJ7_mismatch_2_81 : decode cJ7_mismatch_2 81 = .ok (.iadd, 1) := dk_96 (dk_at dksJ7_mismatch_2_3 9 rfl rfl)
theorem dJ7_mismatch_2_82 : decode cJ7_mismatch_2 82 = .ok (.baload, 1) := dk_51 (dk_at dksJ7_mismatch_2_3 10 rfl rfl)
theorem dJ7_mismatch_2_83 : decode cJ7_mismatch_2 83 = .ok (.aload_n 2, 1) := dk_44 (dk_at dksJ7_mismatch_2_3 11 rfl rfl)
theorem dJ7_mismatch_2_84 : decode cJ7_mismatch_2 84 = .ok (.iload_n 3, 1) := dk_29 (dk_at dksJ7_mismatch_2_3 12 rfl rfl)
theorem dJ7_mismatch_2_85 : decode cJ7_mismatch_2 85 = .ok (.iload 5, 2) := dk_21 5 (dk_at dksJ7_mismatch_2_3 13 rfl rfl)
theorem dJ7_mismatch_2_87 : decode cJ7_mismatch_2 87 = .ok (.iadd, 1) := dk_96 (dk_at dksJ7_mismatch_2_3 15 rfl rfl)
theorem dJ7_mismatch_2_88 : decode cJ7_mismatch_2 88 = .ok (.baload, 1) := dk_51 (dk_at dksJ7_mismatch_2_3 16 rfl rfl)
theorem dJ7_mismatch_2_89 : decode cJ7_mismatch_2 89 = .ok (.if_icmp .eq 6, 3) := dk_159 0 6 (dk_at dksJ7_mismatch_2_3 17 rfl rfl)
theorem dJ7_mismatch_2_92 : decode cJ7_mismatch_2 92 = .ok (.iload 5, 2) := dk_21 5 (dk_at dksJ7_mismatch_2_3 20 rfl rfl)
theorem dJ7_mismatch_2_94 : decode cJ7_mismatch_2 94 = .ok (.ireturn, 1) := dk_172 (dk_at dksJ7_mismatch_2_3 22 rfl rfl)
theorem dJ7_mismatch_2_95 : decode cJ7_mismatch_2 95 = .ok (.iinc 5 1, 3) := dk_132 5 1 (dk_at dksJ7_mismatch_2_4 0 rfl rfl)
theorem dJ7_mismatch_2_98 : decode cJ7_mismatch_2 98 = .ok (.goto (-28), 3) := dk_167 255 228 (dk_at dksJ7_mismatch_2_4 3 rfl rfl)
theorem dJ7_mismatch_2_101 : decode cJ7_mismatch_2 101 = .ok (.iconst (-1), 1) := dk_2 (dk_at dksJ7_mismatch_2_4 6 rfl rfl)
theorem dJ7_mismatch_2_102 : decode cJ7_mismatch_2 102 = .ok (.ireturn, 1) := dk_172 (dk_at dksJ7_mismatch_2_4 7 rfl rfl)
theorem q46 : (Jvm.Cond.initialized "jdk/internal/util/ArraysSupport") ∈ lw_all := lw_g (lw_at lw_m1 11 rfl) rfl
theorem q211 : (Jvm.Cond.static ({ cls := "jdk/internal/util/ArraysSupport", name := "newLength", desc := "(III)I" } : Jvm.MethodName)) ∈ lw_all := lw_g (lw_at lw_m1 176 rfl) rfl
theorem q212 : (Jvm.Cond.code ({ cls := "jdk/internal/util/ArraysSupport", name := "newLength", desc := "(III)I" } : Jvm.MethodName) prog_46_method_27_code (4 : Nat) (Option.some Jvm.ClassFile.FieldType.int)) ∈ lw_all := lw_g (lw_at lw_m1 177 rfl) rfl
theorem q213 : (Jvm.Cond.methodLink "jdk/internal/util/ArraysSupport" (194 : Nat) ({ cls := "java/lang/Math", name := "max", desc := "(II)I" } : Jvm.MethodName)) ∈ lw_all := lw_g (lw_at lw_m1 178 rfl) rfl
theorem q216 : (Jvm.Cond.constant "jdk/internal/util/ArraysSupport" (200 : Nat) (2147483639 : Int32)) ∈ lw_all := lw_g (lw_at lw_m1 181 rfl) rfl
theorem q217 : (Jvm.Cond.methodLink "jdk/internal/util/ArraysSupport" (201 : Nat) ({ cls := "jdk/internal/util/ArraysSupport", name := "hugeLength", desc := "(II)I" } : Jvm.MethodName)) ∈ lw_all := lw_g (lw_at lw_m1 182 rfl) rfl
theorem q218 : (Jvm.Cond.static ({ cls := "jdk/internal/util/ArraysSupport", name := "hugeLength", desc := "(II)I" } : Jvm.MethodName)) ∈ lw_all := lw_g (lw_at lw_m1 183 rfl) rfl
theorem q219 : (Jvm.Cond.code ({ cls := "jdk/internal/util/ArraysSupport", name := "hugeLength", desc := "(II)I" } : Jvm.MethodName) prog_46_method_28_code (3 : Nat) (Option.some Jvm.ClassFile.FieldType.int)) ∈ lw_all := lw_g (lw_at lw_m1 184 rfl) rfl
theorem q657 : (Jvm.Cond.static ({ cls := "jdk/internal/util/ArraysSupport", name := "mismatch", desc := "([B[BI)I" } : Jvm.MethodName)) ∈ lw_all := lw_g (lw_at lw_m3 142 rfl) rfl
theorem q658 : (Jvm.Cond.code ({ cls := "jdk/internal/util/ArraysSupport", name := "mismatch", desc := "([B[BI)I" } : Jvm.MethodName) prog_46_method_13_code (4 : Nat) (Option.some Jvm.ClassFile.FieldType.int)) ∈ lw_all := lw_g (lw_at lw_m3 143 rfl) rfl
theorem q659 : (Jvm.Cond.fieldLink "jdk/internal/util/ArraysSupport" (126 : Nat) "jdk/internal/misc/Unsafe" "ARRAY_BYTE_BASE_OFFSET" "I") ∈ lw_all := lw_g (lw_at lw_m3 144 rfl) rfl
theorem q661 : (Jvm.Cond.fieldLink "jdk/internal/util/ArraysSupport" (129 : Nat) "jdk/internal/util/ArraysSupport" "LOG2_ARRAY_BYTE_INDEX_SCALE" "I") ∈ lw_all := lw_g (lw_at lw_m3 146 rfl) rfl
theorem q662 : (Jvm.Cond.laysStatic "jdk/internal/util/ArraysSupport" "LOG2_ARRAY_BYTE_INDEX_SCALE" "I") ∈ lw_tbl := lw_at lw_m3 147 rfl
theorem q663 : (Jvm.Cond.methodLink "jdk/internal/util/ArraysSupport" (122 : Nat) ({ cls := "jdk/internal/util/ArraysSupport", name := "vectorizedMismatch", desc := "(Ljava/lang/Object;JLjava/lang/Object;JII)I" } : Jvm.MethodName)) ∈ lw_all := lw_g (lw_at lw_m3 148 rfl) rfl
theorem q664 : (Jvm.Cond.static ({ cls := "jdk/internal/util/ArraysSupport", name := "vectorizedMismatch", desc := "(Ljava/lang/Object;JLjava/lang/Object;JII)I" } : Jvm.MethodName)) ∈ lw_all := lw_g (lw_at lw_m3 149 rfl) rfl
theorem q665 : (Jvm.Cond.code ({ cls := "jdk/internal/util/ArraysSupport", name := "vectorizedMismatch", desc := "(Ljava/lang/Object;JLjava/lang/Object;JII)I" } : Jvm.MethodName) prog_46_method_3_code (19 : Nat) (Option.some Jvm.ClassFile.FieldType.int)) ∈ lw_all := lw_g (lw_at lw_m3 150 rfl) rfl
theorem q666 : (Jvm.Cond.fieldLink "jdk/internal/util/ArraysSupport" (20 : Nat) "jdk/internal/util/ArraysSupport" "LOG2_ARRAY_LONG_INDEX_SCALE" "I") ∈ lw_all := lw_g (lw_at lw_m3 151 rfl) rfl
theorem q667 : (Jvm.Cond.laysStatic "jdk/internal/util/ArraysSupport" "LOG2_ARRAY_LONG_INDEX_SCALE" "I") ∈ lw_tbl := lw_at lw_m3 152 rfl
theorem q668 : (Jvm.Cond.fieldLink "jdk/internal/util/ArraysSupport" (26 : Nat) "jdk/internal/util/ArraysSupport" "U" "Ljdk/internal/misc/Unsafe;") ∈ lw_all := lw_g (lw_at lw_m3 153 rfl) rfl
theorem q669 : (Jvm.Cond.laysStatic "jdk/internal/util/ArraysSupport" "U" "Ljdk/internal/misc/Unsafe;") ∈ lw_tbl := lw_at lw_m3 154 rfl
theorem q670 : (Jvm.Cond.methodLink "jdk/internal/util/ArraysSupport" (30 : Nat) ({ cls := "jdk/internal/misc/Unsafe", name := "getLongUnaligned", desc := "(Ljava/lang/Object;J)J" } : Jvm.MethodName)) ∈ lw_all := lw_g (lw_at lw_m3 155 rfl) rfl
theorem q722 : (Jvm.Cond.fieldLink "jdk/internal/util/ArraysSupport" (36 : Nat) "jdk/internal/util/ArraysSupport" "BIG_ENDIAN" "Z") ∈ lw_all := lw_g (lw_at lw_m3 207 rfl) rfl
theorem q723 : (Jvm.Cond.laysStatic "jdk/internal/util/ArraysSupport" "BIG_ENDIAN" "Z") ∈ lw_tbl := lw_at lw_m3 208 rfl
theorem q724 : (Jvm.Cond.methodLink "jdk/internal/util/ArraysSupport" (40 : Nat) ({ cls := "java/lang/Long", name := "numberOfLeadingZeros", desc := "(J)I" } : Jvm.MethodName)) ∈ lw_all := lw_g (lw_at lw_m3 209 rfl) rfl
theorem q731 : (Jvm.Cond.fieldLink "jdk/internal/util/ArraysSupport" (46 : Nat) "jdk/internal/util/ArraysSupport" "LOG2_BYTE_BIT_SIZE" "I") ∈ lw_all := lw_g (lw_at lw_m3 216 rfl) rfl
theorem q732 : (Jvm.Cond.laysStatic "jdk/internal/util/ArraysSupport" "LOG2_BYTE_BIT_SIZE" "I") ∈ lw_tbl := lw_at lw_m3 217 rfl
theorem q733 : (Jvm.Cond.methodLink "jdk/internal/util/ArraysSupport" (49 : Nat) ({ cls := "java/lang/Long", name := "numberOfTrailingZeros", desc := "(J)I" } : Jvm.MethodName)) ∈ lw_all := lw_g (lw_at lw_m3 218 rfl) rfl
theorem q739 : (Jvm.Cond.fieldLink "jdk/internal/util/ArraysSupport" (51 : Nat) "jdk/internal/util/ArraysSupport" "LOG2_ARRAY_INT_INDEX_SCALE" "I") ∈ lw_all := lw_g (lw_at lw_m3 224 rfl) rfl
theorem q740 : (Jvm.Cond.laysStatic "jdk/internal/util/ArraysSupport" "LOG2_ARRAY_INT_INDEX_SCALE" "I") ∈ lw_tbl := lw_at lw_m3 225 rfl
theorem q741 : (Jvm.Cond.methodLink "jdk/internal/util/ArraysSupport" (54 : Nat) ({ cls := "jdk/internal/misc/Unsafe", name := "getIntUnaligned", desc := "(Ljava/lang/Object;J)I" } : Jvm.MethodName)) ∈ lw_all := lw_g (lw_at lw_m3 226 rfl) rfl
theorem q758 : (Jvm.Cond.methodLink "jdk/internal/util/ArraysSupport" (58 : Nat) ({ cls := "java/lang/Integer", name := "numberOfLeadingZeros", desc := "(I)I" } : Jvm.MethodName)) ∈ lw_all := lw_g (lw_at lw_m4 3 rfl) rfl
theorem q759 : (Jvm.Cond.methodLink "jdk/internal/util/ArraysSupport" (11 : Nat) ({ cls := "java/lang/Integer", name := "numberOfTrailingZeros", desc := "(I)I" } : Jvm.MethodName)) ∈ lw_all := lw_g (lw_at lw_m4 4 rfl) rfl
theorem q996 : (Jvm.Cond.static ({ cls := "jdk/internal/util/ArraysSupport", name := "mismatch", desc := "([BI[BII)I" } : Jvm.MethodName)) ∈ lw_all := lw_g (lw_at lw_m5 1 rfl) rfl
theorem q997 : (Jvm.Cond.code ({ cls := "jdk/internal/util/ArraysSupport", name := "mismatch", desc := "([BI[BII)I" } : Jvm.MethodName) prog_46_method_14_code (8 : Nat) (Option.some Jvm.ClassFile.FieldType.int)) ∈ lw_all := lw_g (lw_at lw_m5 2 rfl) rfl

/-! java/lang/Math -/
set_option maxRecDepth 100000
def RJ8 : String := "java/lang/Math"
abbrev cJ8_max : ByteArray := prog_22_method_65_code
def yJ8_max : MethodName := ⟨RJ8, "max", "(II)I"⟩
def dkwJ8_max_0 : List UInt8 := [26, 27, 161, 0, 7, 26, 167, 0, 4, 27, 172]
abbrev dktJ8_max_0 : List UInt8 := dkwJ8_max_0 ++ []
theorem dksJ8_max_0 : cJ8_max.data.toList.drop 0 = dktJ8_max_0 := by decide +kernel
theorem dJ8_max_0 : decode cJ8_max 0 = .ok (.iload_n 0, 1) := dk_26 (dk_at dksJ8_max_0 0 rfl rfl)
theorem dJ8_max_1 : decode cJ8_max 1 = .ok (.iload_n 1, 1) := dk_27 (dk_at dksJ8_max_0 1 rfl rfl)
theorem dJ8_max_2 : decode cJ8_max 2 = .ok (.if_icmp .lt 7, 3) := dk_161 0 7 (dk_at dksJ8_max_0 2 rfl rfl)
theorem dJ8_max_5 : decode cJ8_max 5 = .ok (.iload_n 0, 1) := dk_26 (dk_at dksJ8_max_0 5 rfl rfl)
theorem dJ8_max_6 : decode cJ8_max 6 = .ok (.goto 4, 3) := dk_167 0 4 (dk_at dksJ8_max_0 6 rfl rfl)
theorem dJ8_max_9 : decode cJ8_max 9 = .ok (.iload_n 1, 1) := dk_27 (dk_at dksJ8_max_0 9 rfl rfl)
theorem dJ8_max_10 : decode cJ8_max 10 = .ok (.ireturn, 1) := dk_172 (dk_at dksJ8_max_0 10 rfl rfl)
abbrev cJ8_min : ByteArray := prog_22_method_69_code
def yJ8_min : MethodName := ⟨RJ8, "min", "(II)I"⟩
def dkwJ8_min_0 : List UInt8 := [26, 27, 163, 0, 7, 26, 167, 0, 4, 27, 172]
abbrev dktJ8_min_0 : List UInt8 := dkwJ8_min_0 ++ []
theorem dksJ8_min_0 : cJ8_min.data.toList.drop 0 = dktJ8_min_0 := by decide +kernel
theorem dJ8_min_0 : decode cJ8_min 0 = .ok (.iload_n 0, 1) := dk_26 (dk_at dksJ8_min_0 0 rfl rfl)
theorem dJ8_min_1 : decode cJ8_min 1 = .ok (.iload_n 1, 1) := dk_27 (dk_at dksJ8_min_0 1 rfl rfl)
theorem dJ8_min_2 : decode cJ8_min 2 = .ok (.if_icmp .gt 7, 3) := dk_163 0 7 (dk_at dksJ8_min_0 2 rfl rfl)
theorem dJ8_min_5 : decode cJ8_min 5 = .ok (.iload_n 0, 1) := dk_26 (dk_at dksJ8_min_0 5 rfl rfl)
theorem dJ8_min_6 : decode cJ8_min 6 = .ok (.goto 4, 3) := dk_167 0 4 (dk_at dksJ8_min_0 6 rfl rfl)
theorem dJ8_min_9 : decode cJ8_min 9 = .ok (.iload_n 1, 1) := dk_27 (dk_at dksJ8_min_0 9 rfl rfl)
theorem dJ8_min_10 : decode cJ8_min 10 = .ok (.ireturn, 1) := dk_172 (dk_at dksJ8_min_0 10 rfl rfl)
theorem q47 : (Jvm.Cond.initialized "java/lang/Math") ∈ lw_all := lw_g (lw_at lw_m1 12 rfl) rfl
theorem q214 : (Jvm.Cond.static ({ cls := "java/lang/Math", name := "max", desc := "(II)I" } : Jvm.MethodName)) ∈ lw_all := lw_g (lw_at lw_m1 179 rfl) rfl
theorem q215 : (Jvm.Cond.code ({ cls := "java/lang/Math", name := "max", desc := "(II)I" } : Jvm.MethodName) prog_22_method_65_code (2 : Nat) (Option.some Jvm.ClassFile.FieldType.int)) ∈ lw_all := lw_g (lw_at lw_m1 180 rfl) rfl
theorem q249 : (Jvm.Cond.static ({ cls := "java/lang/Math", name := "min", desc := "(II)I" } : Jvm.MethodName)) ∈ lw_all := lw_g (lw_at lw_m1 214 rfl) rfl
theorem q250 : (Jvm.Cond.code ({ cls := "java/lang/Math", name := "min", desc := "(II)I" } : Jvm.MethodName) prog_22_method_69_code (2 : Nat) (Option.some Jvm.ClassFile.FieldType.int)) ∈ lw_all := lw_g (lw_at lw_m1 215 rfl) rfl

/-! java/util/Arrays -/
set_option maxRecDepth 100000
def RJ9 : String := "java/util/Arrays"
abbrev cJ9_copyOf : ByteArray := prog_38_method_119_code
def yJ9_copyOf : MethodName := ⟨RJ9, "copyOf", "([Ljava/lang/Object;I)[Ljava/lang/Object;"⟩
def dkwJ9_copyOf_0 : List UInt8 := [42, 27, 42, 182, 0, 86, 184, 1, 44, 176]
abbrev dktJ9_copyOf_0 : List UInt8 := dkwJ9_copyOf_0 ++ []
theorem dksJ9_copyOf_0 : cJ9_copyOf.data.toList.drop 0 = dktJ9_copyOf_0 := by decide +kernel
theorem dJ9_copyOf_0 : decode cJ9_copyOf 0 = .ok (.aload_n 0, 1) := dk_42 (dk_at dksJ9_copyOf_0 0 rfl rfl)
theorem dJ9_copyOf_1 : decode cJ9_copyOf 1 = .ok (.iload_n 1, 1) := dk_27 (dk_at dksJ9_copyOf_0 1 rfl rfl)
theorem dJ9_copyOf_2 : decode cJ9_copyOf 2 = .ok (.aload_n 0, 1) := dk_42 (dk_at dksJ9_copyOf_0 2 rfl rfl)
theorem dJ9_copyOf_3 : decode cJ9_copyOf 3 = .ok (.invokevirtual 86, 3) := dk_182 0 86 (dk_at dksJ9_copyOf_0 3 rfl rfl)
theorem dJ9_copyOf_6 : decode cJ9_copyOf 6 = .ok (.invokestatic 300, 3) := dk_184 1 44 (dk_at dksJ9_copyOf_0 6 rfl rfl)
theorem dJ9_copyOf_9 : decode cJ9_copyOf 9 = .ok (.areturn, 1) := dk_176 (dk_at dksJ9_copyOf_0 9 rfl rfl)
abbrev cJ9_copyOf_2 : ByteArray := prog_38_method_120_code
def yJ9_copyOf_2 : MethodName := ⟨RJ9, "copyOf", "([Ljava/lang/Object;ILjava/lang/Class;)[Ljava/lang/Object;"⟩
def dkwJ9_copyOf_2_1 : List UInt8 := [78, 42, 3, 45, 3, 42, 190, 27, 184, 1, 48, 184, 0, 150, 45, 176]
abbrev dktJ9_copyOf_2_1 : List UInt8 := dkwJ9_copyOf_2_1 ++ []
def dkwJ9_copyOf_2_0 : List UInt8 := [44, 18, 110, 166, 0, 10, 27, 189, 0, 2, 167, 0, 14, 44, 182, 0, 90, 27, 184, 0, 95, 192, 0, 110]
abbrev dktJ9_copyOf_2_0 : List UInt8 := dkwJ9_copyOf_2_0 ++ dktJ9_copyOf_2_1
theorem dksJ9_copyOf_2_0 : cJ9_copyOf_2.data.toList.drop 0 = dktJ9_copyOf_2_0 := by decide +kernel
theorem dksJ9_copyOf_2_1 : cJ9_copyOf_2.data.toList.drop 24 = dktJ9_copyOf_2_1 := dk_seg dksJ9_copyOf_2_0 24 rfl rfl
theorem dJ9_copyOf_2_0 : decode cJ9_copyOf_2 0 = .ok (.aload_n 2, 1) := dk_44 (dk_at dksJ9_copyOf_2_0 0 rfl rfl)
theorem dJ9_copyOf_2_1 : decode cJ9_copyOf_2 1 = .ok (.ldc 110, 2) := dk_18 110 (dk_at dksJ9_copyOf_2_0 1 rfl rfl)
theorem dJ9_copyOf_2_3 : decode cJ9_copyOf_2 3 = .ok (.if_acmp .ne 10, 3) := dk_166 0 10 (dk_at dksJ9_copyOf_2_0 3 rfl rfl)
theorem dJ9_copyOf_2_6 : decode cJ9_copyOf_2 6 = .ok (.iload_n 1, 1) := dk_27 (dk_at dksJ9_copyOf_2_0 6 rfl rfl)
theorem dJ9_copyOf_2_7 : decode cJ9_copyOf_2 7 = .ok (.anewarray 2, 3) := dk_189 0 2 (dk_at dksJ9_copyOf_2_0 7 rfl rfl)
theorem dJ9_copyOf_2_10 : decode cJ9_copyOf_2 10 = .ok (.goto 14, 3) := dk_167 0 14 (dk_at dksJ9_copyOf_2_0 10 rfl rfl)
theorem dJ9_copyOf_2_13 : decode cJ9_copyOf_2 13 = .ok (.aload_n 2, 1) := dk_44 (dk_at dksJ9_copyOf_2_0 13 rfl rfl)
theorem dJ9_copyOf_2_14 : decode cJ9_copyOf_2 14 = .ok (.invokevirtual 90, 3) := dk_182 0 90 (dk_at dksJ9_copyOf_2_0 14 rfl rfl)
theorem dJ9_copyOf_2_17 : decode cJ9_copyOf_2 17 = .ok (.iload_n 1, 1) := dk_27 (dk_at dksJ9_copyOf_2_0 17 rfl rfl)
theorem dJ9_copyOf_2_18 : decode cJ9_copyOf_2 18 = .ok (.invokestatic 95, 3) := dk_184 0 95 (dk_at dksJ9_copyOf_2_0 18 rfl rfl)
theorem dJ9_copyOf_2_21 : decode cJ9_copyOf_2 21 = .ok (.checkcast 110, 3) := dk_192 0 110 (dk_at dksJ9_copyOf_2_0 21 rfl rfl)
theorem dJ9_copyOf_2_24 : decode cJ9_copyOf_2 24 = .ok (.astore_n 3, 1) := dk_78 (dk_at dksJ9_copyOf_2_1 0 rfl rfl)
theorem dJ9_copyOf_2_25 : decode cJ9_copyOf_2 25 = .ok (.aload_n 0, 1) := dk_42 (dk_at dksJ9_copyOf_2_1 1 rfl rfl)
theorem dJ9_copyOf_2_26 : decode cJ9_copyOf_2 26 = .ok (.iconst 0, 1) := dk_3 (dk_at dksJ9_copyOf_2_1 2 rfl rfl)
theorem dJ9_copyOf_2_27 : decode cJ9_copyOf_2 27 = .ok (.aload_n 3, 1) := dk_45 (dk_at dksJ9_copyOf_2_1 3 rfl rfl)
theorem dJ9_copyOf_2_28 : decode cJ9_copyOf_2 28 = .ok (.iconst 0, 1) := dk_3 (dk_at dksJ9_copyOf_2_1 4 rfl rfl)
theorem dJ9_copyOf_2_29 : decode cJ9_copyOf_2 29 = .ok (.aload_n 0, 1) := dk_42 (dk_at dksJ9_copyOf_2_1 5 rfl rfl)
theorem dJ9_copyOf_2_30 : decode cJ9_copyOf_2 30 = .ok (.arraylength, 1) := dk_190 (dk_at dksJ9_copyOf_2_1 6 rfl rfl)
theorem dJ9_copyOf_2_31 : decode cJ9_copyOf_2 31 = .ok (.iload_n 1, 1) := dk_27 (dk_at dksJ9_copyOf_2_1 7 rfl rfl)
theorem dJ9_copyOf_2_32 : decode cJ9_copyOf_2 32 = .ok (.invokestatic 304, 3) := dk_184 1 48 (dk_at dksJ9_copyOf_2_1 8 rfl rfl)
theorem dJ9_copyOf_2_35 : decode cJ9_copyOf_2 35 = .ok (.invokestatic 150, 3) := dk_184 0 150 (dk_at dksJ9_copyOf_2_1 11 rfl rfl)
theorem dJ9_copyOf_2_38 : decode cJ9_copyOf_2 38 = .ok (.aload_n 3, 1) := dk_45 (dk_at dksJ9_copyOf_2_1 14 rfl rfl)
theorem dJ9_copyOf_2_39 : decode cJ9_copyOf_2 39 = .ok (.areturn, 1) := dk_176 (dk_at dksJ9_copyOf_2_1 15 rfl rfl)
abbrev cJ9_copyOf_3 : ByteArray := prog_38_method_121_code
def yJ9_copyOf_3 : MethodName := ⟨RJ9, "copyOf", "([BI)[B"⟩
def dkwJ9_copyOf_3_1 : List UInt8 := [27, 184, 1, 48, 184, 0, 150, 44, 176]
abbrev dktJ9_copyOf_3_1 : List UInt8 := dkwJ9_copyOf_3_1 ++ []
def dkwJ9_copyOf_3_0 : List UInt8 := [27, 42, 190, 160, 0, 11, 42, 182, 1, 54, 192, 1, 55, 176, 27, 188, 8, 77, 42, 3, 44, 3, 42, 190]
abbrev dktJ9_copyOf_3_0 : List UInt8 := dkwJ9_copyOf_3_0 ++ dktJ9_copyOf_3_1
theorem dksJ9_copyOf_3_0 : cJ9_copyOf_3.data.toList.drop 0 = dktJ9_copyOf_3_0 := by decide +kernel
theorem dksJ9_copyOf_3_1 : cJ9_copyOf_3.data.toList.drop 24 = dktJ9_copyOf_3_1 := dk_seg dksJ9_copyOf_3_0 24 rfl rfl
theorem dJ9_copyOf_3_0 : decode cJ9_copyOf_3 0 = .ok (.iload_n 1, 1) := dk_27 (dk_at dksJ9_copyOf_3_0 0 rfl rfl)
theorem dJ9_copyOf_3_1 : decode cJ9_copyOf_3 1 = .ok (.aload_n 0, 1) := dk_42 (dk_at dksJ9_copyOf_3_0 1 rfl rfl)
theorem dJ9_copyOf_3_2 : decode cJ9_copyOf_3 2 = .ok (.arraylength, 1) := dk_190 (dk_at dksJ9_copyOf_3_0 2 rfl rfl)
theorem dJ9_copyOf_3_3 : decode cJ9_copyOf_3 3 = .ok (.if_icmp .ne 11, 3) := dk_160 0 11 (dk_at dksJ9_copyOf_3_0 3 rfl rfl)
theorem dJ9_copyOf_3_6 : decode cJ9_copyOf_3 6 = .ok (.aload_n 0, 1) := dk_42 (dk_at dksJ9_copyOf_3_0 6 rfl rfl)
theorem dJ9_copyOf_3_7 : decode cJ9_copyOf_3 7 = .ok (.invokevirtual 310, 3) := dk_182 1 54 (dk_at dksJ9_copyOf_3_0 7 rfl rfl)
theorem dJ9_copyOf_3_10 : decode cJ9_copyOf_3 10 = .ok (.checkcast 311, 3) := dk_192 1 55 (dk_at dksJ9_copyOf_3_0 10 rfl rfl)
theorem dJ9_copyOf_3_13 : decode cJ9_copyOf_3 13 = .ok (.areturn, 1) := dk_176 (dk_at dksJ9_copyOf_3_0 13 rfl rfl)
theorem dJ9_copyOf_3_14 : decode cJ9_copyOf_3 14 = .ok (.iload_n 1, 1) := dk_27 (dk_at dksJ9_copyOf_3_0 14 rfl rfl)
theorem dJ9_copyOf_3_15 : decode cJ9_copyOf_3 15 = .ok (.newarray .byte, 2) := dk_188_8 (dk_at dksJ9_copyOf_3_0 15 rfl rfl)
theorem dJ9_copyOf_3_17 : decode cJ9_copyOf_3 17 = .ok (.astore_n 2, 1) := dk_77 (dk_at dksJ9_copyOf_3_0 17 rfl rfl)
theorem dJ9_copyOf_3_18 : decode cJ9_copyOf_3 18 = .ok (.aload_n 0, 1) := dk_42 (dk_at dksJ9_copyOf_3_0 18 rfl rfl)
theorem dJ9_copyOf_3_19 : decode cJ9_copyOf_3 19 = .ok (.iconst 0, 1) := dk_3 (dk_at dksJ9_copyOf_3_0 19 rfl rfl)
theorem dJ9_copyOf_3_20 : decode cJ9_copyOf_3 20 = .ok (.aload_n 2, 1) := dk_44 (dk_at dksJ9_copyOf_3_0 20 rfl rfl)
theorem dJ9_copyOf_3_21 : decode cJ9_copyOf_3 21 = .ok (.iconst 0, 1) := dk_3 (dk_at dksJ9_copyOf_3_0 21 rfl rfl)
theorem dJ9_copyOf_3_22 : decode cJ9_copyOf_3 22 = .ok (.aload_n 0, 1) := dk_42 (dk_at dksJ9_copyOf_3_0 22 rfl rfl)
theorem dJ9_copyOf_3_23 : decode cJ9_copyOf_3 23 = .ok (.arraylength, 1) := dk_190 (dk_at dksJ9_copyOf_3_0 23 rfl rfl)
theorem dJ9_copyOf_3_24 : decode cJ9_copyOf_3 24 = .ok (.iload_n 1, 1) := dk_27 (dk_at dksJ9_copyOf_3_1 0 rfl rfl)
theorem dJ9_copyOf_3_25 : decode cJ9_copyOf_3 25 = .ok (.invokestatic 304, 3) := dk_184 1 48 (dk_at dksJ9_copyOf_3_1 1 rfl rfl)
theorem dJ9_copyOf_3_28 : decode cJ9_copyOf_3 28 = .ok (.invokestatic 150, 3) := dk_184 0 150 (dk_at dksJ9_copyOf_3_1 4 rfl rfl)
theorem dJ9_copyOf_3_31 : decode cJ9_copyOf_3 31 = .ok (.aload_n 2, 1) := dk_44 (dk_at dksJ9_copyOf_3_1 7 rfl rfl)
theorem dJ9_copyOf_3_32 : decode cJ9_copyOf_3 32 = .ok (.areturn, 1) := dk_176 (dk_at dksJ9_copyOf_3_1 8 rfl rfl)
abbrev cJ9_copyOfRange : ByteArray := prog_38_method_132_code
def yJ9_copyOfRange : MethodName := ⟨RJ9, "copyOfRange", "([BII)[B"⟩
def dkwJ9_copyOfRange_1 : List UInt8 := [176]
abbrev dktJ9_copyOfRange_1 : List UInt8 := dkwJ9_copyOfRange_1 ++ []
def dkwJ9_copyOfRange_0 : List UInt8 := [27, 154, 0, 9, 28, 42, 190, 159, 0, 10, 42, 27, 28, 184, 1, 83, 176, 42, 182, 1, 54, 192, 1, 55]
abbrev dktJ9_copyOfRange_0 : List UInt8 := dkwJ9_copyOfRange_0 ++ dktJ9_copyOfRange_1
theorem dksJ9_copyOfRange_0 : cJ9_copyOfRange.data.toList.drop 0 = dktJ9_copyOfRange_0 := by decide +kernel
theorem dksJ9_copyOfRange_1 : cJ9_copyOfRange.data.toList.drop 24 = dktJ9_copyOfRange_1 := dk_seg dksJ9_copyOfRange_0 24 rfl rfl
theorem dJ9_copyOfRange_0 : decode cJ9_copyOfRange 0 = .ok (.iload_n 1, 1) := dk_27 (dk_at dksJ9_copyOfRange_0 0 rfl rfl)
theorem dJ9_copyOfRange_1 : decode cJ9_copyOfRange 1 = .ok (.ifCond .ne 9, 3) := dk_154 0 9 (dk_at dksJ9_copyOfRange_0 1 rfl rfl)
theorem dJ9_copyOfRange_4 : decode cJ9_copyOfRange 4 = .ok (.iload_n 2, 1) := dk_28 (dk_at dksJ9_copyOfRange_0 4 rfl rfl)
theorem dJ9_copyOfRange_5 : decode cJ9_copyOfRange 5 = .ok (.aload_n 0, 1) := dk_42 (dk_at dksJ9_copyOfRange_0 5 rfl rfl)
theorem dJ9_copyOfRange_6 : decode cJ9_copyOfRange 6 = .ok (.arraylength, 1) := dk_190 (dk_at dksJ9_copyOfRange_0 6 rfl rfl)
theorem dJ9_copyOfRange_7 : decode cJ9_copyOfRange 7 = .ok (.if_icmp .eq 10, 3) := dk_159 0 10 (dk_at dksJ9_copyOfRange_0 7 rfl rfl)
theorem dJ9_copyOfRange_10 : decode cJ9_copyOfRange 10 = .ok (.aload_n 0, 1) := dk_42 (dk_at dksJ9_copyOfRange_0 10 rfl rfl)
theorem dJ9_copyOfRange_11 : decode cJ9_copyOfRange 11 = .ok (.iload_n 1, 1) := dk_27 (dk_at dksJ9_copyOfRange_0 11 rfl rfl)
theorem dJ9_copyOfRange_12 : decode cJ9_copyOfRange 12 = .ok (.iload_n 2, 1) := dk_28 (dk_at dksJ9_copyOfRange_0 12 rfl rfl)
theorem dJ9_copyOfRange_13 : decode cJ9_copyOfRange 13 = .ok (.invokestatic 339, 3) := dk_184 1 83 (dk_at dksJ9_copyOfRange_0 13 rfl rfl)
theorem dJ9_copyOfRange_16 : decode cJ9_copyOfRange 16 = .ok (.areturn, 1) := dk_176 (dk_at dksJ9_copyOfRange_0 16 rfl rfl)
theorem dJ9_copyOfRange_17 : decode cJ9_copyOfRange 17 = .ok (.aload_n 0, 1) := dk_42 (dk_at dksJ9_copyOfRange_0 17 rfl rfl)
theorem dJ9_copyOfRange_18 : decode cJ9_copyOfRange 18 = .ok (.invokevirtual 310, 3) := dk_182 1 54 (dk_at dksJ9_copyOfRange_0 18 rfl rfl)
theorem dJ9_copyOfRange_21 : decode cJ9_copyOfRange 21 = .ok (.checkcast 311, 3) := dk_192 1 55 (dk_at dksJ9_copyOfRange_0 21 rfl rfl)
theorem dJ9_copyOfRange_24 : decode cJ9_copyOfRange 24 = .ok (.areturn, 1) := dk_176 (dk_at dksJ9_copyOfRange_1 0 rfl rfl)
abbrev cJ9_copyOfRangeByte : ByteArray := prog_38_method_133_code
def yJ9_copyOfRangeByte : MethodName := ⟨RJ9, "copyOfRangeByte", "([BII)[B"⟩
def dkwJ9_copyOfRangeByte_1 : List UInt8 := [184, 1, 48, 184, 0, 150, 25, 4, 176]
abbrev dktJ9_copyOfRangeByte_1 : List UInt8 := dkwJ9_copyOfRangeByte_1 ++ []
def dkwJ9_copyOfRangeByte_0 : List UInt8 := [27, 28, 184, 1, 87, 28, 27, 100, 62, 29, 188, 8, 58, 4, 42, 27, 25, 4, 3, 42, 190, 27, 100, 29]
abbrev dktJ9_copyOfRangeByte_0 : List UInt8 := dkwJ9_copyOfRangeByte_0 ++ dktJ9_copyOfRangeByte_1
theorem dksJ9_copyOfRangeByte_0 : cJ9_copyOfRangeByte.data.toList.drop 0 = dktJ9_copyOfRangeByte_0 := by decide +kernel
theorem dksJ9_copyOfRangeByte_1 : cJ9_copyOfRangeByte.data.toList.drop 24 = dktJ9_copyOfRangeByte_1 := dk_seg dksJ9_copyOfRangeByte_0 24 rfl rfl
theorem dJ9_copyOfRangeByte_0 : decode cJ9_copyOfRangeByte 0 = .ok (.iload_n 1, 1) := dk_27 (dk_at dksJ9_copyOfRangeByte_0 0 rfl rfl)
theorem dJ9_copyOfRangeByte_1 : decode cJ9_copyOfRangeByte 1 = .ok (.iload_n 2, 1) := dk_28 (dk_at dksJ9_copyOfRangeByte_0 1 rfl rfl)
theorem dJ9_copyOfRangeByte_2 : decode cJ9_copyOfRangeByte 2 = .ok (.invokestatic 343, 3) := dk_184 1 87 (dk_at dksJ9_copyOfRangeByte_0 2 rfl rfl)
theorem dJ9_copyOfRangeByte_5 : decode cJ9_copyOfRangeByte 5 = .ok (.iload_n 2, 1) := dk_28 (dk_at dksJ9_copyOfRangeByte_0 5 rfl rfl)
theorem dJ9_copyOfRangeByte_6 : decode cJ9_copyOfRangeByte 6 = .ok (.iload_n 1, 1) := dk_27 (dk_at dksJ9_copyOfRangeByte_0 6 rfl rfl)
theorem dJ9_copyOfRangeByte_7 : decode cJ9_copyOfRangeByte 7 = .ok (.isub, 1) := dk_100 (dk_at dksJ9_copyOfRangeByte_0 7 rfl rfl)
theorem dJ9_copyOfRangeByte_8 : decode cJ9_copyOfRangeByte 8 = .ok (.istore_n 3, 1) := dk_62 (dk_at dksJ9_copyOfRangeByte_0 8 rfl rfl)
theorem dJ9_copyOfRangeByte_9 : decode cJ9_copyOfRangeByte 9 = .ok (.iload_n 3, 1) := dk_29 (dk_at dksJ9_copyOfRangeByte_0 9 rfl rfl)
theorem dJ9_copyOfRangeByte_10 : decode cJ9_copyOfRangeByte 10 = .ok (.newarray .byte, 2) := dk_188_8 (dk_at dksJ9_copyOfRangeByte_0 10 rfl rfl)
theorem dJ9_copyOfRangeByte_12 : decode cJ9_copyOfRangeByte 12 = .ok (.astore 4, 2) := dk_58 4 (dk_at dksJ9_copyOfRangeByte_0 12 rfl rfl)
theorem dJ9_copyOfRangeByte_14 : decode cJ9_copyOfRangeByte 14 = .ok (.aload_n 0, 1) := dk_42 (dk_at dksJ9_copyOfRangeByte_0 14 rfl rfl)
theorem dJ9_copyOfRangeByte_15 : decode cJ9_copyOfRangeByte 15 = .ok (.iload_n 1, 1) := dk_27 (dk_at dksJ9_copyOfRangeByte_0 15 rfl rfl)
theorem dJ9_copyOfRangeByte_16 : decode cJ9_copyOfRangeByte 16 = .ok (.aload 4, 2) := dk_25 4 (dk_at dksJ9_copyOfRangeByte_0 16 rfl rfl)
theorem dJ9_copyOfRangeByte_18 : decode cJ9_copyOfRangeByte 18 = .ok (.iconst 0, 1) := dk_3 (dk_at dksJ9_copyOfRangeByte_0 18 rfl rfl)
theorem dJ9_copyOfRangeByte_19 : decode cJ9_copyOfRangeByte 19 = .ok (.aload_n 0, 1) := dk_42 (dk_at dksJ9_copyOfRangeByte_0 19 rfl rfl)
theorem dJ9_copyOfRangeByte_20 : decode cJ9_copyOfRangeByte 20 = .ok (.arraylength, 1) := dk_190 (dk_at dksJ9_copyOfRangeByte_0 20 rfl rfl)
theorem dJ9_copyOfRangeByte_21 : decode cJ9_copyOfRangeByte 21 = .ok (.iload_n 1, 1) := dk_27 (dk_at dksJ9_copyOfRangeByte_0 21 rfl rfl)
theorem dJ9_copyOfRangeByte_22 : decode cJ9_copyOfRangeByte 22 = .ok (.isub, 1) := dk_100 (dk_at dksJ9_copyOfRangeByte_0 22 rfl rfl)
theorem dJ9_copyOfRangeByte_23 : decode cJ9_copyOfRangeByte 23 = .ok (.iload_n 3, 1) := dk_29 (dk_at dksJ9_copyOfRangeByte_0 23 rfl rfl)
theorem dJ9_copyOfRangeByte_24 : decode cJ9_copyOfRangeByte 24 = .ok (.invokestatic 304, 3) := dk_184 1 48 (dk_at dksJ9_copyOfRangeByte_1 0 rfl rfl)
theorem dJ9_copyOfRangeByte_27 : decode cJ9_copyOfRangeByte 27 = .ok (.invokestatic 150, 3) := dk_184 0 150 (dk_at dksJ9_copyOfRangeByte_1 3 rfl rfl)
theorem dJ9_copyOfRangeByte_30 : decode cJ9_copyOfRangeByte 30 = .ok (.aload 4, 2) := dk_25 4 (dk_at dksJ9_copyOfRangeByte_1 6 rfl rfl)
theorem dJ9_copyOfRangeByte_32 : decode cJ9_copyOfRangeByte 32 = .ok (.areturn, 1) := dk_176 (dk_at dksJ9_copyOfRangeByte_1 8 rfl rfl)
abbrev cJ9_checkLength : ByteArray := prog_38_method_131_code
def yJ9_checkLength : MethodName := ⟨RJ9, "checkLength", "(II)V"⟩
def dkwJ9_checkLength_1 : List UInt8 := [182, 0, 50, 27, 182, 0, 54, 182, 0, 61, 183, 0, 65, 191, 177]
abbrev dktJ9_checkLength_1 : List UInt8 := dkwJ9_checkLength_1 ++ []
def dkwJ9_checkLength_0 : List UInt8 := [27, 26, 162, 0, 35, 187, 0, 43, 89, 187, 0, 45, 89, 183, 0, 47, 26, 182, 0, 54, 19, 1, 81]
abbrev dktJ9_checkLength_0 : List UInt8 := dkwJ9_checkLength_0 ++ dktJ9_checkLength_1
theorem dksJ9_checkLength_0 : cJ9_checkLength.data.toList.drop 0 = dktJ9_checkLength_0 := by decide +kernel
theorem dksJ9_checkLength_1 : cJ9_checkLength.data.toList.drop 23 = dktJ9_checkLength_1 := dk_seg dksJ9_checkLength_0 23 rfl rfl
theorem dJ9_checkLength_0 : decode cJ9_checkLength 0 = .ok (.iload_n 1, 1) := dk_27 (dk_at dksJ9_checkLength_0 0 rfl rfl)
theorem dJ9_checkLength_1 : decode cJ9_checkLength 1 = .ok (.iload_n 0, 1) := dk_26 (dk_at dksJ9_checkLength_0 1 rfl rfl)
theorem dJ9_checkLength_2 : decode cJ9_checkLength 2 = .ok (.if_icmp .ge 35, 3) := dk_162 0 35 (dk_at dksJ9_checkLength_0 2 rfl rfl)
theorem dJ9_checkLength_5 : decode cJ9_checkLength 5 = .ok (.new 43, 3) := dk_187 0 43 (dk_at dksJ9_checkLength_0 5 rfl rfl)
theorem dJ9_checkLength_8 : decode cJ9_checkLength 8 = .ok (.dup, 1) := dk_89 (dk_at dksJ9_checkLength_0 8 rfl rfl)
theorem dJ9_checkLength_9 : decode cJ9_checkLength 9 = .ok (.new 45, 3) := dk_187 0 45 (dk_at dksJ9_checkLength_0 9 rfl rfl)
theorem dJ9_checkLength_12 : decode cJ9_checkLength 12 = .ok (.dup, 1) := dk_89 (dk_at dksJ9_checkLength_0 12 rfl rfl)
theorem dJ9_checkLength_13 : decode cJ9_checkLength 13 = .ok (.invokespecial 47, 3) := dk_183 0 47 (dk_at dksJ9_checkLength_0 13 rfl rfl)
theorem dJ9_checkLength_16 : decode cJ9_checkLength 16 = .ok (.iload_n 0, 1) := dk_26 (dk_at dksJ9_checkLength_0 16 rfl rfl)
theorem dJ9_checkLength_17 : decode cJ9_checkLength 17 = .ok (.invokevirtual 54, 3) := dk_182 0 54 (dk_at dksJ9_checkLength_0 17 rfl rfl)
theorem dJ9_checkLength_20 : decode cJ9_checkLength 20 = .ok (.ldc_w 337, 3) := dk_19 1 81 (dk_at dksJ9_checkLength_0 20 rfl rfl)
theorem dJ9_checkLength_23 : decode cJ9_checkLength 23 = .ok (.invokevirtual 50, 3) := dk_182 0 50 (dk_at dksJ9_checkLength_1 0 rfl rfl)
theorem dJ9_checkLength_26 : decode cJ9_checkLength 26 = .ok (.iload_n 1, 1) := dk_27 (dk_at dksJ9_checkLength_1 3 rfl rfl)
theorem dJ9_checkLength_27 : decode cJ9_checkLength 27 = .ok (.invokevirtual 54, 3) := dk_182 0 54 (dk_at dksJ9_checkLength_1 4 rfl rfl)
theorem dJ9_checkLength_30 : decode cJ9_checkLength 30 = .ok (.invokevirtual 61, 3) := dk_182 0 61 (dk_at dksJ9_checkLength_1 7 rfl rfl)
theorem dJ9_checkLength_33 : decode cJ9_checkLength 33 = .ok (.invokespecial 65, 3) := dk_183 0 65 (dk_at dksJ9_checkLength_1 10 rfl rfl)
theorem dJ9_checkLength_36 : decode cJ9_checkLength 36 = .ok (.athrow, 1) := dk_191 (dk_at dksJ9_checkLength_1 13 rfl rfl)
theorem dJ9_checkLength_37 : decode cJ9_checkLength 37 = .ok (.return_, 1) := dk_177 (dk_at dksJ9_checkLength_1 14 rfl rfl)
abbrev cJ9_fill : ByteArray := prog_38_method_110_code
def yJ9_fill : MethodName := ⟨RJ9, "fill", "([BIIB)V"⟩
def dkwJ9_fill_1 : List UInt8 := [167, 255, 242, 177]
abbrev dktJ9_fill_1 : List UInt8 := dkwJ9_fill_1 ++ []
def dkwJ9_fill_0 : List UInt8 := [42, 190, 27, 28, 184, 0, 13, 27, 54, 4, 21, 4, 28, 162, 0, 14, 42, 21, 4, 29, 84, 132, 4, 1]
abbrev dktJ9_fill_0 : List UInt8 := dkwJ9_fill_0 ++ dktJ9_fill_1
theorem dksJ9_fill_0 : cJ9_fill.data.toList.drop 0 = dktJ9_fill_0 := by decide +kernel
theorem dksJ9_fill_1 : cJ9_fill.data.toList.drop 24 = dktJ9_fill_1 := dk_seg dksJ9_fill_0 24 rfl rfl
theorem dJ9_fill_0 : decode cJ9_fill 0 = .ok (.aload_n 0, 1) := dk_42 (dk_at dksJ9_fill_0 0 rfl rfl)
theorem dJ9_fill_1 : decode cJ9_fill 1 = .ok (.arraylength, 1) := dk_190 (dk_at dksJ9_fill_0 1 rfl rfl)
theorem dJ9_fill_2 : decode cJ9_fill 2 = .ok (.iload_n 1, 1) := dk_27 (dk_at dksJ9_fill_0 2 rfl rfl)
theorem dJ9_fill_3 : decode cJ9_fill 3 = .ok (.iload_n 2, 1) := dk_28 (dk_at dksJ9_fill_0 3 rfl rfl)
theorem dJ9_fill_4 : decode cJ9_fill 4 = .ok (.invokestatic 13, 3) := dk_184 0 13 (dk_at dksJ9_fill_0 4 rfl rfl)
theorem dJ9_fill_7 : decode cJ9_fill 7 = .ok (.iload_n 1, 1) := dk_27 (dk_at dksJ9_fill_0 7 rfl rfl)
theorem dJ9_fill_8 : decode cJ9_fill 8 = .ok (.istore 4, 2) := dk_54 4 (dk_at dksJ9_fill_0 8 rfl rfl)
theorem dJ9_fill_10 : decode cJ9_fill 10 = .ok (.iload 4, 2) := dk_21 4 (dk_at dksJ9_fill_0 10 rfl rfl)
theorem dJ9_fill_12 : decode cJ9_fill 12 = .ok (.iload_n 2, 1) := dk_28 (dk_at dksJ9_fill_0 12 rfl rfl)
theorem dJ9_fill_13 : decode cJ9_fill 13 = .ok (.if_icmp .ge 14, 3) := dk_162 0 14 (dk_at dksJ9_fill_0 13 rfl rfl)
theorem dJ9_fill_16 : decode cJ9_fill 16 = .ok (.aload_n 0, 1) := dk_42 (dk_at dksJ9_fill_0 16 rfl rfl)
theorem dJ9_fill_17 : decode cJ9_fill 17 = .ok (.iload 4, 2) := dk_21 4 (dk_at dksJ9_fill_0 17 rfl rfl)
theorem dJ9_fill_19 : decode cJ9_fill 19 = .ok (.iload_n 3, 1) := dk_29 (dk_at dksJ9_fill_0 19 rfl rfl)
theorem dJ9_fill_20 : decode cJ9_fill 20 = .ok (.bastore, 1) := dk_84 (dk_at dksJ9_fill_0 20 rfl rfl)
theorem dJ9_fill_21 : decode cJ9_fill 21 = .ok (.iinc 4 1, 3) := dk_132 4 1 (dk_at dksJ9_fill_0 21 rfl rfl)
theorem dJ9_fill_24 : decode cJ9_fill 24 = .ok (.goto (-14), 3) := dk_167 255 242 (dk_at dksJ9_fill_1 0 rfl rfl)
theorem dJ9_fill_27 : decode cJ9_fill 27 = .ok (.return_, 1) := dk_177 (dk_at dksJ9_fill_1 3 rfl rfl)
abbrev cJ9_rangeCheck : ByteArray := prog_38_method_30_code
def yJ9_rangeCheck : MethodName := ⟨RJ9, "rangeCheck", "(III)V"⟩
def dkwJ9_rangeCheck_3 : List UInt8 := [183, 0, 70, 191, 177]
abbrev dktJ9_rangeCheck_3 : List UInt8 := dkwJ9_rangeCheck_3 ++ []
def dkwJ9_rangeCheck_2 : List UInt8 := [27, 156, 0, 12, 187, 0, 68, 89, 27, 183, 0, 70, 191, 28, 26, 164, 0, 12, 187, 0, 68, 89, 28]
abbrev dktJ9_rangeCheck_2 : List UInt8 := dkwJ9_rangeCheck_2 ++ dktJ9_rangeCheck_3
def dkwJ9_rangeCheck_1 : List UInt8 := [182, 0, 54, 18, 57, 182, 0, 50, 28, 182, 0, 54, 18, 59, 182, 0, 50, 182, 0, 61, 183, 0, 65, 191]
abbrev dktJ9_rangeCheck_1 : List UInt8 := dkwJ9_rangeCheck_1 ++ dktJ9_rangeCheck_2
def dkwJ9_rangeCheck_0 : List UInt8 := [27, 28, 164, 0, 44, 187, 0, 43, 89, 187, 0, 45, 89, 183, 0, 47, 18, 48, 182, 0, 50, 27]
abbrev dktJ9_rangeCheck_0 : List UInt8 := dkwJ9_rangeCheck_0 ++ dktJ9_rangeCheck_1
theorem dksJ9_rangeCheck_0 : cJ9_rangeCheck.data.toList.drop 0 = dktJ9_rangeCheck_0 := by decide +kernel
theorem dksJ9_rangeCheck_1 : cJ9_rangeCheck.data.toList.drop 22 = dktJ9_rangeCheck_1 := dk_seg dksJ9_rangeCheck_0 22 rfl rfl
theorem dksJ9_rangeCheck_2 : cJ9_rangeCheck.data.toList.drop 46 = dktJ9_rangeCheck_2 := dk_seg dksJ9_rangeCheck_1 24 rfl rfl
theorem dksJ9_rangeCheck_3 : cJ9_rangeCheck.data.toList.drop 69 = dktJ9_rangeCheck_3 := dk_seg dksJ9_rangeCheck_2 23 rfl rfl
theorem dJ9_rangeCheck_0 : decode cJ9_rangeCheck 0 = .ok (.iload_n 1, 1) := dk_27 (dk_at dksJ9_rangeCheck_0 0 rfl rfl)
theorem dJ9_rangeCheck_1 : decode cJ9_rangeCheck 1 = .ok (.iload_n 2, 1) := dk_28 (dk_at dksJ9_rangeCheck_0 1 rfl rfl)
theorem dJ9_rangeCheck_2 : decode cJ9_rangeCheck 2 = .ok (.if_icmp .le 44, 3) := dk_164 0 44 (dk_at dksJ9_rangeCheck_0 2 rfl rfl)
theorem dJ9_rangeCheck_5 : decode cJ9_rangeCheck 5 = .ok (.new 43, 3) := dk_187 0 43 (dk_at dksJ9_rangeCheck_0 5 rfl rfl)
theorem dJ9_rangeCheck_8 : decode cJ9_rangeCheck 8 = .ok (.dup, 1) := dk_89 (dk_at dksJ9_rangeCheck_0 8 rfl rfl)
theorem dJ9_rangeCheck_9 : decode cJ9_rangeCheck 9 = .ok (.new 45, 3) := dk_187 0 45 (dk_at dksJ9_rangeCheck_0 9 rfl rfl)
theorem dJ9_rangeCheck_12 : decode cJ9_rangeCheck 12 = .ok (.dup, 1) := dk_89 (dk_at dksJ9_rangeCheck_0 12 rfl rfl)
theorem dJ9_rangeCheck_13 : decode cJ9_rangeCheck 13 = .ok (.invokespecial 47, 3) := dk_183 0 47 (dk_at dksJ9_rangeCheck_0 13 rfl rfl)
theorem dJ9_rangeCheck_16 : decode cJ9_rangeCheck 16 = .ok (.ldc 48, 2) := dk_18 48 (dk_at dksJ9_rangeCheck_0 16 rfl rfl)
theorem dJ9_rangeCheck_18 : decode cJ9_rangeCheck 18 = .ok (.invokevirtual 50, 3) := dk_182 0 50 (dk_at dksJ9_rangeCheck_0 18 rfl rfl)
theorem dJ9_rangeCheck_21 : decode cJ9_rangeCheck 21 = .ok (.iload_n 1, 1) := dk_27 (dk_at dksJ9_rangeCheck_0 21 rfl rfl)
theorem dJ9_rangeCheck_22 : decode cJ9_rangeCheck 22 = .ok (.invokevirtual 54, 3) := dk_182 0 54 (dk_at dksJ9_rangeCheck_1 0 rfl rfl)
theorem dJ9_rangeCheck_25 : decode cJ9_rangeCheck 25 = .ok (.ldc 57, 2) := dk_18 57 (dk_at dksJ9_rangeCheck_1 3 rfl rfl)
theorem dJ9_rangeCheck_27 : decode cJ9_rangeCheck 27 = .ok (.invokevirtual 50, 3) := dk_182 0 50 (dk_at dksJ9_rangeCheck_1 5 rfl rfl)
theorem dJ9_rangeCheck_30 : decode cJ9_rangeCheck 30 = .ok (.iload_n 2, 1) := dk_28 (dk_at dksJ9_rangeCheck_1 8 rfl rfl)
theorem dJ9_rangeCheck_31 : decode cJ9_rangeCheck 31 = .ok (.invokevirtual 54, 3) := dk_182 0 54 (dk_at dksJ9_rangeCheck_1 9 rfl rfl)
theorem dJ9_rangeCheck_34 : decode cJ9_rangeCheck 34 = .ok (.ldc 59, 2) := dk_18 59 (dk_at dksJ9_rangeCheck_1 12 rfl rfl)
theorem dJ9_rangeCheck_36 : decode cJ9_rangeCheck 36 = .ok (.invokevirtual 50, 3) := dk_182 0 50 (dk_at dksJ9_rangeCheck_1 14 rfl rfl)
theorem dJ9_rangeCheck_39 : decode cJ9_rangeCheck 39 = .ok (.invokevirtual 61, 3) := dk_182 0 61 (dk_at dksJ9_rangeCheck_1 17 rfl rfl)
theorem dJ9_rangeCheck_42 : decode cJ9_rangeCheck 42 = .ok (.invokespecial 65, 3) := dk_183 0 65 (dk_at dksJ9_rangeCheck_1 20 rfl rfl)
theorem dJ9_rangeCheck_45 : decode cJ9_rangeCheck 45 = .ok (.athrow, 1) := dk_191 (dk_at dksJ9_rangeCheck_1 23 rfl rfl)
theorem dJ9_rangeCheck_46 : decode cJ9_rangeCheck 46 = .ok (.iload_n 1, 1) := dk_27 (dk_at dksJ9_rangeCheck_2 0 rfl rfl)
theorem dJ9_rangeCheck_47 : decode cJ9_rangeCheck 47 = .ok (.ifCond .ge 12, 3) := dk_156 0 12 (dk_at dksJ9_rangeCheck_2 1 rfl rfl)
theorem dJ9_rangeCheck_50 : decode cJ9_rangeCheck 50 = .ok (.new 68, 3) := dk_187 0 68 (dk_at dksJ9_rangeCheck_2 4 rfl rfl)
theorem dJ9_rangeCheck_53 : decode cJ9_rangeCheck 53 = .ok (.dup, 1) := dk_89 (dk_at dksJ9_rangeCheck_2 7 rfl rfl)
theorem dJ9_rangeCheck_54 : decode cJ9_rangeCheck 54 = .ok (.iload_n 1, 1) := dk_27 (dk_at dksJ9_rangeCheck_2 8 rfl rfl)
theorem dJ9_rangeCheck_55 : decode cJ9_rangeCheck 55 = .ok (.invokespecial 70, 3) := dk_183 0 70 (dk_at dksJ9_rangeCheck_2 9 rfl rfl)
theorem dJ9_rangeCheck_58 : decode cJ9_rangeCheck 58 = .ok (.athrow, 1) := dk_191 (dk_at dksJ9_rangeCheck_2 12 rfl rfl)
theorem dJ9_rangeCheck_59 : decode cJ9_rangeCheck 59 = .ok (.iload_n 2, 1) := dk_28 (dk_at dksJ9_rangeCheck_2 13 rfl rfl)
theorem dJ9_rangeCheck_60 : decode cJ9_rangeCheck 60 = .ok (.iload_n 0, 1) := dk_26 (dk_at dksJ9_rangeCheck_2 14 rfl rfl)
theorem dJ9_rangeCheck_61 : decode cJ9_rangeCheck 61 = .ok (.if_icmp .le 12, 3) := dk_164 0 12 (dk_at dksJ9_rangeCheck_2 15 rfl rfl)
theorem dJ9_rangeCheck_64 : decode cJ9_rangeCheck 64 = .ok (.new 68, 3) := dk_187 0 68 (dk_at dksJ9_rangeCheck_2 18 rfl rfl)
theorem dJ9_rangeCheck_67 : decode cJ9_rangeCheck 67 = .ok (.dup, 1) := dk_89 (dk_at dksJ9_rangeCheck_2 21 rfl rfl)
theorem dJ9_rangeCheck_68 : decode cJ9_rangeCheck 68 = .ok (.iload_n 2, 1) := dk_28 (dk_at dksJ9_rangeCheck_2 22 rfl rfl)
theorem dJ9_rangeCheck_69 : decode cJ9_rangeCheck 69 = .ok (.invokespecial 70, 3) := dk_183 0 70 (dk_at dksJ9_rangeCheck_3 0 rfl rfl)
theorem dJ9_rangeCheck_72 : decode cJ9_rangeCheck 72 = .ok (.athrow, 1) := dk_191 (dk_at dksJ9_rangeCheck_3 3 rfl rfl)
theorem dJ9_rangeCheck_73 : decode cJ9_rangeCheck 73 = .ok (.return_, 1) := dk_177 (dk_at dksJ9_rangeCheck_3 4 rfl rfl)
theorem q48 : (Jvm.Cond.initialized "java/util/Arrays") ∈ lw_all := lw_g (lw_at lw_m1 13 rfl) rfl
theorem q221 : (Jvm.Cond.static ({ cls := "java/util/Arrays", name := "copyOf", desc := "([Ljava/lang/Object;I)[Ljava/lang/Object;" } : Jvm.MethodName)) ∈ lw_all := lw_g (lw_at lw_m1 186 rfl) rfl
theorem q222 : (Jvm.Cond.code ({ cls := "java/util/Arrays", name := "copyOf", desc := "([Ljava/lang/Object;I)[Ljava/lang/Object;" } : Jvm.MethodName) prog_38_method_119_code (2 : Nat) (Option.some (Jvm.ClassFile.FieldType.array (Jvm.ClassFile.FieldType.object "java/lang/Object")))) ∈ lw_all := lw_g (lw_at lw_m1 187 rfl) rfl
theorem q223 : (Jvm.Cond.methodLink "java/util/Arrays" (86 : Nat) ({ cls := "java/lang/Object", name := "getClass", desc := "()Ljava/lang/Class;" } : Jvm.MethodName)) ∈ lw_all := lw_g (lw_at lw_m1 188 rfl) rfl
theorem q242 : (Jvm.Cond.methodLink "java/util/Arrays" (300 : Nat) ({ cls := "java/util/Arrays", name := "copyOf", desc := "([Ljava/lang/Object;ILjava/lang/Class;)[Ljava/lang/Object;" } : Jvm.MethodName)) ∈ lw_all := lw_g (lw_at lw_m1 207 rfl) rfl
theorem q243 : (Jvm.Cond.static ({ cls := "java/util/Arrays", name := "copyOf", desc := "([Ljava/lang/Object;ILjava/lang/Class;)[Ljava/lang/Object;" } : Jvm.MethodName)) ∈ lw_all := lw_g (lw_at lw_m1 208 rfl) rfl
theorem q244 : (Jvm.Cond.code ({ cls := "java/util/Arrays", name := "copyOf", desc := "([Ljava/lang/Object;ILjava/lang/Class;)[Ljava/lang/Object;" } : Jvm.MethodName) prog_38_method_120_code (4 : Nat) (Option.some (Jvm.ClassFile.FieldType.array (Jvm.ClassFile.FieldType.object "java/lang/Object")))) ∈ lw_all := lw_g (lw_at lw_m1 209 rfl) rfl
theorem q245 : (Jvm.Cond.classLink "java/util/Arrays" (110 : Nat) "[Ljava/lang/Object;") ∈ lw_all := lw_g (lw_at lw_m1 210 rfl) rfl
theorem q247 : (Jvm.Cond.classLink "java/util/Arrays" (2 : Nat) "java/lang/Object") ∈ lw_all := lw_g (lw_at lw_m1 212 rfl) rfl
theorem q248 : (Jvm.Cond.methodLink "java/util/Arrays" (304 : Nat) ({ cls := "java/lang/Math", name := "min", desc := "(II)I" } : Jvm.MethodName)) ∈ lw_all := lw_g (lw_at lw_m1 213 rfl) rfl
theorem q251 : (Jvm.Cond.methodLink "java/util/Arrays" (150 : Nat) ({ cls := "java/lang/System", name := "arraycopy", desc := "(Ljava/lang/Object;ILjava/lang/Object;II)V" } : Jvm.MethodName)) ∈ lw_all := lw_g (lw_at lw_m1 216 rfl) rfl
theorem q329 : (Jvm.Cond.static ({ cls := "java/util/Arrays", name := "copyOf", desc := "([BI)[B" } : Jvm.MethodName)) ∈ lw_all := lw_g (lw_at lw_m2 54 rfl) rfl
theorem q330 : (Jvm.Cond.code ({ cls := "java/util/Arrays", name := "copyOf", desc := "([BI)[B" } : Jvm.MethodName) prog_38_method_121_code (3 : Nat) (Option.some (Jvm.ClassFile.FieldType.array Jvm.ClassFile.FieldType.byte))) ∈ lw_all := lw_g (lw_at lw_m2 55 rfl) rfl
theorem q331 : (Jvm.Cond.methodLink "java/util/Arrays" (310 : Nat) ({ cls := "[B", name := "clone", desc := "()Ljava/lang/Object;" } : Jvm.MethodName)) ∈ lw_all := lw_g (lw_at lw_m2 56 rfl) rfl
theorem q337 : (Jvm.Cond.classLink "java/util/Arrays" (311 : Nat) "[B") ∈ lw_all := lw_g (lw_at lw_m2 62 rfl) rfl
theorem q458 : (Jvm.Cond.static ({ cls := "java/util/Arrays", name := "copyOfRange", desc := "([BII)[B" } : Jvm.MethodName)) ∈ lw_all := lw_g (lw_at lw_m2 183 rfl) rfl
theorem q459 : (Jvm.Cond.code ({ cls := "java/util/Arrays", name := "copyOfRange", desc := "([BII)[B" } : Jvm.MethodName) prog_38_method_132_code (3 : Nat) (Option.some (Jvm.ClassFile.FieldType.array Jvm.ClassFile.FieldType.byte))) ∈ lw_all := lw_g (lw_at lw_m2 184 rfl) rfl
theorem q460 : (Jvm.Cond.methodLink "java/util/Arrays" (339 : Nat) ({ cls := "java/util/Arrays", name := "copyOfRangeByte", desc := "([BII)[B" } : Jvm.MethodName)) ∈ lw_all := lw_g (lw_at lw_m2 185 rfl) rfl
theorem q461 : (Jvm.Cond.static ({ cls := "java/util/Arrays", name := "copyOfRangeByte", desc := "([BII)[B" } : Jvm.MethodName)) ∈ lw_all := lw_g (lw_at lw_m2 186 rfl) rfl
theorem q462 : (Jvm.Cond.code ({ cls := "java/util/Arrays", name := "copyOfRangeByte", desc := "([BII)[B" } : Jvm.MethodName) prog_38_method_133_code (5 : Nat) (Option.some (Jvm.ClassFile.FieldType.array Jvm.ClassFile.FieldType.byte))) ∈ lw_all := lw_g (lw_at lw_m2 187 rfl) rfl
theorem q463 : (Jvm.Cond.methodLink "java/util/Arrays" (343 : Nat) ({ cls := "java/util/Arrays", name := "checkLength", desc := "(II)V" } : Jvm.MethodName)) ∈ lw_all := lw_g (lw_at lw_m2 188 rfl) rfl
theorem q464 : (Jvm.Cond.static ({ cls := "java/util/Arrays", name := "checkLength", desc := "(II)V" } : Jvm.MethodName)) ∈ lw_all := lw_g (lw_at lw_m2 189 rfl) rfl
theorem q465 : (Jvm.Cond.code ({ cls := "java/util/Arrays", name := "checkLength", desc := "(II)V" } : Jvm.MethodName) prog_38_method_131_code (2 : Nat) (Option.none : Option Jvm.ClassFile.FieldType)) ∈ lw_all := lw_g (lw_at lw_m2 190 rfl) rfl
theorem q466 : (Jvm.Cond.classLink "java/util/Arrays" (43 : Nat) "java/lang/IllegalArgumentException") ∈ lw_all := lw_g (lw_at lw_m2 191 rfl) rfl
theorem q509 : (Jvm.Cond.classLink "java/util/Arrays" (45 : Nat) "java/lang/StringBuilder") ∈ lw_all := lw_g (lw_at lw_m2 234 rfl) rfl
theorem q510 : (Jvm.Cond.methodLink "java/util/Arrays" (47 : Nat) ({ cls := "java/lang/StringBuilder", name := "<init>", desc := "()V" } : Jvm.MethodName)) ∈ lw_all := lw_g (lw_at lw_m2 235 rfl) rfl
theorem q511 : (Jvm.Cond.methodLink "java/util/Arrays" (54 : Nat) ({ cls := "java/lang/StringBuilder", name := "append", desc := "(I)Ljava/lang/StringBuilder;" } : Jvm.MethodName)) ∈ lw_all := lw_g (lw_at lw_m2 236 rfl) rfl
theorem q512 : (Jvm.Cond.stringRef "java/util/Arrays" (337 : Nat) " > ") ∈ lw_tbl := lw_at lw_m2 237 rfl
theorem q513 : (Jvm.Cond.methodLink "java/util/Arrays" (50 : Nat) ({ cls := "java/lang/StringBuilder", name := "append", desc := "(Ljava/lang/String;)Ljava/lang/StringBuilder;" } : Jvm.MethodName)) ∈ lw_all := lw_g (lw_at lw_m2 238 rfl) rfl
theorem q514 : (Jvm.Cond.methodLink "java/util/Arrays" (61 : Nat) ({ cls := "java/lang/StringBuilder", name := "toString", desc := "()Ljava/lang/String;" } : Jvm.MethodName)) ∈ lw_all := lw_g (lw_at lw_m2 239 rfl) rfl
theorem q515 : (Jvm.Cond.methodLink "java/util/Arrays" (65 : Nat) ({ cls := "java/lang/IllegalArgumentException", name := "<init>", desc := "(Ljava/lang/String;)V" } : Jvm.MethodName)) ∈ lw_all := lw_g (lw_at lw_m3 0 rfl) rfl
theorem q579 : (Jvm.Cond.static ({ cls := "java/util/Arrays", name := "fill", desc := "([BIIB)V" } : Jvm.MethodName)) ∈ lw_all := lw_g (lw_at lw_m3 64 rfl) rfl
theorem q580 : (Jvm.Cond.code ({ cls := "java/util/Arrays", name := "fill", desc := "([BIIB)V" } : Jvm.MethodName) prog_38_method_110_code (5 : Nat) (Option.none : Option Jvm.ClassFile.FieldType)) ∈ lw_all := lw_g (lw_at lw_m3 65 rfl) rfl
theorem q581 : (Jvm.Cond.methodLink "java/util/Arrays" (13 : Nat) ({ cls := "java/util/Arrays", name := "rangeCheck", desc := "(III)V" } : Jvm.MethodName)) ∈ lw_all := lw_g (lw_at lw_m3 66 rfl) rfl
theorem q582 : (Jvm.Cond.static ({ cls := "java/util/Arrays", name := "rangeCheck", desc := "(III)V" } : Jvm.MethodName)) ∈ lw_all := lw_g (lw_at lw_m3 67 rfl) rfl
theorem q583 : (Jvm.Cond.code ({ cls := "java/util/Arrays", name := "rangeCheck", desc := "(III)V" } : Jvm.MethodName) prog_38_method_30_code (3 : Nat) (Option.none : Option Jvm.ClassFile.FieldType)) ∈ lw_all := lw_g (lw_at lw_m3 68 rfl) rfl
theorem q584 : (Jvm.Cond.stringRef "java/util/Arrays" (48 : Nat) "fromIndex(") ∈ lw_tbl := lw_at lw_m3 69 rfl
theorem q585 : (Jvm.Cond.stringRef "java/util/Arrays" (57 : Nat) ") > toIndex(") ∈ lw_tbl := lw_at lw_m3 70 rfl
theorem q586 : (Jvm.Cond.stringRef "java/util/Arrays" (59 : Nat) ")") ∈ lw_tbl := lw_at lw_m3 71 rfl
theorem q587 : (Jvm.Cond.classLink "java/util/Arrays" (68 : Nat) "java/lang/ArrayIndexOutOfBoundsException") ∈ lw_all := lw_g (lw_at lw_m3 72 rfl) rfl
theorem q598 : (Jvm.Cond.methodLink "java/util/Arrays" (70 : Nat) ({ cls := "java/lang/ArrayIndexOutOfBoundsException", name := "<init>", desc := "(I)V" } : Jvm.MethodName)) ∈ lw_all := lw_g (lw_at lw_m3 83 rfl) rfl

/-! java/lang/StringLatin1 -/
set_option maxRecDepth 100000
def RJ15 : String := "java/lang/StringLatin1"
abbrev cJ15_inflate : ByteArray := prog_29_method_50_code
def yJ15_inflate : MethodName := ⟨RJ15, "inflate", "([BI[BII)V"⟩
def dkwJ15_inflate_0 : List UInt8 := [42, 27, 44, 29, 21, 4, 184, 0, 240, 177]
abbrev dktJ15_inflate_0 : List UInt8 := dkwJ15_inflate_0 ++ []
theorem dksJ15_inflate_0 : cJ15_inflate.data.toList.drop 0 = dktJ15_inflate_0 := by decide +kernel
theorem dJ15_inflate_0 : decode cJ15_inflate 0 = .ok (.aload_n 0, 1) := dk_42 (dk_at dksJ15_inflate_0 0 rfl rfl)
theorem dJ15_inflate_1 : decode cJ15_inflate 1 = .ok (.iload_n 1, 1) := dk_27 (dk_at dksJ15_inflate_0 1 rfl rfl)
theorem dJ15_inflate_2 : decode cJ15_inflate 2 = .ok (.aload_n 2, 1) := dk_44 (dk_at dksJ15_inflate_0 2 rfl rfl)
theorem dJ15_inflate_3 : decode cJ15_inflate 3 = .ok (.iload_n 3, 1) := dk_29 (dk_at dksJ15_inflate_0 3 rfl rfl)
theorem dJ15_inflate_4 : decode cJ15_inflate 4 = .ok (.iload 4, 2) := dk_21 4 (dk_at dksJ15_inflate_0 4 rfl rfl)
theorem dJ15_inflate_6 : decode cJ15_inflate 6 = .ok (.invokestatic 240, 3) := dk_184 0 240 (dk_at dksJ15_inflate_0 6 rfl rfl)
theorem dJ15_inflate_9 : decode cJ15_inflate 9 = .ok (.return_, 1) := dk_177 (dk_at dksJ15_inflate_0 9 rfl rfl)
abbrev cJ15_fillNull : ByteArray := prog_29_method_48_code
def yJ15_fillNull : MethodName := ⟨RJ15, "fillNull", "([BII)V"⟩
def dkwJ15_fillNull_0 : List UInt8 := [42, 27, 28, 3, 184, 0, 236, 177]
abbrev dktJ15_fillNull_0 : List UInt8 := dkwJ15_fillNull_0 ++ []
theorem dksJ15_fillNull_0 : cJ15_fillNull.data.toList.drop 0 = dktJ15_fillNull_0 := by decide +kernel
theorem dJ15_fillNull_0 : decode cJ15_fillNull 0 = .ok (.aload_n 0, 1) := dk_42 (dk_at dksJ15_fillNull_0 0 rfl rfl)
theorem dJ15_fillNull_1 : decode cJ15_fillNull 1 = .ok (.iload_n 1, 1) := dk_27 (dk_at dksJ15_fillNull_0 1 rfl rfl)
theorem dJ15_fillNull_2 : decode cJ15_fillNull 2 = .ok (.iload_n 2, 1) := dk_28 (dk_at dksJ15_fillNull_0 2 rfl rfl)
theorem dJ15_fillNull_3 : decode cJ15_fillNull 3 = .ok (.iconst 0, 1) := dk_3 (dk_at dksJ15_fillNull_0 3 rfl rfl)
theorem dJ15_fillNull_4 : decode cJ15_fillNull 4 = .ok (.invokestatic 236, 3) := dk_184 0 236 (dk_at dksJ15_fillNull_0 4 rfl rfl)
theorem dJ15_fillNull_7 : decode cJ15_fillNull 7 = .ok (.return_, 1) := dk_177 (dk_at dksJ15_fillNull_0 7 rfl rfl)
abbrev cJ15_equals : ByteArray := prog_29_method_13_code
def yJ15_equals : MethodName := ⟨RJ15, "equals", "([B[B)Z"⟩
def dkwJ15_equals_1 : List UInt8 := [3, 172, 132, 2, 1, 167, 255, 236, 4, 172, 3, 172]
abbrev dktJ15_equals_1 : List UInt8 := dkwJ15_equals_1 ++ []
def dkwJ15_equals_0 : List UInt8 := [42, 190, 43, 190, 160, 0, 30, 3, 61, 28, 42, 190, 162, 0, 20, 42, 28, 51, 43, 28, 51, 159, 0, 5]
abbrev dktJ15_equals_0 : List UInt8 := dkwJ15_equals_0 ++ dktJ15_equals_1
theorem dksJ15_equals_0 : cJ15_equals.data.toList.drop 0 = dktJ15_equals_0 := by decide +kernel
theorem dksJ15_equals_1 : cJ15_equals.data.toList.drop 24 = dktJ15_equals_1 := dk_seg dksJ15_equals_0 24 rfl rfl
theorem dJ15_equals_0 : decode cJ15_equals 0 = .ok (.aload_n 0, 1) := dk_42 (dk_at dksJ15_equals_0 0 rfl rfl)
theorem dJ15_equals_1 : decode cJ15_equals 1 = .ok (.arraylength, 1) := dk_190 (dk_at dksJ15_equals_0 1 rfl rfl)
theorem dJ15_equals_2 : decode cJ15_equals 2 = .ok (.aload_n 1, 1) := dk_43 (dk_at dksJ15_equals_0 2 rfl rfl)
theorem dJ15_equals_3 : decode cJ15_equals 3 = .ok (.arraylength, 1) := dk_190 (dk_at dksJ15_equals_0 3 rfl rfl)
theorem dJ15_equals_4 : decode cJ15_equals 4 = .ok (.if_icmp .ne 30, 3) := dk_160 0 30 (dk_at dksJ15_equals_0 4 rfl rfl)
theorem dJ15_equals_7 : decode cJ15_equals 7 = .ok (.iconst 0, 1) := dk_3 (dk_at dksJ15_equals_0 7 rfl rfl)
theorem dJ15_equals_8 : decode cJ15_equals 8 = .ok (.istore_n 2, 1) := dk_61 (dk_at dksJ15_equals_0 8 rfl rfl)
theorem dJ15_equals_9 : decode cJ15_equals 9 = .ok (.iload_n 2, 1) := dk_28 (dk_at dksJ15_equals_0 9 rfl rfl)
theorem dJ15_equals_10 : decode cJ15_equals 10 = .ok (.aload_n 0, 1) := dk_42 (dk_at dksJ15_equals_0 10 rfl rfl)
theorem dJ15_equals_11 : decode cJ15_equals 11 = .ok (.arraylength, 1) := dk_190 (dk_at dksJ15_equals_0 11 rfl rfl)
theorem dJ15_equals_12 : decode cJ15_equals 12 = .ok (.if_icmp .ge 20, 3) := dk_162 0 20 (dk_at dksJ15_equals_0 12 rfl rfl)
theorem dJ15_equals_15 : decode cJ15_equals 15 = .ok (.aload_n 0, 1) := dk_42 (dk_at dksJ15_equals_0 15 rfl rfl)
theorem dJ15_equals_16 : decode cJ15_equals 16 = .ok (.iload_n 2, 1) := dk_28 (dk_at dksJ15_equals_0 16 rfl rfl)
theorem dJ15_equals_17 : decode cJ15_equals 17 = .ok (.baload, 1) := dk_51 (dk_at dksJ15_equals_0 17 rfl rfl)
theorem dJ15_equals_18 : decode cJ15_equals 18 = .ok (.aload_n 1, 1) := dk_43 (dk_at dksJ15_equals_0 18 rfl rfl)
theorem dJ15_equals_19 : decode cJ15_equals 19 = .ok (.iload_n 2, 1) := dk_28 (dk_at dksJ15_equals_0 19 rfl rfl)
theorem dJ15_equals_20 : decode cJ15_equals 20 = .ok (.baload, 1) := dk_51 (dk_at dksJ15_equals_0 20 rfl rfl)
theorem dJ15_equals_21 : decode cJ15_equals 21 = .ok (.if_icmp .eq 5, 3) := dk_159 0 5 (dk_at dksJ15_equals_0 21 rfl rfl)
theorem dJ15_equals_24 : decode cJ15_equals 24 = .ok (.iconst 0, 1) := dk_3 (dk_at dksJ15_equals_1 0 rfl rfl)
theorem dJ15_equals_25 : decode cJ15_equals 25 = .ok (.ireturn, 1) := dk_172 (dk_at dksJ15_equals_1 1 rfl rfl)
theorem dJ15_equals_26 : decode cJ15_equals 26 = .ok (.iinc 2 1, 3) := dk_132 2 1 (dk_at dksJ15_equals_1 2 rfl rfl)
theorem dJ15_equals_29 : decode cJ15_equals 29 = .ok (.goto (-20), 3) := dk_167 255 236 (dk_at dksJ15_equals_1 5 rfl rfl)
theorem dJ15_equals_32 : decode cJ15_equals 32 = .ok (.iconst 1, 1) := dk_4 (dk_at dksJ15_equals_1 8 rfl rfl)
theorem dJ15_equals_33 : decode cJ15_equals 33 = .ok (.ireturn, 1) := dk_172 (dk_at dksJ15_equals_1 9 rfl rfl)
theorem dJ15_equals_34 : decode cJ15_equals 34 = .ok (.iconst 0, 1) := dk_3 (dk_at dksJ15_equals_1 10 rfl rfl)
theorem dJ15_equals_35 : decode cJ15_equals 35 = .ok (.ireturn, 1) := dk_172 (dk_at dksJ15_equals_1 11 rfl rfl)
abbrev cJ15_charAt : ByteArray := prog_29_method_2_code
def yJ15_charAt : MethodName := ⟨RJ15, "charAt", "([BI)C"⟩
def dkwJ15_charAt_0 : List UInt8 := [27, 42, 190, 184, 0, 9, 42, 27, 51, 17, 0, 255, 126, 146, 172]
abbrev dktJ15_charAt_0 : List UInt8 := dkwJ15_charAt_0 ++ []
theorem dksJ15_charAt_0 : cJ15_charAt.data.toList.drop 0 = dktJ15_charAt_0 := by decide +kernel
theorem dJ15_charAt_0 : decode cJ15_charAt 0 = .ok (.iload_n 1, 1) := dk_27 (dk_at dksJ15_charAt_0 0 rfl rfl)
theorem dJ15_charAt_1 : decode cJ15_charAt 1 = .ok (.aload_n 0, 1) := dk_42 (dk_at dksJ15_charAt_0 1 rfl rfl)
theorem dJ15_charAt_2 : decode cJ15_charAt 2 = .ok (.arraylength, 1) := dk_190 (dk_at dksJ15_charAt_0 2 rfl rfl)
theorem dJ15_charAt_3 : decode cJ15_charAt 3 = .ok (.invokestatic 9, 3) := dk_184 0 9 (dk_at dksJ15_charAt_0 3 rfl rfl)
theorem dJ15_charAt_6 : decode cJ15_charAt 6 = .ok (.aload_n 0, 1) := dk_42 (dk_at dksJ15_charAt_0 6 rfl rfl)
theorem dJ15_charAt_7 : decode cJ15_charAt 7 = .ok (.iload_n 1, 1) := dk_27 (dk_at dksJ15_charAt_0 7 rfl rfl)
theorem dJ15_charAt_8 : decode cJ15_charAt 8 = .ok (.baload, 1) := dk_51 (dk_at dksJ15_charAt_0 8 rfl rfl)
theorem dJ15_charAt_9 : decode cJ15_charAt 9 = .ok (.sipush 255, 3) := dk_17 0 255 (dk_at dksJ15_charAt_0 9 rfl rfl)
theorem dJ15_charAt_12 : decode cJ15_charAt 12 = .ok (.iand, 1) := dk_126 (dk_at dksJ15_charAt_0 12 rfl rfl)
theorem dJ15_charAt_13 : decode cJ15_charAt 13 = .ok (.i2c, 1) := dk_146 (dk_at dksJ15_charAt_0 13 rfl rfl)
theorem dJ15_charAt_14 : decode cJ15_charAt 14 = .ok (.ireturn, 1) := dk_172 (dk_at dksJ15_charAt_0 14 rfl rfl)
abbrev cJ15_canEncode : ByteArray := prog_29_method_3_code
def yJ15_canEncode : MethodName := ⟨RJ15, "canEncode", "(C)Z"⟩
def dkwJ15_canEncode_0 : List UInt8 := [26, 17, 0, 255, 163, 0, 7, 4, 167, 0, 4, 3, 172]
abbrev dktJ15_canEncode_0 : List UInt8 := dkwJ15_canEncode_0 ++ []
theorem dksJ15_canEncode_0 : cJ15_canEncode.data.toList.drop 0 = dktJ15_canEncode_0 := by decide +kernel
theorem dJ15_canEncode_0 : decode cJ15_canEncode 0 = .ok (.iload_n 0, 1) := dk_26 (dk_at dksJ15_canEncode_0 0 rfl rfl)
theorem dJ15_canEncode_1 : decode cJ15_canEncode 1 = .ok (.sipush 255, 3) := dk_17 0 255 (dk_at dksJ15_canEncode_0 1 rfl rfl)
theorem dJ15_canEncode_4 : decode cJ15_canEncode 4 = .ok (.if_icmp .gt 7, 3) := dk_163 0 7 (dk_at dksJ15_canEncode_0 4 rfl rfl)
theorem dJ15_canEncode_7 : decode cJ15_canEncode 7 = .ok (.iconst 1, 1) := dk_4 (dk_at dksJ15_canEncode_0 7 rfl rfl)
theorem dJ15_canEncode_8 : decode cJ15_canEncode 8 = .ok (.goto 4, 3) := dk_167 0 4 (dk_at dksJ15_canEncode_0 8 rfl rfl)
theorem dJ15_canEncode_11 : decode cJ15_canEncode 11 = .ok (.iconst 0, 1) := dk_3 (dk_at dksJ15_canEncode_0 11 rfl rfl)
theorem dJ15_canEncode_12 : decode cJ15_canEncode 12 = .ok (.ireturn, 1) := dk_172 (dk_at dksJ15_canEncode_0 12 rfl rfl)
abbrev cJ15_newString : ByteArray := prog_29_method_47_code
def yJ15_newString : MethodName := ⟨RJ15, "newString", "([BII)Ljava/lang/String;"⟩
def dkwJ15_newString_0 : List UInt8 := [28, 154, 0, 6, 18, 151, 176, 187, 0, 1, 89, 42, 27, 27, 28, 96, 184, 0, 232, 3, 183, 0, 112, 176]
abbrev dktJ15_newString_0 : List UInt8 := dkwJ15_newString_0 ++ []
theorem dksJ15_newString_0 : cJ15_newString.data.toList.drop 0 = dktJ15_newString_0 := by decide +kernel
theorem dJ15_newString_0 : decode cJ15_newString 0 = .ok (.iload_n 2, 1) := dk_28 (dk_at dksJ15_newString_0 0 rfl rfl)
theorem dJ15_newString_1 : decode cJ15_newString 1 = .ok (.ifCond .ne 6, 3) := dk_154 0 6 (dk_at dksJ15_newString_0 1 rfl rfl)
theorem dJ15_newString_4 : decode cJ15_newString 4 = .ok (.ldc 151, 2) := dk_18 151 (dk_at dksJ15_newString_0 4 rfl rfl)
theorem dJ15_newString_6 : decode cJ15_newString 6 = .ok (.areturn, 1) := dk_176 (dk_at dksJ15_newString_0 6 rfl rfl)
theorem dJ15_newString_7 : decode cJ15_newString 7 = .ok (.new 1, 3) := dk_187 0 1 (dk_at dksJ15_newString_0 7 rfl rfl)
theorem dJ15_newString_10 : decode cJ15_newString 10 = .ok (.dup, 1) := dk_89 (dk_at dksJ15_newString_0 10 rfl rfl)
theorem dJ15_newString_11 : decode cJ15_newString 11 = .ok (.aload_n 0, 1) := dk_42 (dk_at dksJ15_newString_0 11 rfl rfl)
theorem dJ15_newString_12 : decode cJ15_newString 12 = .ok (.iload_n 1, 1) := dk_27 (dk_at dksJ15_newString_0 12 rfl rfl)
theorem dJ15_newString_13 : decode cJ15_newString 13 = .ok (.iload_n 1, 1) := dk_27 (dk_at dksJ15_newString_0 13 rfl rfl)
theorem dJ15_newString_14 : decode cJ15_newString 14 = .ok (.iload_n 2, 1) := dk_28 (dk_at dksJ15_newString_0 14 rfl rfl)
theorem dJ15_newString_15 : decode cJ15_newString 15 = .ok (.iadd, 1) := dk_96 (dk_at dksJ15_newString_0 15 rfl rfl)
theorem dJ15_newString_16 : decode cJ15_newString 16 = .ok (.invokestatic 232, 3) := dk_184 0 232 (dk_at dksJ15_newString_0 16 rfl rfl)
theorem dJ15_newString_19 : decode cJ15_newString 19 = .ok (.iconst 0, 1) := dk_3 (dk_at dksJ15_newString_0 19 rfl rfl)
theorem dJ15_newString_20 : decode cJ15_newString 20 = .ok (.invokespecial 112, 3) := dk_183 0 112 (dk_at dksJ15_newString_0 20 rfl rfl)
theorem dJ15_newString_23 : decode cJ15_newString 23 = .ok (.areturn, 1) := dk_176 (dk_at dksJ15_newString_0 23 rfl rfl)
theorem q56 : (Jvm.Cond.initialized "java/lang/StringLatin1") ∈ lw_all := lw_g (lw_at lw_m1 21 rfl) rfl
theorem q392 : (Jvm.Cond.static ({ cls := "java/lang/StringLatin1", name := "inflate", desc := "([BI[BII)V" } : Jvm.MethodName)) ∈ lw_all := lw_g (lw_at lw_m2 117 rfl) rfl
theorem q393 : (Jvm.Cond.code ({ cls := "java/lang/StringLatin1", name := "inflate", desc := "([BI[BII)V" } : Jvm.MethodName) prog_29_method_50_code (5 : Nat) (Option.none : Option Jvm.ClassFile.FieldType)) ∈ lw_all := lw_g (lw_at lw_m2 118 rfl) rfl
theorem q394 : (Jvm.Cond.methodLink "java/lang/StringLatin1" (240 : Nat) ({ cls := "java/lang/StringUTF16", name := "inflate", desc := "([BI[BII)V" } : Jvm.MethodName)) ∈ lw_all := lw_g (lw_at lw_m2 119 rfl) rfl
theorem q576 : (Jvm.Cond.static ({ cls := "java/lang/StringLatin1", name := "fillNull", desc := "([BII)V" } : Jvm.MethodName)) ∈ lw_all := lw_g (lw_at lw_m3 61 rfl) rfl
theorem q577 : (Jvm.Cond.code ({ cls := "java/lang/StringLatin1", name := "fillNull", desc := "([BII)V" } : Jvm.MethodName) prog_29_method_48_code (3 : Nat) (Option.none : Option Jvm.ClassFile.FieldType)) ∈ lw_all := lw_g (lw_at lw_m3 62 rfl) rfl
theorem q578 : (Jvm.Cond.methodLink "java/lang/StringLatin1" (236 : Nat) ({ cls := "java/util/Arrays", name := "fill", desc := "([BIIB)V" } : Jvm.MethodName)) ∈ lw_all := lw_g (lw_at lw_m3 63 rfl) rfl
theorem q769 : (Jvm.Cond.static ({ cls := "java/lang/StringLatin1", name := "equals", desc := "([B[B)Z" } : Jvm.MethodName)) ∈ lw_all := lw_g (lw_at lw_m4 14 rfl) rfl
theorem q770 : (Jvm.Cond.code ({ cls := "java/lang/StringLatin1", name := "equals", desc := "([B[B)Z" } : Jvm.MethodName) prog_29_method_13_code (3 : Nat) (Option.some Jvm.ClassFile.FieldType.boolean)) ∈ lw_all := lw_g (lw_at lw_m4 15 rfl) rfl
theorem q797 : (Jvm.Cond.static ({ cls := "java/lang/StringLatin1", name := "charAt", desc := "([BI)C" } : Jvm.MethodName)) ∈ lw_all := lw_g (lw_at lw_m4 42 rfl) rfl
theorem q798 : (Jvm.Cond.code ({ cls := "java/lang/StringLatin1", name := "charAt", desc := "([BI)C" } : Jvm.MethodName) prog_29_method_2_code (2 : Nat) (Option.some Jvm.ClassFile.FieldType.char)) ∈ lw_all := lw_g (lw_at lw_m4 43 rfl) rfl
theorem q799 : (Jvm.Cond.methodLink "java/lang/StringLatin1" (9 : Nat) ({ cls := "java/lang/String", name := "checkIndex", desc := "(II)V" } : Jvm.MethodName)) ∈ lw_all := lw_g (lw_at lw_m4 44 rfl) rfl
theorem q889 : (Jvm.Cond.static ({ cls := "java/lang/StringLatin1", name := "canEncode", desc := "(C)Z" } : Jvm.MethodName)) ∈ lw_all := lw_g (lw_at lw_m4 134 rfl) rfl
theorem q890 : (Jvm.Cond.code ({ cls := "java/lang/StringLatin1", name := "canEncode", desc := "(C)Z" } : Jvm.MethodName) prog_29_method_3_code (1 : Nat) (Option.some Jvm.ClassFile.FieldType.boolean)) ∈ lw_all := lw_g (lw_at lw_m4 135 rfl) rfl
theorem q930 : (Jvm.Cond.static ({ cls := "java/lang/StringLatin1", name := "newString", desc := "([BII)Ljava/lang/String;" } : Jvm.MethodName)) ∈ lw_all := lw_g (lw_at lw_m4 175 rfl) rfl
theorem q931 : (Jvm.Cond.code ({ cls := "java/lang/StringLatin1", name := "newString", desc := "([BII)Ljava/lang/String;" } : Jvm.MethodName) prog_29_method_47_code (3 : Nat) (Option.some (Jvm.ClassFile.FieldType.object "java/lang/String"))) ∈ lw_all := lw_g (lw_at lw_m4 176 rfl) rfl
theorem q932 : (Jvm.Cond.stringRef "java/lang/StringLatin1" (151 : Nat) "") ∈ lw_tbl := lw_at lw_m4 177 rfl
theorem q933 : (Jvm.Cond.classLink "java/lang/StringLatin1" (1 : Nat) "java/lang/String") ∈ lw_all := lw_g (lw_at lw_m4 178 rfl) rfl
theorem q934 : (Jvm.Cond.methodLink "java/lang/StringLatin1" (232 : Nat) ({ cls := "java/util/Arrays", name := "copyOfRange", desc := "([BII)[B" } : Jvm.MethodName)) ∈ lw_all := lw_g (lw_at lw_m4 179 rfl) rfl
theorem q935 : (Jvm.Cond.methodLink "java/lang/StringLatin1" (112 : Nat) ({ cls := "java/lang/String", name := "<init>", desc := "([BB)V" } : Jvm.MethodName)) ∈ lw_all := lw_g (lw_at lw_m4 180 rfl) rfl

/-! jdk/internal/util/Preconditions -/
set_option maxRecDepth 100000
def RJ16 : String := "jdk/internal/util/Preconditions"
abbrev cJ16_checkFromToIndex : ByteArray := prog_47_method_12_code
def yJ16_checkFromToIndex : MethodName := ⟨RJ16, "checkFromToIndex", "(IIILjava/util/function/BiFunction;)I"⟩
def dkwJ16_checkFromToIndex_0 : List UInt8 := [26, 155, 0, 13, 26, 27, 163, 0, 8, 27, 28, 164, 0, 11, 45, 26, 27, 28, 184, 0, 99, 191, 26, 172]
abbrev dktJ16_checkFromToIndex_0 : List UInt8 := dkwJ16_checkFromToIndex_0 ++ []
theorem dksJ16_checkFromToIndex_0 : cJ16_checkFromToIndex.data.toList.drop 0 = dktJ16_checkFromToIndex_0 := by decide +kernel
theorem dJ16_checkFromToIndex_0 : decode cJ16_checkFromToIndex 0 = .ok (.iload_n 0, 1) := dk_26 (dk_at dksJ16_checkFromToIndex_0 0 rfl rfl)
theorem dJ16_checkFromToIndex_1 : decode cJ16_checkFromToIndex 1 = .ok (.ifCond .lt 13, 3) := dk_155 0 13 (dk_at dksJ16_checkFromToIndex_0 1 rfl rfl)
theorem dJ16_checkFromToIndex_4 : decode cJ16_checkFromToIndex 4 = .ok (.iload_n 0, 1) := dk_26 (dk_at dksJ16_checkFromToIndex_0 4 rfl rfl)
theorem dJ16_checkFromToIndex_5 : decode cJ16_checkFromToIndex 5 = .ok (.iload_n 1, 1) := dk_27 (dk_at dksJ16_checkFromToIndex_0 5 rfl rfl)
theorem dJ16_checkFromToIndex_6 : decode cJ16_checkFromToIndex 6 = .ok (.if_icmp .gt 8, 3) := dk_163 0 8 (dk_at dksJ16_checkFromToIndex_0 6 rfl rfl)
theorem dJ16_checkFromToIndex_9 : decode cJ16_checkFromToIndex 9 = .ok (.iload_n 1, 1) := dk_27 (dk_at dksJ16_checkFromToIndex_0 9 rfl rfl)
theorem dJ16_checkFromToIndex_10 : decode cJ16_checkFromToIndex 10 = .ok (.iload_n 2, 1) := dk_28 (dk_at dksJ16_checkFromToIndex_0 10 rfl rfl)
theorem dJ16_checkFromToIndex_11 : decode cJ16_checkFromToIndex 11 = .ok (.if_icmp .le 11, 3) := dk_164 0 11 (dk_at dksJ16_checkFromToIndex_0 11 rfl rfl)
theorem dJ16_checkFromToIndex_14 : decode cJ16_checkFromToIndex 14 = .ok (.aload_n 3, 1) := dk_45 (dk_at dksJ16_checkFromToIndex_0 14 rfl rfl)
theorem dJ16_checkFromToIndex_15 : decode cJ16_checkFromToIndex 15 = .ok (.iload_n 0, 1) := dk_26 (dk_at dksJ16_checkFromToIndex_0 15 rfl rfl)
theorem dJ16_checkFromToIndex_16 : decode cJ16_checkFromToIndex 16 = .ok (.iload_n 1, 1) := dk_27 (dk_at dksJ16_checkFromToIndex_0 16 rfl rfl)
theorem dJ16_checkFromToIndex_17 : decode cJ16_checkFromToIndex 17 = .ok (.iload_n 2, 1) := dk_28 (dk_at dksJ16_checkFromToIndex_0 17 rfl rfl)
theorem dJ16_checkFromToIndex_18 : decode cJ16_checkFromToIndex 18 = .ok (.invokestatic 99, 3) := dk_184 0 99 (dk_at dksJ16_checkFromToIndex_0 18 rfl rfl)
theorem dJ16_checkFromToIndex_21 : decode cJ16_checkFromToIndex 21 = .ok (.athrow, 1) := dk_191 (dk_at dksJ16_checkFromToIndex_0 21 rfl rfl)
theorem dJ16_checkFromToIndex_22 : decode cJ16_checkFromToIndex 22 = .ok (.iload_n 0, 1) := dk_26 (dk_at dksJ16_checkFromToIndex_0 22 rfl rfl)
theorem dJ16_checkFromToIndex_23 : decode cJ16_checkFromToIndex 23 = .ok (.ireturn, 1) := dk_172 (dk_at dksJ16_checkFromToIndex_0 23 rfl rfl)
abbrev cJ16_checkFromIndexSize : ByteArray := prog_47_method_13_code
def yJ16_checkFromIndexSize : MethodName := ⟨RJ16, "checkFromIndexSize", "(IIILjava/util/function/BiFunction;)I"⟩
def dkwJ16_checkFromIndexSize_1 : List UInt8 := [172]
abbrev dktJ16_checkFromIndexSize_1 : List UInt8 := dkwJ16_checkFromIndexSize_1 ++ []
def dkwJ16_checkFromIndexSize_0 : List UInt8 := [28, 26, 128, 27, 128, 155, 0, 10, 27, 28, 26, 100, 164, 0, 11, 45, 26, 27, 28, 184, 0, 103, 191, 26]
abbrev dktJ16_checkFromIndexSize_0 : List UInt8 := dkwJ16_checkFromIndexSize_0 ++ dktJ16_checkFromIndexSize_1
theorem dksJ16_checkFromIndexSize_0 : cJ16_checkFromIndexSize.data.toList.drop 0 = dktJ16_checkFromIndexSize_0 := by decide +kernel
theorem dksJ16_checkFromIndexSize_1 : cJ16_checkFromIndexSize.data.toList.drop 24 = dktJ16_checkFromIndexSize_1 := dk_seg dksJ16_checkFromIndexSize_0 24 rfl rfl
theorem dJ16_checkFromIndexSize_0 : decode cJ16_checkFromIndexSize 0 = .ok (.iload_n 2, 1) := dk_28 (dk_at dksJ16_checkFromIndexSize_0 0 rfl rfl)
theorem dJ16_checkFromIndexSize_1 : decode cJ16_checkFromIndexSize 1 = .ok (.iload_n 0, 1) := dk_26 (dk_at dksJ16_checkFromIndexSize_0 1 rfl rfl)
theorem dJ16_checkFromIndexSize_2 : decode cJ16_checkFromIndexSize 2 = .ok (.ior, 1) := dk_128 (dk_at dksJ16_checkFromIndexSize_0 2 rfl rfl)
theorem dJ16_checkFromIndexSize_3 : decode cJ16_checkFromIndexSize 3 = .ok (.iload_n 1, 1) := dk_27 (dk_at dksJ16_checkFromIndexSize_0 3 rfl rfl)
theorem dJ16_checkFromIndexSize_4 : decode cJ16_checkFromIndexSize 4 = .ok (.ior, 1) := dk_128 (dk_at dksJ16_checkFromIndexSize_0 4 rfl rfl)
theorem dJ16_checkFromIndexSize_5 : decode cJ16_checkFromIndexSize 5 = .ok (.ifCond .lt 10, 3) := dk_155 0 10 (dk_at dksJ16_checkFromIndexSize_0 5 rfl rfl)
theorem dJ16_checkFromIndexSize_8 : decode cJ16_checkFromIndexSize 8 = .ok (.iload_n 1, 1) := dk_27 (dk_at dksJ16_checkFromIndexSize_0 8 rfl rfl)
theorem dJ16_checkFromIndexSize_9 : decode cJ16_checkFromIndexSize 9 = .ok (.iload_n 2, 1) := dk_28 (dk_at dksJ16_checkFromIndexSize_0 9 rfl rfl)
theorem dJ16_checkFromIndexSize_10 : decode cJ16_checkFromIndexSize 10 = .ok (.iload_n 0, 1) := dk_26 (dk_at dksJ16_checkFromIndexSize_0 10 rfl rfl)
theorem dJ16_checkFromIndexSize_11 : decode cJ16_checkFromIndexSize 11 = .ok (.isub, 1) := dk_100 (dk_at dksJ16_checkFromIndexSize_0 11 rfl rfl)
theorem dJ16_checkFromIndexSize_12 : decode cJ16_checkFromIndexSize 12 = .ok (.if_icmp .le 11, 3) := dk_164 0 11 (dk_at dksJ16_checkFromIndexSize_0 12 rfl rfl)
theorem dJ16_checkFromIndexSize_15 : decode cJ16_checkFromIndexSize 15 = .ok (.aload_n 3, 1) := dk_45 (dk_at dksJ16_checkFromIndexSize_0 15 rfl rfl)
theorem dJ16_checkFromIndexSize_16 : decode cJ16_checkFromIndexSize 16 = .ok (.iload_n 0, 1) := dk_26 (dk_at dksJ16_checkFromIndexSize_0 16 rfl rfl)
theorem dJ16_checkFromIndexSize_17 : decode cJ16_checkFromIndexSize 17 = .ok (.iload_n 1, 1) := dk_27 (dk_at dksJ16_checkFromIndexSize_0 17 rfl rfl)
theorem dJ16_checkFromIndexSize_18 : decode cJ16_checkFromIndexSize 18 = .ok (.iload_n 2, 1) := dk_28 (dk_at dksJ16_checkFromIndexSize_0 18 rfl rfl)
theorem dJ16_checkFromIndexSize_19 : decode cJ16_checkFromIndexSize 19 = .ok (.invokestatic 103, 3) := dk_184 0 103 (dk_at dksJ16_checkFromIndexSize_0 19 rfl rfl)
theorem dJ16_checkFromIndexSize_22 : decode cJ16_checkFromIndexSize 22 = .ok (.athrow, 1) := dk_191 (dk_at dksJ16_checkFromIndexSize_0 22 rfl rfl)
theorem dJ16_checkFromIndexSize_23 : decode cJ16_checkFromIndexSize 23 = .ok (.iload_n 0, 1) := dk_26 (dk_at dksJ16_checkFromIndexSize_0 23 rfl rfl)
theorem dJ16_checkFromIndexSize_24 : decode cJ16_checkFromIndexSize 24 = .ok (.ireturn, 1) := dk_172 (dk_at dksJ16_checkFromIndexSize_1 0 rfl rfl)
abbrev cJ16_checkIndex : ByteArray := prog_47_method_11_code
def yJ16_checkIndex : MethodName := ⟨RJ16, "checkIndex", "(IILjava/util/function/BiFunction;)I"⟩
def dkwJ16_checkIndex_0 : List UInt8 := [26, 155, 0, 8, 26, 27, 161, 0, 10, 44, 26, 27, 184, 0, 95, 191, 26, 172]
abbrev dktJ16_checkIndex_0 : List UInt8 := dkwJ16_checkIndex_0 ++ []
theorem dksJ16_checkIndex_0 : cJ16_checkIndex.data.toList.drop 0 = dktJ16_checkIndex_0 := by decide +kernel
theorem dJ16_checkIndex_0 : decode cJ16_checkIndex 0 = .ok (.iload_n 0, 1) := dk_26 (dk_at dksJ16_checkIndex_0 0 rfl rfl)
theorem dJ16_checkIndex_1 : decode cJ16_checkIndex 1 = .ok (.ifCond .lt 8, 3) := dk_155 0 8 (dk_at dksJ16_checkIndex_0 1 rfl rfl)
theorem dJ16_checkIndex_4 : decode cJ16_checkIndex 4 = .ok (.iload_n 0, 1) := dk_26 (dk_at dksJ16_checkIndex_0 4 rfl rfl)
theorem dJ16_checkIndex_5 : decode cJ16_checkIndex 5 = .ok (.iload_n 1, 1) := dk_27 (dk_at dksJ16_checkIndex_0 5 rfl rfl)
theorem dJ16_checkIndex_6 : decode cJ16_checkIndex 6 = .ok (.if_icmp .lt 10, 3) := dk_161 0 10 (dk_at dksJ16_checkIndex_0 6 rfl rfl)
theorem dJ16_checkIndex_9 : decode cJ16_checkIndex 9 = .ok (.aload_n 2, 1) := dk_44 (dk_at dksJ16_checkIndex_0 9 rfl rfl)
theorem dJ16_checkIndex_10 : decode cJ16_checkIndex 10 = .ok (.iload_n 0, 1) := dk_26 (dk_at dksJ16_checkIndex_0 10 rfl rfl)
theorem dJ16_checkIndex_11 : decode cJ16_checkIndex 11 = .ok (.iload_n 1, 1) := dk_27 (dk_at dksJ16_checkIndex_0 11 rfl rfl)
theorem dJ16_checkIndex_12 : decode cJ16_checkIndex 12 = .ok (.invokestatic 95, 3) := dk_184 0 95 (dk_at dksJ16_checkIndex_0 12 rfl rfl)
theorem dJ16_checkIndex_15 : decode cJ16_checkIndex 15 = .ok (.athrow, 1) := dk_191 (dk_at dksJ16_checkIndex_0 15 rfl rfl)
theorem dJ16_checkIndex_16 : decode cJ16_checkIndex 16 = .ok (.iload_n 0, 1) := dk_26 (dk_at dksJ16_checkIndex_0 16 rfl rfl)
theorem dJ16_checkIndex_17 : decode cJ16_checkIndex 17 = .ok (.ireturn, 1) := dk_172 (dk_at dksJ16_checkIndex_0 17 rfl rfl)
theorem q57 : (Jvm.Cond.initialized "jdk/internal/util/Preconditions") ∈ lw_all := lw_g (lw_at lw_m1 22 rfl) rfl
theorem q356 : (Jvm.Cond.laysStatic "jdk/internal/util/Preconditions" "SIOOBE_FORMATTER" "Ljava/util/function/BiFunction;") ∈ lw_tbl := lw_at lw_m2 81 rfl
theorem q358 : (Jvm.Cond.static ({ cls := "jdk/internal/util/Preconditions", name := "checkFromToIndex", desc := "(IIILjava/util/function/BiFunction;)I" } : Jvm.MethodName)) ∈ lw_all := lw_g (lw_at lw_m2 83 rfl) rfl
theorem q359 : (Jvm.Cond.code ({ cls := "jdk/internal/util/Preconditions", name := "checkFromToIndex", desc := "(IIILjava/util/function/BiFunction;)I" } : Jvm.MethodName) prog_47_method_12_code (4 : Nat) (Option.some Jvm.ClassFile.FieldType.int)) ∈ lw_all := lw_g (lw_at lw_m2 84 rfl) rfl
theorem q404 : (Jvm.Cond.static ({ cls := "jdk/internal/util/Preconditions", name := "checkFromIndexSize", desc := "(IIILjava/util/function/BiFunction;)I" } : Jvm.MethodName)) ∈ lw_all := lw_g (lw_at lw_m2 129 rfl) rfl
theorem q405 : (Jvm.Cond.code ({ cls := "jdk/internal/util/Preconditions", name := "checkFromIndexSize", desc := "(IIILjava/util/function/BiFunction;)I" } : Jvm.MethodName) prog_47_method_13_code (4 : Nat) (Option.some Jvm.ClassFile.FieldType.int)) ∈ lw_all := lw_g (lw_at lw_m2 130 rfl) rfl
theorem q634 : (Jvm.Cond.static ({ cls := "jdk/internal/util/Preconditions", name := "checkIndex", desc := "(IILjava/util/function/BiFunction;)I" } : Jvm.MethodName)) ∈ lw_all := lw_g (lw_at lw_m3 119 rfl) rfl
theorem q635 : (Jvm.Cond.code ({ cls := "jdk/internal/util/Preconditions", name := "checkIndex", desc := "(IILjava/util/function/BiFunction;)I" } : Jvm.MethodName) prog_47_method_11_code (3 : Nat) (Option.some Jvm.ClassFile.FieldType.int)) ∈ lw_all := lw_g (lw_at lw_m3 120 rfl) rfl

/-! java/util/Objects -/
set_option maxRecDepth 100000
def RJ21 : String := "java/util/Objects"
abbrev cJ21_checkIndex : ByteArray := prog_41_method_17_code
def yJ21_checkIndex : MethodName := ⟨RJ21, "checkIndex", "(II)I"⟩
def dkwJ21_checkIndex_0 : List UInt8 := [26, 27, 1, 184, 0, 105, 172]
abbrev dktJ21_checkIndex_0 : List UInt8 := dkwJ21_checkIndex_0 ++ []
theorem dksJ21_checkIndex_0 : cJ21_checkIndex.data.toList.drop 0 = dktJ21_checkIndex_0 := by decide +kernel
theorem dJ21_checkIndex_0 : decode cJ21_checkIndex 0 = .ok (.iload_n 0, 1) := dk_26 (dk_at dksJ21_checkIndex_0 0 rfl rfl)
theorem dJ21_checkIndex_1 : decode cJ21_checkIndex 1 = .ok (.iload_n 1, 1) := dk_27 (dk_at dksJ21_checkIndex_0 1 rfl rfl)
theorem dJ21_checkIndex_2 : decode cJ21_checkIndex 2 = .ok (.aconst_null, 1) := dk_1 (dk_at dksJ21_checkIndex_0 2 rfl rfl)
theorem dJ21_checkIndex_3 : decode cJ21_checkIndex 3 = .ok (.invokestatic 105, 3) := dk_184 0 105 (dk_at dksJ21_checkIndex_0 3 rfl rfl)
theorem dJ21_checkIndex_6 : decode cJ21_checkIndex 6 = .ok (.ireturn, 1) := dk_172 (dk_at dksJ21_checkIndex_0 6 rfl rfl)
theorem q63 : (Jvm.Cond.initialized "java/util/Objects") ∈ lw_all := lw_g (lw_at lw_m1 28 rfl) rfl
theorem q631 : (Jvm.Cond.static ({ cls := "java/util/Objects", name := "checkIndex", desc := "(II)I" } : Jvm.MethodName)) ∈ lw_all := lw_g (lw_at lw_m3 116 rfl) rfl
theorem q632 : (Jvm.Cond.code ({ cls := "java/util/Objects", name := "checkIndex", desc := "(II)I" } : Jvm.MethodName) prog_41_method_17_code (2 : Nat) (Option.some Jvm.ClassFile.FieldType.int)) ∈ lw_all := lw_g (lw_at lw_m3 117 rfl) rfl
theorem q633 : (Jvm.Cond.methodLink "java/util/Objects" (105 : Nat) ({ cls := "jdk/internal/util/Preconditions", name := "checkIndex", desc := "(IILjava/util/function/BiFunction;)I" } : Jvm.MethodName)) ∈ lw_all := lw_g (lw_at lw_m3 118 rfl) rfl

/-! java/lang/Throwable -/
set_option maxRecDepth 100000
def RJ10 : String := "java/lang/Throwable"
def TJ10 : u_T := fun k => match k with
  | 0 => ("java/lang/Throwable", "cause", "Ljava/lang/Throwable;", false)
  | 1 => ("java/lang/Throwable", "stackTrace", "[Ljava/lang/StackTraceElement;", false)
  | 2 => ("java/lang/Throwable", "suppressedExceptions", "Ljava/util/List;", false)
  | 3 => ("java/lang/Throwable", "detailMessage", "Ljava/lang/String;", false)
  | _ => ("java/lang/Throwable", "backtrace", "Ljava/lang/Object;", false)
def tyJ10 : Nat → FieldType := fun k => match k with
  | 0 => .object "java/lang/Throwable"
  | 1 => .array (.object "java/lang/StackTraceElement")
  | 2 => .object "java/util/List"
  | 3 => .object "java/lang/String"
  | _ => .object "java/lang/Object"
abbrev wsJ100 : List Cond := u_ws RJ10 TJ10 5
theorem nmJ10 : ∀ a, a < 5 → ∀ b, b < 5 → a ≠ b → (TJ10 a).2.1 ≠ (TJ10 b).2.1 := by decide +kernel
theorem tyJ10_ok : ∀ k, k < 5 → parseFieldDescriptor (TJ10 k).2.2.1 = some (tyJ10 k) := by decide +kernel
abbrev cJ10_init : ByteArray := prog_32_method_1_code
def yJ10_init : MethodName := ⟨RJ10, "<init>", "()V"⟩
def dkwJ10_init_1 : List UInt8 := [182, 0, 27, 87, 177]
abbrev dktJ10_init_1 : List UInt8 := dkwJ10_init_1 ++ []
def dkwJ10_init_0 : List UInt8 := [42, 183, 0, 1, 42, 42, 181, 0, 7, 42, 178, 0, 13, 181, 0, 17, 42, 178, 0, 20, 181, 0, 24, 42]
abbrev dktJ10_init_0 : List UInt8 := dkwJ10_init_0 ++ dktJ10_init_1
theorem dksJ10_init_0 : cJ10_init.data.toList.drop 0 = dktJ10_init_0 := by decide +kernel
theorem dksJ10_init_1 : cJ10_init.data.toList.drop 24 = dktJ10_init_1 := dk_seg dksJ10_init_0 24 rfl rfl
theorem dJ10_init_0 : decode cJ10_init 0 = .ok (.aload_n 0, 1) := dk_42 (dk_at dksJ10_init_0 0 rfl rfl)
theorem dJ10_init_1 : decode cJ10_init 1 = .ok (.invokespecial 1, 3) := dk_183 0 1 (dk_at dksJ10_init_0 1 rfl rfl)
theorem dJ10_init_4 : decode cJ10_init 4 = .ok (.aload_n 0, 1) := dk_42 (dk_at dksJ10_init_0 4 rfl rfl)
theorem dJ10_init_5 : decode cJ10_init 5 = .ok (.aload_n 0, 1) := dk_42 (dk_at dksJ10_init_0 5 rfl rfl)
theorem dJ10_init_6 : decode cJ10_init 6 = .ok (.putfield 7, 3) := dk_181 0 7 (dk_at dksJ10_init_0 6 rfl rfl)
theorem dJ10_init_9 : decode cJ10_init 9 = .ok (.aload_n 0, 1) := dk_42 (dk_at dksJ10_init_0 9 rfl rfl)
theorem dJ10_init_10 : decode cJ10_init 10 = .ok (.getstatic 13, 3) := dk_178 0 13 (dk_at dksJ10_init_0 10 rfl rfl)
theorem dJ10_init_13 : decode cJ10_init 13 = .ok (.putfield 17, 3) := dk_181 0 17 (dk_at dksJ10_init_0 13 rfl rfl)
theorem dJ10_init_16 : decode cJ10_init 16 = .ok (.aload_n 0, 1) := dk_42 (dk_at dksJ10_init_0 16 rfl rfl)
theorem dJ10_init_17 : decode cJ10_init 17 = .ok (.getstatic 20, 3) := dk_178 0 20 (dk_at dksJ10_init_0 17 rfl rfl)
theorem dJ10_init_20 : decode cJ10_init 20 = .ok (.putfield 24, 3) := dk_181 0 24 (dk_at dksJ10_init_0 20 rfl rfl)
theorem dJ10_init_23 : decode cJ10_init 23 = .ok (.aload_n 0, 1) := dk_42 (dk_at dksJ10_init_0 23 rfl rfl)
theorem dJ10_init_24 : decode cJ10_init 24 = .ok (.invokevirtual 27, 3) := dk_182 0 27 (dk_at dksJ10_init_1 0 rfl rfl)
theorem dJ10_init_27 : decode cJ10_init 27 = .ok (.pop, 1) := dk_87 (dk_at dksJ10_init_1 3 rfl rfl)
theorem dJ10_init_28 : decode cJ10_init 28 = .ok (.return_, 1) := dk_177 (dk_at dksJ10_init_1 4 rfl rfl)
abbrev cJ10_init_2 : ByteArray := prog_32_method_2_code
def yJ10_init_2 : MethodName := ⟨RJ10, "<init>", "(Ljava/lang/String;)V"⟩
def dkwJ10_init_2_1 : List UInt8 := [182, 0, 27, 87, 42, 43, 181, 0, 31, 177]
abbrev dktJ10_init_2_1 : List UInt8 := dkwJ10_init_2_1 ++ []
def dkwJ10_init_2_0 : List UInt8 := [42, 183, 0, 1, 42, 42, 181, 0, 7, 42, 178, 0, 13, 181, 0, 17, 42, 178, 0, 20, 181, 0, 24, 42]
abbrev dktJ10_init_2_0 : List UInt8 := dkwJ10_init_2_0 ++ dktJ10_init_2_1
theorem dksJ10_init_2_0 : cJ10_init_2.data.toList.drop 0 = dktJ10_init_2_0 := by decide +kernel
theorem dksJ10_init_2_1 : cJ10_init_2.data.toList.drop 24 = dktJ10_init_2_1 := dk_seg dksJ10_init_2_0 24 rfl rfl
theorem dJ10_init_2_0 : decode cJ10_init_2 0 = .ok (.aload_n 0, 1) := dk_42 (dk_at dksJ10_init_2_0 0 rfl rfl)
theorem dJ10_init_2_1 : decode cJ10_init_2 1 = .ok (.invokespecial 1, 3) := dk_183 0 1 (dk_at dksJ10_init_2_0 1 rfl rfl)
theorem dJ10_init_2_4 : decode cJ10_init_2 4 = .ok (.aload_n 0, 1) := dk_42 (dk_at dksJ10_init_2_0 4 rfl rfl)
theorem dJ10_init_2_5 : decode cJ10_init_2 5 = .ok (.aload_n 0, 1) := dk_42 (dk_at dksJ10_init_2_0 5 rfl rfl)
theorem dJ10_init_2_6 : decode cJ10_init_2 6 = .ok (.putfield 7, 3) := dk_181 0 7 (dk_at dksJ10_init_2_0 6 rfl rfl)
theorem dJ10_init_2_9 : decode cJ10_init_2 9 = .ok (.aload_n 0, 1) := dk_42 (dk_at dksJ10_init_2_0 9 rfl rfl)
theorem dJ10_init_2_10 : decode cJ10_init_2 10 = .ok (.getstatic 13, 3) := dk_178 0 13 (dk_at dksJ10_init_2_0 10 rfl rfl)
theorem dJ10_init_2_13 : decode cJ10_init_2 13 = .ok (.putfield 17, 3) := dk_181 0 17 (dk_at dksJ10_init_2_0 13 rfl rfl)
theorem dJ10_init_2_16 : decode cJ10_init_2 16 = .ok (.aload_n 0, 1) := dk_42 (dk_at dksJ10_init_2_0 16 rfl rfl)
theorem dJ10_init_2_17 : decode cJ10_init_2 17 = .ok (.getstatic 20, 3) := dk_178 0 20 (dk_at dksJ10_init_2_0 17 rfl rfl)
theorem dJ10_init_2_20 : decode cJ10_init_2 20 = .ok (.putfield 24, 3) := dk_181 0 24 (dk_at dksJ10_init_2_0 20 rfl rfl)
theorem dJ10_init_2_23 : decode cJ10_init_2 23 = .ok (.aload_n 0, 1) := dk_42 (dk_at dksJ10_init_2_0 23 rfl rfl)
theorem dJ10_init_2_24 : decode cJ10_init_2 24 = .ok (.invokevirtual 27, 3) := dk_182 0 27 (dk_at dksJ10_init_2_1 0 rfl rfl)
theorem dJ10_init_2_27 : decode cJ10_init_2 27 = .ok (.pop, 1) := dk_87 (dk_at dksJ10_init_2_1 3 rfl rfl)
theorem dJ10_init_2_28 : decode cJ10_init_2 28 = .ok (.aload_n 0, 1) := dk_42 (dk_at dksJ10_init_2_1 4 rfl rfl)
theorem dJ10_init_2_29 : decode cJ10_init_2 29 = .ok (.aload_n 1, 1) := dk_43 (dk_at dksJ10_init_2_1 5 rfl rfl)
theorem dJ10_init_2_30 : decode cJ10_init_2 30 = .ok (.putfield 31, 3) := dk_181 0 31 (dk_at dksJ10_init_2_1 6 rfl rfl)
theorem dJ10_init_2_33 : decode cJ10_init_2 33 = .ok (.return_, 1) := dk_177 (dk_at dksJ10_init_2_1 9 rfl rfl)
theorem q51 : (Jvm.Cond.initialized "java/lang/Throwable") ∈ lw_all := lw_g (lw_at lw_m1 16 rfl) rfl
theorem q473 : (Jvm.Cond.declares ({ cls := "java/lang/Throwable", name := "<init>", desc := "()V" } : Jvm.MethodName)) ∈ lw_tbl := lw_at lw_m2 198 rfl
theorem q474 : (Jvm.Cond.declares ({ cls := "java/lang/Throwable", name := "<init>", desc := "(Ljava/lang/String;)V" } : Jvm.MethodName)) ∈ lw_tbl := lw_at lw_m2 199 rfl
theorem q478 : (Jvm.Cond.lays "java/lang/Throwable" "java/lang/Throwable" "cause" "Ljava/lang/Throwable;") ∈ lw_all := lw_g (lw_at lw_m2 203 rfl) rfl
theorem q480 : (Jvm.Cond.lays "java/lang/Throwable" "java/lang/Throwable" "stackTrace" "[Ljava/lang/StackTraceElement;") ∈ lw_all := lw_g (lw_at lw_m2 205 rfl) rfl
theorem q482 : (Jvm.Cond.lays "java/lang/Throwable" "java/lang/Throwable" "suppressedExceptions" "Ljava/util/List;") ∈ lw_all := lw_g (lw_at lw_m2 207 rfl) rfl
theorem q484 : (Jvm.Cond.lays "java/lang/Throwable" "java/lang/Throwable" "detailMessage" "Ljava/lang/String;") ∈ lw_all := lw_g (lw_at lw_m2 209 rfl) rfl
theorem q486 : (Jvm.Cond.lays "java/lang/Throwable" "java/lang/Throwable" "backtrace" "Ljava/lang/Object;") ∈ lw_all := lw_g (lw_at lw_m2 211 rfl) rfl
theorem q487 : (Jvm.Cond.fieldLink "java/lang/Throwable" (198 : Nat) "java/lang/Throwable" "backtrace" "Ljava/lang/Object;") ∈ lw_all := lw_g (lw_at lw_m2 212 rfl) rfl
theorem q488 : (Jvm.Cond.superclass "java/lang/Throwable" "java/lang/Object") ∈ lw_all := lw_g (lw_at lw_m2 213 rfl) rfl
theorem q489 : (Jvm.Cond.instanceMethod ({ cls := "java/lang/Throwable", name := "<init>", desc := "()V" } : Jvm.MethodName)) ∈ lw_all := lw_g (lw_at lw_m2 214 rfl) rfl
theorem q490 : (Jvm.Cond.code ({ cls := "java/lang/Throwable", name := "<init>", desc := "()V" } : Jvm.MethodName) prog_32_method_1_code (1 : Nat) (Option.none : Option Jvm.ClassFile.FieldType)) ∈ lw_all := lw_g (lw_at lw_m2 215 rfl) rfl
theorem q491 : (Jvm.Cond.methodLink "java/lang/Throwable" (1 : Nat) ({ cls := "java/lang/Object", name := "<init>", desc := "()V" } : Jvm.MethodName)) ∈ lw_all := lw_g (lw_at lw_m2 216 rfl) rfl
theorem q492 : (Jvm.Cond.fieldLink "java/lang/Throwable" (13 : Nat) "java/lang/Throwable" "UNASSIGNED_STACK" "[Ljava/lang/StackTraceElement;") ∈ lw_all := lw_g (lw_at lw_m2 217 rfl) rfl
theorem q493 : (Jvm.Cond.laysStatic "java/lang/Throwable" "UNASSIGNED_STACK" "[Ljava/lang/StackTraceElement;") ∈ lw_tbl := lw_at lw_m2 218 rfl
theorem q494 : (Jvm.Cond.fieldLink "java/lang/Throwable" (20 : Nat) "java/lang/Throwable" "SUPPRESSED_SENTINEL" "Ljava/util/List;") ∈ lw_all := lw_g (lw_at lw_m2 219 rfl) rfl
theorem q495 : (Jvm.Cond.laysStatic "java/lang/Throwable" "SUPPRESSED_SENTINEL" "Ljava/util/List;") ∈ lw_tbl := lw_at lw_m2 220 rfl
theorem q496 : (Jvm.Cond.methodLink "java/lang/Throwable" (27 : Nat) ({ cls := "java/lang/Throwable", name := "fillInStackTrace", desc := "()Ljava/lang/Throwable;" } : Jvm.MethodName)) ∈ lw_all := lw_g (lw_at lw_m2 221 rfl) rfl
theorem q497 : (Jvm.Cond.instanceMethod ({ cls := "java/lang/Throwable", name := "fillInStackTrace", desc := "()Ljava/lang/Throwable;" } : Jvm.MethodName)) ∈ lw_all := lw_g (lw_at lw_m2 222 rfl) rfl
theorem q498 : (Jvm.Cond.sameMethod "java/lang/Throwable" "java/lang/Throwable" "fillInStackTrace" "()Ljava/lang/Throwable;") ∈ lw_all := lw_g (lw_at lw_m2 223 rfl) rfl
theorem q503 : (Jvm.Cond.codeSync ({ cls := "java/lang/Throwable", name := "fillInStackTrace", desc := "()Ljava/lang/Throwable;" } : Jvm.MethodName) prog_32_method_18_code (1 : Nat) (Option.some (Jvm.ClassFile.FieldType.object "java/lang/Throwable"))) ∈ lw_all := lw_g (lw_at lw_m2 228 rfl) rfl
theorem q504 : (Jvm.Cond.methodLink "java/lang/Throwable" (202 : Nat) ({ cls := "java/lang/Throwable", name := "fillInStackTrace", desc := "(I)Ljava/lang/Throwable;" } : Jvm.MethodName)) ∈ lw_all := lw_g (lw_at lw_m2 229 rfl) rfl
theorem q505 : (Jvm.Cond.privateMethod ({ cls := "java/lang/Throwable", name := "fillInStackTrace", desc := "(I)Ljava/lang/Throwable;" } : Jvm.MethodName)) ∈ lw_tbl := lw_at lw_m2 230 rfl
theorem q506 : (Jvm.Cond.instanceMethod ({ cls := "java/lang/Throwable", name := "fillInStackTrace", desc := "(I)Ljava/lang/Throwable;" } : Jvm.MethodName)) ∈ lw_all := lw_g (lw_at lw_m2 231 rfl) rfl
theorem q507 : (Jvm.Cond.instantiable "java/lang/Throwable" (6 : Nat)) ∈ lw_all := lw_g (lw_at lw_m2 232 rfl) rfl
theorem q508 : (Jvm.Cond.native ({ cls := "java/lang/Throwable", name := "fillInStackTrace", desc := "(I)Ljava/lang/Throwable;" } : Jvm.MethodName)) ∈ lw_all := lw_g (lw_at lw_m2 233 rfl) rfl
theorem q525 : (Jvm.Cond.instanceMethod ({ cls := "java/lang/Throwable", name := "<init>", desc := "(Ljava/lang/String;)V" } : Jvm.MethodName)) ∈ lw_all := lw_g (lw_at lw_m3 10 rfl) rfl
theorem q526 : (Jvm.Cond.code ({ cls := "java/lang/Throwable", name := "<init>", desc := "(Ljava/lang/String;)V" } : Jvm.MethodName) prog_32_method_2_code (2 : Nat) (Option.none : Option Jvm.ClassFile.FieldType)) ∈ lw_all := lw_g (lw_at lw_m3 11 rfl) rfl
theorem q527 : (Jvm.Cond.fieldLink "java/lang/Throwable" (198 : Nat) "java/lang/Throwable" "backtrace" "Ljava/lang/Object;") ∈ lw_all := lw_g (lw_at lw_m3 12 rfl) rfl
theorem q528 : (Jvm.Cond.fieldLink "java/lang/Throwable" (31 : Nat) "java/lang/Throwable" "detailMessage" "Ljava/lang/String;") ∈ lw_all := lw_g (lw_at lw_m3 13 rfl) rfl
theorem q529 : (Jvm.Cond.fieldLink "java/lang/Throwable" (7 : Nat) "java/lang/Throwable" "cause" "Ljava/lang/Throwable;") ∈ lw_all := lw_g (lw_at lw_m3 14 rfl) rfl
theorem q530 : (Jvm.Cond.fieldLink "java/lang/Throwable" (17 : Nat) "java/lang/Throwable" "stackTrace" "[Ljava/lang/StackTraceElement;") ∈ lw_all := lw_g (lw_at lw_m3 15 rfl) rfl
theorem q531 : (Jvm.Cond.fieldLink "java/lang/Throwable" (24 : Nat) "java/lang/Throwable" "suppressedExceptions" "Ljava/util/List;") ∈ lw_all := lw_g (lw_at lw_m3 16 rfl) rfl
theorem q532 : (Jvm.Cond.soleField "java/lang/Throwable" "backtrace") ∈ lw_all := lw_g (lw_at lw_m3 17 rfl) rfl
theorem q533 : (Jvm.Cond.soleField "java/lang/Throwable" "detailMessage") ∈ lw_all := lw_g (lw_at lw_m3 18 rfl) rfl
theorem q534 : (Jvm.Cond.soleField "java/lang/Throwable" "cause") ∈ lw_all := lw_g (lw_at lw_m3 19 rfl) rfl
theorem q535 : (Jvm.Cond.soleField "java/lang/Throwable" "stackTrace") ∈ lw_all := lw_g (lw_at lw_m3 20 rfl) rfl
theorem q537 : (Jvm.Cond.soleField "java/lang/Throwable" "depth") ∈ lw_all := lw_g (lw_at lw_m3 22 rfl) rfl
theorem q538 : (Jvm.Cond.soleField "java/lang/Throwable" "suppressedExceptions") ∈ lw_all := lw_g (lw_at lw_m3 23 rfl) rfl
theorem q1546 : (Jvm.Cond.sameMethod "java/lang/Throwable" "java/lang/Throwable" "fillInStackTrace" "(I)Ljava/lang/Throwable;") ∈ lw_all := lw_g (lw_at lw_m7 71 rfl) rfl
theorem q1576 : (Jvm.Cond.castable "java/lang/Throwable" "java/lang/Object") ∈ lw_tbl := lw_at lw_m7 101 rfl
theorem in_J10 : ∀ w ∈ wsJ100, w ∈ lw_all := lw_in wsJ100 [478, 480, 482, 484, 486] (by decide +kernel) (by decide +kernel)

/-! java/lang/Exception -/
set_option maxRecDepth 100000
def RJ11 : String := "java/lang/Exception"
abbrev cJ11_init : ByteArray := prog_15_method_2_code
def yJ11_init : MethodName := ⟨RJ11, "<init>", "(Ljava/lang/String;)V"⟩
def dkwJ11_init_0 : List UInt8 := [42, 43, 183, 0, 7, 177]
abbrev dktJ11_init_0 : List UInt8 := dkwJ11_init_0 ++ []
theorem dksJ11_init_0 : cJ11_init.data.toList.drop 0 = dktJ11_init_0 := by decide +kernel
theorem dJ11_init_0 : decode cJ11_init 0 = .ok (.aload_n 0, 1) := dk_42 (dk_at dksJ11_init_0 0 rfl rfl)
theorem dJ11_init_1 : decode cJ11_init 1 = .ok (.aload_n 1, 1) := dk_43 (dk_at dksJ11_init_0 1 rfl rfl)
theorem dJ11_init_2 : decode cJ11_init 2 = .ok (.invokespecial 7, 3) := dk_183 0 7 (dk_at dksJ11_init_0 2 rfl rfl)
theorem dJ11_init_5 : decode cJ11_init 5 = .ok (.return_, 1) := dk_177 (dk_at dksJ11_init_0 5 rfl rfl)
abbrev cJ11_init_2 : ByteArray := prog_15_method_1_code
def yJ11_init_2 : MethodName := ⟨RJ11, "<init>", "()V"⟩
theorem dJ11_init_2_0 : decode cJ11_init_2 0 = .ok (.aload_n 0, 1) := by decide +kernel
theorem dJ11_init_2_1 : decode cJ11_init_2 1 = .ok (.invokespecial 1, 3) := by decide +kernel
theorem dJ11_init_2_4 : decode cJ11_init_2 4 = .ok (.return_, 1) := by decide +kernel
theorem q52 : (Jvm.Cond.initialized "java/lang/Exception") ∈ lw_all := lw_g (lw_at lw_m1 17 rfl) rfl
theorem q471 : (Jvm.Cond.declares ({ cls := "java/lang/Exception", name := "<init>", desc := "()V" } : Jvm.MethodName)) ∈ lw_tbl := lw_at lw_m2 196 rfl
theorem q472 : (Jvm.Cond.declares ({ cls := "java/lang/Exception", name := "<init>", desc := "(Ljava/lang/String;)V" } : Jvm.MethodName)) ∈ lw_tbl := lw_at lw_m2 197 rfl
theorem q522 : (Jvm.Cond.instanceMethod ({ cls := "java/lang/Exception", name := "<init>", desc := "(Ljava/lang/String;)V" } : Jvm.MethodName)) ∈ lw_all := lw_g (lw_at lw_m3 7 rfl) rfl
theorem q523 : (Jvm.Cond.code ({ cls := "java/lang/Exception", name := "<init>", desc := "(Ljava/lang/String;)V" } : Jvm.MethodName) prog_15_method_2_code (2 : Nat) (Option.none : Option Jvm.ClassFile.FieldType)) ∈ lw_all := lw_g (lw_at lw_m3 8 rfl) rfl
theorem q524 : (Jvm.Cond.methodLink "java/lang/Exception" (7 : Nat) ({ cls := "java/lang/Throwable", name := "<init>", desc := "(Ljava/lang/String;)V" } : Jvm.MethodName)) ∈ lw_all := lw_g (lw_at lw_m3 9 rfl) rfl
theorem q860 : (Jvm.Cond.instanceMethod ({ cls := "java/lang/Exception", name := "<init>", desc := "()V" } : Jvm.MethodName)) ∈ lw_all := lw_g (lw_at lw_m4 105 rfl) rfl
theorem q861 : (Jvm.Cond.code ({ cls := "java/lang/Exception", name := "<init>", desc := "()V" } : Jvm.MethodName) prog_15_method_1_code (1 : Nat) (Option.none : Option Jvm.ClassFile.FieldType)) ∈ lw_all := lw_g (lw_at lw_m4 106 rfl) rfl
theorem q862 : (Jvm.Cond.methodLink "java/lang/Exception" (1 : Nat) ({ cls := "java/lang/Throwable", name := "<init>", desc := "()V" } : Jvm.MethodName)) ∈ lw_all := lw_g (lw_at lw_m4 107 rfl) rfl

/-! java/lang/RuntimeException -/
set_option maxRecDepth 100000
def RJ12 : String := "java/lang/RuntimeException"
abbrev cJ12_init : ByteArray := prog_24_method_2_code
def yJ12_init : MethodName := ⟨RJ12, "<init>", "(Ljava/lang/String;)V"⟩
def dkwJ12_init_0 : List UInt8 := [42, 43, 183, 0, 7, 177]
abbrev dktJ12_init_0 : List UInt8 := dkwJ12_init_0 ++ []
theorem dksJ12_init_0 : cJ12_init.data.toList.drop 0 = dktJ12_init_0 := by decide +kernel
theorem dJ12_init_0 : decode cJ12_init 0 = .ok (.aload_n 0, 1) := dk_42 (dk_at dksJ12_init_0 0 rfl rfl)
theorem dJ12_init_1 : decode cJ12_init 1 = .ok (.aload_n 1, 1) := dk_43 (dk_at dksJ12_init_0 1 rfl rfl)
theorem dJ12_init_2 : decode cJ12_init 2 = .ok (.invokespecial 7, 3) := dk_183 0 7 (dk_at dksJ12_init_0 2 rfl rfl)
theorem dJ12_init_5 : decode cJ12_init 5 = .ok (.return_, 1) := dk_177 (dk_at dksJ12_init_0 5 rfl rfl)
abbrev cJ12_init_2 : ByteArray := prog_24_method_1_code
def yJ12_init_2 : MethodName := ⟨RJ12, "<init>", "()V"⟩
theorem dJ12_init_2_0 : decode cJ12_init_2 0 = .ok (.aload_n 0, 1) := by decide +kernel
theorem dJ12_init_2_1 : decode cJ12_init_2 1 = .ok (.invokespecial 1, 3) := by decide +kernel
theorem dJ12_init_2_4 : decode cJ12_init_2 4 = .ok (.return_, 1) := by decide +kernel
theorem q53 : (Jvm.Cond.initialized "java/lang/RuntimeException") ∈ lw_all := lw_g (lw_at lw_m1 18 rfl) rfl
theorem q469 : (Jvm.Cond.declares ({ cls := "java/lang/RuntimeException", name := "<init>", desc := "()V" } : Jvm.MethodName)) ∈ lw_tbl := lw_at lw_m2 194 rfl
theorem q470 : (Jvm.Cond.declares ({ cls := "java/lang/RuntimeException", name := "<init>", desc := "(Ljava/lang/String;)V" } : Jvm.MethodName)) ∈ lw_tbl := lw_at lw_m2 195 rfl
theorem q519 : (Jvm.Cond.instanceMethod ({ cls := "java/lang/RuntimeException", name := "<init>", desc := "(Ljava/lang/String;)V" } : Jvm.MethodName)) ∈ lw_all := lw_g (lw_at lw_m3 4 rfl) rfl
theorem q520 : (Jvm.Cond.code ({ cls := "java/lang/RuntimeException", name := "<init>", desc := "(Ljava/lang/String;)V" } : Jvm.MethodName) prog_24_method_2_code (2 : Nat) (Option.none : Option Jvm.ClassFile.FieldType)) ∈ lw_all := lw_g (lw_at lw_m3 5 rfl) rfl
theorem q521 : (Jvm.Cond.methodLink "java/lang/RuntimeException" (7 : Nat) ({ cls := "java/lang/Exception", name := "<init>", desc := "(Ljava/lang/String;)V" } : Jvm.MethodName)) ∈ lw_all := lw_g (lw_at lw_m3 6 rfl) rfl
theorem q857 : (Jvm.Cond.instanceMethod ({ cls := "java/lang/RuntimeException", name := "<init>", desc := "()V" } : Jvm.MethodName)) ∈ lw_all := lw_g (lw_at lw_m4 102 rfl) rfl
theorem q858 : (Jvm.Cond.code ({ cls := "java/lang/RuntimeException", name := "<init>", desc := "()V" } : Jvm.MethodName) prog_24_method_1_code (1 : Nat) (Option.none : Option Jvm.ClassFile.FieldType)) ∈ lw_all := lw_g (lw_at lw_m4 103 rfl) rfl
theorem q859 : (Jvm.Cond.methodLink "java/lang/RuntimeException" (1 : Nat) ({ cls := "java/lang/Exception", name := "<init>", desc := "()V" } : Jvm.MethodName)) ∈ lw_all := lw_g (lw_at lw_m4 104 rfl) rfl

/-! java/lang/IllegalArgumentException -/
set_option maxRecDepth 100000
def RJ13 : String := "java/lang/IllegalArgumentException"
def TJ13 : u_T := fun k => match k with
  | 0 => ("java/lang/Throwable", "cause", "Ljava/lang/Throwable;", false)
  | 1 => ("java/lang/Throwable", "stackTrace", "[Ljava/lang/StackTraceElement;", false)
  | 2 => ("java/lang/Throwable", "suppressedExceptions", "Ljava/util/List;", false)
  | 3 => ("java/lang/Throwable", "detailMessage", "Ljava/lang/String;", false)
  | 4 => ("java/lang/Throwable", "backtrace", "Ljava/lang/Object;", false)
  | _ => ("java/lang/Throwable", "depth", "I", false)
def tyJ13 : Nat → FieldType := fun k => match k with
  | 0 => .object "java/lang/Throwable"
  | 1 => .array (.object "java/lang/StackTraceElement")
  | 2 => .object "java/util/List"
  | 3 => .object "java/lang/String"
  | 4 => .object "java/lang/Object"
  | _ => .int
abbrev wsJ130 : List Cond := u_ws RJ13 TJ13 6
theorem nmJ13 : ∀ a, a < 6 → ∀ b, b < 6 → a ≠ b → (TJ13 a).2.1 ≠ (TJ13 b).2.1 := by decide +kernel
theorem tyJ13_ok : ∀ k, k < 6 → parseFieldDescriptor (TJ13 k).2.2.1 = some (tyJ13 k) := by decide +kernel
abbrev cJ13_init : ByteArray := prog_16_method_2_code
def yJ13_init : MethodName := ⟨RJ13, "<init>", "(Ljava/lang/String;)V"⟩
def dkwJ13_init_0 : List UInt8 := [42, 43, 183, 0, 7, 177]
abbrev dktJ13_init_0 : List UInt8 := dkwJ13_init_0 ++ []
theorem dksJ13_init_0 : cJ13_init.data.toList.drop 0 = dktJ13_init_0 := by decide +kernel
theorem dJ13_init_0 : decode cJ13_init 0 = .ok (.aload_n 0, 1) := dk_42 (dk_at dksJ13_init_0 0 rfl rfl)
theorem dJ13_init_1 : decode cJ13_init 1 = .ok (.aload_n 1, 1) := dk_43 (dk_at dksJ13_init_0 1 rfl rfl)
theorem dJ13_init_2 : decode cJ13_init 2 = .ok (.invokespecial 7, 3) := dk_183 0 7 (dk_at dksJ13_init_0 2 rfl rfl)
theorem dJ13_init_5 : decode cJ13_init 5 = .ok (.return_, 1) := dk_177 (dk_at dksJ13_init_0 5 rfl rfl)
abbrev cJ13_init_2 : ByteArray := prog_16_method_1_code
def yJ13_init_2 : MethodName := ⟨RJ13, "<init>", "()V"⟩
theorem dJ13_init_2_0 : decode cJ13_init_2 0 = .ok (.aload_n 0, 1) := by decide +kernel
theorem dJ13_init_2_1 : decode cJ13_init_2 1 = .ok (.invokespecial 1, 3) := by decide +kernel
theorem dJ13_init_2_4 : decode cJ13_init_2 4 = .ok (.return_, 1) := by decide +kernel
theorem q54 : (Jvm.Cond.initialized "java/lang/IllegalArgumentException") ∈ lw_all := lw_g (lw_at lw_m1 19 rfl) rfl
theorem q233 : (Jvm.Cond.selects "java/lang/IllegalArgumentException" ({ cls := "java/lang/Object", name := "getClass", desc := "()Ljava/lang/Class;" } : Jvm.MethodName) ({ cls := "java/lang/Object", name := "getClass", desc := "()Ljava/lang/Class;" } : Jvm.MethodName)) ∈ lw_all := lw_g (lw_at lw_m1 198 rfl) rfl
theorem q467 : (Jvm.Cond.instantiable "java/lang/IllegalArgumentException" (6 : Nat)) ∈ lw_all := lw_g (lw_at lw_m2 192 rfl) rfl
theorem q468 : (Jvm.Cond.castable "java/lang/IllegalArgumentException" "java/lang/IllegalArgumentException") ∈ lw_tbl := lw_at lw_m2 193 rfl
theorem q475 : (Jvm.Cond.selects "java/lang/IllegalArgumentException" ({ cls := "java/lang/Throwable", name := "fillInStackTrace", desc := "(I)Ljava/lang/Throwable;" } : Jvm.MethodName) ({ cls := "java/lang/Throwable", name := "fillInStackTrace", desc := "(I)Ljava/lang/Throwable;" } : Jvm.MethodName)) ∈ lw_all := lw_g (lw_at lw_m2 200 rfl) rfl
theorem q476 : (Jvm.Cond.selects "java/lang/IllegalArgumentException" ({ cls := "java/lang/Throwable", name := "fillInStackTrace", desc := "()Ljava/lang/Throwable;" } : Jvm.MethodName) ({ cls := "java/lang/Throwable", name := "fillInStackTrace", desc := "()Ljava/lang/Throwable;" } : Jvm.MethodName)) ∈ lw_all := lw_g (lw_at lw_m2 201 rfl) rfl
theorem q477 : (Jvm.Cond.lays "java/lang/IllegalArgumentException" "java/lang/Throwable" "cause" "Ljava/lang/Throwable;") ∈ lw_all := lw_g (lw_at lw_m2 202 rfl) rfl
theorem q479 : (Jvm.Cond.lays "java/lang/IllegalArgumentException" "java/lang/Throwable" "stackTrace" "[Ljava/lang/StackTraceElement;") ∈ lw_all := lw_g (lw_at lw_m2 204 rfl) rfl
theorem q481 : (Jvm.Cond.lays "java/lang/IllegalArgumentException" "java/lang/Throwable" "suppressedExceptions" "Ljava/util/List;") ∈ lw_all := lw_g (lw_at lw_m2 206 rfl) rfl
theorem q483 : (Jvm.Cond.lays "java/lang/IllegalArgumentException" "java/lang/Throwable" "detailMessage" "Ljava/lang/String;") ∈ lw_all := lw_g (lw_at lw_m2 208 rfl) rfl
theorem q485 : (Jvm.Cond.lays "java/lang/IllegalArgumentException" "java/lang/Throwable" "backtrace" "Ljava/lang/Object;") ∈ lw_all := lw_g (lw_at lw_m2 210 rfl) rfl
theorem q516 : (Jvm.Cond.instanceMethod ({ cls := "java/lang/IllegalArgumentException", name := "<init>", desc := "(Ljava/lang/String;)V" } : Jvm.MethodName)) ∈ lw_all := lw_g (lw_at lw_m3 1 rfl) rfl
theorem q517 : (Jvm.Cond.code ({ cls := "java/lang/IllegalArgumentException", name := "<init>", desc := "(Ljava/lang/String;)V" } : Jvm.MethodName) prog_16_method_2_code (2 : Nat) (Option.none : Option Jvm.ClassFile.FieldType)) ∈ lw_all := lw_g (lw_at lw_m3 2 rfl) rfl
theorem q518 : (Jvm.Cond.methodLink "java/lang/IllegalArgumentException" (7 : Nat) ({ cls := "java/lang/RuntimeException", name := "<init>", desc := "(Ljava/lang/String;)V" } : Jvm.MethodName)) ∈ lw_all := lw_g (lw_at lw_m3 3 rfl) rfl
theorem q536 : (Jvm.Cond.lays "java/lang/IllegalArgumentException" "java/lang/Throwable" "depth" "I") ∈ lw_all := lw_g (lw_at lw_m3 21 rfl) rfl
theorem q539 : (Jvm.Cond.superclass "java/lang/IllegalArgumentException" "java/lang/RuntimeException") ∈ lw_all := lw_g (lw_at lw_m3 24 rfl) rfl
theorem q854 : (Jvm.Cond.instanceMethod ({ cls := "java/lang/IllegalArgumentException", name := "<init>", desc := "()V" } : Jvm.MethodName)) ∈ lw_all := lw_g (lw_at lw_m4 99 rfl) rfl
theorem q855 : (Jvm.Cond.code ({ cls := "java/lang/IllegalArgumentException", name := "<init>", desc := "()V" } : Jvm.MethodName) prog_16_method_1_code (1 : Nat) (Option.none : Option Jvm.ClassFile.FieldType)) ∈ lw_all := lw_g (lw_at lw_m4 100 rfl) rfl
theorem q856 : (Jvm.Cond.methodLink "java/lang/IllegalArgumentException" (1 : Nat) ({ cls := "java/lang/RuntimeException", name := "<init>", desc := "()V" } : Jvm.MethodName)) ∈ lw_all := lw_g (lw_at lw_m4 101 rfl) rfl
theorem q1567 : (Jvm.Cond.castable "java/lang/IllegalArgumentException" "java/lang/Object") ∈ lw_tbl := lw_at lw_m7 92 rfl
theorem in_J13 : ∀ w ∈ wsJ130, w ∈ lw_all := lw_in wsJ130 [477, 479, 481, 483, 485, 536] (by decide +kernel) (by decide +kernel)

/-! java/lang/IllegalStateException -/
set_option maxRecDepth 100000
def RJ14 : String := "java/lang/IllegalStateException"
def TJ14 : u_T := fun k => match k with
  | 0 => ("java/lang/Throwable", "cause", "Ljava/lang/Throwable;", false)
  | 1 => ("java/lang/Throwable", "stackTrace", "[Ljava/lang/StackTraceElement;", false)
  | 2 => ("java/lang/Throwable", "suppressedExceptions", "Ljava/util/List;", false)
  | 3 => ("java/lang/Throwable", "detailMessage", "Ljava/lang/String;", false)
  | 4 => ("java/lang/Throwable", "backtrace", "Ljava/lang/Object;", false)
  | _ => ("java/lang/Throwable", "depth", "I", false)
def tyJ14 : Nat → FieldType := fun k => match k with
  | 0 => .object "java/lang/Throwable"
  | 1 => .array (.object "java/lang/StackTraceElement")
  | 2 => .object "java/util/List"
  | 3 => .object "java/lang/String"
  | 4 => .object "java/lang/Object"
  | _ => .int
abbrev wsJ140 : List Cond := u_ws RJ14 TJ14 6
theorem nmJ14 : ∀ a, a < 6 → ∀ b, b < 6 → a ≠ b → (TJ14 a).2.1 ≠ (TJ14 b).2.1 := by decide +kernel
theorem tyJ14_ok : ∀ k, k < 6 → parseFieldDescriptor (TJ14 k).2.2.1 = some (tyJ14 k) := by decide +kernel
abbrev cJ14_init : ByteArray := prog_17_method_1_code
def yJ14_init : MethodName := ⟨RJ14, "<init>", "()V"⟩
theorem dJ14_init_0 : decode cJ14_init 0 = .ok (.aload_n 0, 1) := by decide +kernel
theorem dJ14_init_1 : decode cJ14_init 1 = .ok (.invokespecial 1, 3) := by decide +kernel
theorem dJ14_init_4 : decode cJ14_init 4 = .ok (.return_, 1) := by decide +kernel
theorem q55 : (Jvm.Cond.initialized "java/lang/IllegalStateException") ∈ lw_all := lw_g (lw_at lw_m1 20 rfl) rfl
theorem q234 : (Jvm.Cond.selects "java/lang/IllegalStateException" ({ cls := "java/lang/Object", name := "getClass", desc := "()Ljava/lang/Class;" } : Jvm.MethodName) ({ cls := "java/lang/Object", name := "getClass", desc := "()Ljava/lang/Class;" } : Jvm.MethodName)) ∈ lw_all := lw_g (lw_at lw_m1 199 rfl) rfl
theorem q500 : (Jvm.Cond.selects "java/lang/IllegalStateException" ({ cls := "java/lang/Throwable", name := "fillInStackTrace", desc := "()Ljava/lang/Throwable;" } : Jvm.MethodName) ({ cls := "java/lang/Throwable", name := "fillInStackTrace", desc := "()Ljava/lang/Throwable;" } : Jvm.MethodName)) ∈ lw_all := lw_g (lw_at lw_m2 225 rfl) rfl
theorem q867 : (Jvm.Cond.instantiable "java/lang/IllegalStateException" (6 : Nat)) ∈ lw_all := lw_g (lw_at lw_m4 112 rfl) rfl
theorem q868 : (Jvm.Cond.castable "java/lang/IllegalStateException" "java/lang/IllegalStateException") ∈ lw_tbl := lw_at lw_m4 113 rfl
theorem q869 : (Jvm.Cond.selects "java/lang/IllegalStateException" ({ cls := "java/lang/Throwable", name := "fillInStackTrace", desc := "(I)Ljava/lang/Throwable;" } : Jvm.MethodName) ({ cls := "java/lang/Throwable", name := "fillInStackTrace", desc := "(I)Ljava/lang/Throwable;" } : Jvm.MethodName)) ∈ lw_all := lw_g (lw_at lw_m4 114 rfl) rfl
theorem q870 : (Jvm.Cond.lays "java/lang/IllegalStateException" "java/lang/Throwable" "cause" "Ljava/lang/Throwable;") ∈ lw_all := lw_g (lw_at lw_m4 115 rfl) rfl
theorem q871 : (Jvm.Cond.lays "java/lang/IllegalStateException" "java/lang/Throwable" "stackTrace" "[Ljava/lang/StackTraceElement;") ∈ lw_all := lw_g (lw_at lw_m4 116 rfl) rfl
theorem q872 : (Jvm.Cond.lays "java/lang/IllegalStateException" "java/lang/Throwable" "suppressedExceptions" "Ljava/util/List;") ∈ lw_all := lw_g (lw_at lw_m4 117 rfl) rfl
theorem q873 : (Jvm.Cond.lays "java/lang/IllegalStateException" "java/lang/Throwable" "detailMessage" "Ljava/lang/String;") ∈ lw_all := lw_g (lw_at lw_m4 118 rfl) rfl
theorem q874 : (Jvm.Cond.lays "java/lang/IllegalStateException" "java/lang/Throwable" "backtrace" "Ljava/lang/Object;") ∈ lw_all := lw_g (lw_at lw_m4 119 rfl) rfl
theorem q876 : (Jvm.Cond.instanceMethod ({ cls := "java/lang/IllegalStateException", name := "<init>", desc := "()V" } : Jvm.MethodName)) ∈ lw_all := lw_g (lw_at lw_m4 121 rfl) rfl
theorem q877 : (Jvm.Cond.code ({ cls := "java/lang/IllegalStateException", name := "<init>", desc := "()V" } : Jvm.MethodName) prog_17_method_1_code (1 : Nat) (Option.none : Option Jvm.ClassFile.FieldType)) ∈ lw_all := lw_g (lw_at lw_m4 122 rfl) rfl
theorem q878 : (Jvm.Cond.methodLink "java/lang/IllegalStateException" (1 : Nat) ({ cls := "java/lang/RuntimeException", name := "<init>", desc := "()V" } : Jvm.MethodName)) ∈ lw_all := lw_g (lw_at lw_m4 123 rfl) rfl
theorem q879 : (Jvm.Cond.lays "java/lang/IllegalStateException" "java/lang/Throwable" "depth" "I") ∈ lw_all := lw_g (lw_at lw_m4 124 rfl) rfl
theorem q880 : (Jvm.Cond.superclass "java/lang/IllegalStateException" "java/lang/RuntimeException") ∈ lw_all := lw_g (lw_at lw_m4 125 rfl) rfl
theorem q1568 : (Jvm.Cond.castable "java/lang/IllegalStateException" "java/lang/Object") ∈ lw_tbl := lw_at lw_m7 93 rfl
theorem in_J14 : ∀ w ∈ wsJ140, w ∈ lw_all := lw_in wsJ140 [870, 871, 872, 873, 874, 879] (by decide +kernel) (by decide +kernel)

/-! java/lang/IndexOutOfBoundsException -/
set_option maxRecDepth 100000
def RJ17 : String := "java/lang/IndexOutOfBoundsException"
def TJ17 : u_T := fun k => match k with
  | 0 => ("java/lang/Throwable", "cause", "Ljava/lang/Throwable;", false)
  | 1 => ("java/lang/Throwable", "stackTrace", "[Ljava/lang/StackTraceElement;", false)
  | 2 => ("java/lang/Throwable", "suppressedExceptions", "Ljava/util/List;", false)
  | 3 => ("java/lang/Throwable", "detailMessage", "Ljava/lang/String;", false)
  | 4 => ("java/lang/Throwable", "backtrace", "Ljava/lang/Object;", false)
  | _ => ("java/lang/Throwable", "depth", "I", false)
def tyJ17 : Nat → FieldType := fun k => match k with
  | 0 => .object "java/lang/Throwable"
  | 1 => .array (.object "java/lang/StackTraceElement")
  | 2 => .object "java/util/List"
  | 3 => .object "java/lang/String"
  | 4 => .object "java/lang/Object"
  | _ => .int
abbrev wsJ170 : List Cond := u_ws RJ17 TJ17 6
theorem nmJ17 : ∀ a, a < 6 → ∀ b, b < 6 → a ≠ b → (TJ17 a).2.1 ≠ (TJ17 b).2.1 := by decide +kernel
theorem tyJ17_ok : ∀ k, k < 6 → parseFieldDescriptor (TJ17 k).2.2.1 = some (tyJ17 k) := by decide +kernel
abbrev cJ17_init : ByteArray := prog_18_method_2_code
def yJ17_init : MethodName := ⟨RJ17, "<init>", "(Ljava/lang/String;)V"⟩
def dkwJ17_init_0 : List UInt8 := [42, 43, 183, 0, 7, 177]
abbrev dktJ17_init_0 : List UInt8 := dkwJ17_init_0 ++ []
theorem dksJ17_init_0 : cJ17_init.data.toList.drop 0 = dktJ17_init_0 := by decide +kernel
theorem dJ17_init_0 : decode cJ17_init 0 = .ok (.aload_n 0, 1) := dk_42 (dk_at dksJ17_init_0 0 rfl rfl)
theorem dJ17_init_1 : decode cJ17_init 1 = .ok (.aload_n 1, 1) := dk_43 (dk_at dksJ17_init_0 1 rfl rfl)
theorem dJ17_init_2 : decode cJ17_init 2 = .ok (.invokespecial 7, 3) := dk_183 0 7 (dk_at dksJ17_init_0 2 rfl rfl)
theorem dJ17_init_5 : decode cJ17_init 5 = .ok (.return_, 1) := dk_177 (dk_at dksJ17_init_0 5 rfl rfl)
abbrev cJ17_init_2 : ByteArray := prog_18_method_1_code
def yJ17_init_2 : MethodName := ⟨RJ17, "<init>", "()V"⟩
theorem dJ17_init_2_0 : decode cJ17_init_2 0 = .ok (.aload_n 0, 1) := by decide +kernel
theorem dJ17_init_2_1 : decode cJ17_init_2 1 = .ok (.invokespecial 1, 3) := by decide +kernel
theorem dJ17_init_2_4 : decode cJ17_init_2 4 = .ok (.return_, 1) := by decide +kernel
theorem q58 : (Jvm.Cond.initialized "java/lang/IndexOutOfBoundsException") ∈ lw_all := lw_g (lw_at lw_m1 23 rfl) rfl
theorem q235 : (Jvm.Cond.selects "java/lang/IndexOutOfBoundsException" ({ cls := "java/lang/Object", name := "getClass", desc := "()Ljava/lang/Class;" } : Jvm.MethodName) ({ cls := "java/lang/Object", name := "getClass", desc := "()Ljava/lang/Class;" } : Jvm.MethodName)) ∈ lw_all := lw_g (lw_at lw_m1 200 rfl) rfl
theorem q501 : (Jvm.Cond.selects "java/lang/IndexOutOfBoundsException" ({ cls := "java/lang/Throwable", name := "fillInStackTrace", desc := "()Ljava/lang/Throwable;" } : Jvm.MethodName) ({ cls := "java/lang/Throwable", name := "fillInStackTrace", desc := "()Ljava/lang/Throwable;" } : Jvm.MethodName)) ∈ lw_all := lw_g (lw_at lw_m2 226 rfl) rfl
theorem q565 : (Jvm.Cond.instanceMethod ({ cls := "java/lang/IndexOutOfBoundsException", name := "<init>", desc := "(Ljava/lang/String;)V" } : Jvm.MethodName)) ∈ lw_all := lw_g (lw_at lw_m3 50 rfl) rfl
theorem q566 : (Jvm.Cond.code ({ cls := "java/lang/IndexOutOfBoundsException", name := "<init>", desc := "(Ljava/lang/String;)V" } : Jvm.MethodName) prog_18_method_2_code (2 : Nat) (Option.none : Option Jvm.ClassFile.FieldType)) ∈ lw_all := lw_g (lw_at lw_m3 51 rfl) rfl
theorem q567 : (Jvm.Cond.methodLink "java/lang/IndexOutOfBoundsException" (7 : Nat) ({ cls := "java/lang/RuntimeException", name := "<init>", desc := "(Ljava/lang/String;)V" } : Jvm.MethodName)) ∈ lw_all := lw_g (lw_at lw_m3 52 rfl) rfl
theorem q590 : (Jvm.Cond.declares ({ cls := "java/lang/IndexOutOfBoundsException", name := "<init>", desc := "()V" } : Jvm.MethodName)) ∈ lw_tbl := lw_at lw_m3 75 rfl
theorem q591 : (Jvm.Cond.declares ({ cls := "java/lang/IndexOutOfBoundsException", name := "<init>", desc := "(Ljava/lang/String;)V" } : Jvm.MethodName)) ∈ lw_tbl := lw_at lw_m3 76 rfl
theorem q969 : (Jvm.Cond.instantiable "java/lang/IndexOutOfBoundsException" (6 : Nat)) ∈ lw_all := lw_g (lw_at lw_m4 214 rfl) rfl
theorem q970 : (Jvm.Cond.castable "java/lang/IndexOutOfBoundsException" "java/lang/IndexOutOfBoundsException") ∈ lw_tbl := lw_at lw_m4 215 rfl
theorem q971 : (Jvm.Cond.selects "java/lang/IndexOutOfBoundsException" ({ cls := "java/lang/Throwable", name := "fillInStackTrace", desc := "(I)Ljava/lang/Throwable;" } : Jvm.MethodName) ({ cls := "java/lang/Throwable", name := "fillInStackTrace", desc := "(I)Ljava/lang/Throwable;" } : Jvm.MethodName)) ∈ lw_all := lw_g (lw_at lw_m4 216 rfl) rfl
theorem q972 : (Jvm.Cond.lays "java/lang/IndexOutOfBoundsException" "java/lang/Throwable" "cause" "Ljava/lang/Throwable;") ∈ lw_all := lw_g (lw_at lw_m4 217 rfl) rfl
theorem q973 : (Jvm.Cond.lays "java/lang/IndexOutOfBoundsException" "java/lang/Throwable" "stackTrace" "[Ljava/lang/StackTraceElement;") ∈ lw_all := lw_g (lw_at lw_m4 218 rfl) rfl
theorem q974 : (Jvm.Cond.lays "java/lang/IndexOutOfBoundsException" "java/lang/Throwable" "suppressedExceptions" "Ljava/util/List;") ∈ lw_all := lw_g (lw_at lw_m4 219 rfl) rfl
theorem q975 : (Jvm.Cond.lays "java/lang/IndexOutOfBoundsException" "java/lang/Throwable" "detailMessage" "Ljava/lang/String;") ∈ lw_all := lw_g (lw_at lw_m4 220 rfl) rfl
theorem q976 : (Jvm.Cond.lays "java/lang/IndexOutOfBoundsException" "java/lang/Throwable" "backtrace" "Ljava/lang/Object;") ∈ lw_all := lw_g (lw_at lw_m4 221 rfl) rfl
theorem q978 : (Jvm.Cond.instanceMethod ({ cls := "java/lang/IndexOutOfBoundsException", name := "<init>", desc := "()V" } : Jvm.MethodName)) ∈ lw_all := lw_g (lw_at lw_m4 223 rfl) rfl
theorem q979 : (Jvm.Cond.code ({ cls := "java/lang/IndexOutOfBoundsException", name := "<init>", desc := "()V" } : Jvm.MethodName) prog_18_method_1_code (1 : Nat) (Option.none : Option Jvm.ClassFile.FieldType)) ∈ lw_all := lw_g (lw_at lw_m4 224 rfl) rfl
theorem q980 : (Jvm.Cond.methodLink "java/lang/IndexOutOfBoundsException" (1 : Nat) ({ cls := "java/lang/RuntimeException", name := "<init>", desc := "()V" } : Jvm.MethodName)) ∈ lw_all := lw_g (lw_at lw_m4 225 rfl) rfl
theorem q981 : (Jvm.Cond.lays "java/lang/IndexOutOfBoundsException" "java/lang/Throwable" "depth" "I") ∈ lw_all := lw_g (lw_at lw_m4 226 rfl) rfl
theorem q982 : (Jvm.Cond.superclass "java/lang/IndexOutOfBoundsException" "java/lang/RuntimeException") ∈ lw_all := lw_g (lw_at lw_m4 227 rfl) rfl
theorem q1573 : (Jvm.Cond.castable "java/lang/IndexOutOfBoundsException" "java/lang/Object") ∈ lw_tbl := lw_at lw_m7 98 rfl
theorem in_J17 : ∀ w ∈ wsJ170, w ∈ lw_all := lw_in wsJ170 [972, 973, 974, 975, 976, 981] (by decide +kernel) (by decide +kernel)

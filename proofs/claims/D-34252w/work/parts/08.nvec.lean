/-! java/lang/Integer -/
set_option maxRecDepth 100000
def RJ19 : String := "java/lang/Integer"
abbrev cJ19_stringSize : ByteArray := prog_19_method_13_code
def yJ19_stringSize : MethodName := ⟨RJ19, "stringSize", "(I)I"⟩
def dkwJ19_stringSize_1 : List UInt8 := [164, 0, 7, 29, 27, 96, 172, 16, 10, 28, 104, 61, 132, 3, 1, 167, 255, 233, 16, 10, 27, 96, 172]
abbrev dktJ19_stringSize_1 : List UInt8 := dkwJ19_stringSize_1 ++ []
def dkwJ19_stringSize_0 : List UInt8 := [4, 60, 26, 155, 0, 8, 3, 60, 26, 116, 59, 16, 246, 61, 4, 62, 29, 16, 10, 162, 0, 23, 26, 28]
abbrev dktJ19_stringSize_0 : List UInt8 := dkwJ19_stringSize_0 ++ dktJ19_stringSize_1
theorem dksJ19_stringSize_0 : cJ19_stringSize.data.toList.drop 0 = dktJ19_stringSize_0 := by decide +kernel
theorem dksJ19_stringSize_1 : cJ19_stringSize.data.toList.drop 24 = dktJ19_stringSize_1 := dk_seg dksJ19_stringSize_0 24 rfl rfl
theorem dJ19_stringSize_0 : decode cJ19_stringSize 0 = .ok (.iconst 1, 1) := dk_4 (dk_at dksJ19_stringSize_0 0 rfl rfl)
theorem dJ19_stringSize_1 : decode cJ19_stringSize 1 = .ok (.istore_n 1, 1) := dk_60 (dk_at dksJ19_stringSize_0 1 rfl rfl)
theorem dJ19_stringSize_2 : decode cJ19_stringSize 2 = .ok (.iload_n 0, 1) := dk_26 (dk_at dksJ19_stringSize_0 2 rfl rfl)
theorem dJ19_stringSize_3 : decode cJ19_stringSize 3 = .ok (.ifCond .lt 8, 3) := dk_155 0 8 (dk_at dksJ19_stringSize_0 3 rfl rfl)
theorem dJ19_stringSize_6 : decode cJ19_stringSize 6 = .ok (.iconst 0, 1) := dk_3 (dk_at dksJ19_stringSize_0 6 rfl rfl)
theorem dJ19_stringSize_7 : decode cJ19_stringSize 7 = .ok (.istore_n 1, 1) := dk_60 (dk_at dksJ19_stringSize_0 7 rfl rfl)
theorem dJ19_stringSize_8 : decode cJ19_stringSize 8 = .ok (.iload_n 0, 1) := dk_26 (dk_at dksJ19_stringSize_0 8 rfl rfl)
theorem dJ19_stringSize_9 : decode cJ19_stringSize 9 = .ok (.ineg, 1) := dk_116 (dk_at dksJ19_stringSize_0 9 rfl rfl)
theorem dJ19_stringSize_10 : decode cJ19_stringSize 10 = .ok (.istore_n 0, 1) := dk_59 (dk_at dksJ19_stringSize_0 10 rfl rfl)
theorem dJ19_stringSize_11 : decode cJ19_stringSize 11 = .ok (.bipush (-10), 2) := dk_16 246 (dk_at dksJ19_stringSize_0 11 rfl rfl)
theorem dJ19_stringSize_13 : decode cJ19_stringSize 13 = .ok (.istore_n 2, 1) := dk_61 (dk_at dksJ19_stringSize_0 13 rfl rfl)
theorem dJ19_stringSize_14 : decode cJ19_stringSize 14 = .ok (.iconst 1, 1) := dk_4 (dk_at dksJ19_stringSize_0 14 rfl rfl)
theorem dJ19_stringSize_15 : decode cJ19_stringSize 15 = .ok (.istore_n 3, 1) := dk_62 (dk_at dksJ19_stringSize_0 15 rfl rfl)
theorem dJ19_stringSize_16 : decode cJ19_stringSize 16 = .ok (.iload_n 3, 1) := dk_29 (dk_at dksJ19_stringSize_0 16 rfl rfl)
theorem dJ19_stringSize_17 : decode cJ19_stringSize 17 = .ok (.bipush 10, 2) := dk_16 10 (dk_at dksJ19_stringSize_0 17 rfl rfl)
theorem dJ19_stringSize_19 : decode cJ19_stringSize 19 = .ok (.if_icmp .ge 23, 3) := dk_162 0 23 (dk_at dksJ19_stringSize_0 19 rfl rfl)
theorem dJ19_stringSize_22 : decode cJ19_stringSize 22 = .ok (.iload_n 0, 1) := dk_26 (dk_at dksJ19_stringSize_0 22 rfl rfl)
theorem dJ19_stringSize_23 : decode cJ19_stringSize 23 = .ok (.iload_n 2, 1) := dk_28 (dk_at dksJ19_stringSize_0 23 rfl rfl)
theorem dJ19_stringSize_24 : decode cJ19_stringSize 24 = .ok (.if_icmp .le 7, 3) := dk_164 0 7 (dk_at dksJ19_stringSize_1 0 rfl rfl)
theorem dJ19_stringSize_27 : decode cJ19_stringSize 27 = .ok (.iload_n 3, 1) := dk_29 (dk_at dksJ19_stringSize_1 3 rfl rfl)
theorem dJ19_stringSize_28 : decode cJ19_stringSize 28 = .ok (.iload_n 1, 1) := dk_27 (dk_at dksJ19_stringSize_1 4 rfl rfl)
theorem dJ19_stringSize_29 : decode cJ19_stringSize 29 = .ok (.iadd, 1) := dk_96 (dk_at dksJ19_stringSize_1 5 rfl rfl)
theorem dJ19_stringSize_30 : decode cJ19_stringSize 30 = .ok (.ireturn, 1) := dk_172 (dk_at dksJ19_stringSize_1 6 rfl rfl)
theorem dJ19_stringSize_31 : decode cJ19_stringSize 31 = .ok (.bipush 10, 2) := dk_16 10 (dk_at dksJ19_stringSize_1 7 rfl rfl)
theorem dJ19_stringSize_33 : decode cJ19_stringSize 33 = .ok (.iload_n 2, 1) := dk_28 (dk_at dksJ19_stringSize_1 9 rfl rfl)
theorem dJ19_stringSize_34 : decode cJ19_stringSize 34 = .ok (.imul, 1) := dk_104 (dk_at dksJ19_stringSize_1 10 rfl rfl)
theorem dJ19_stringSize_35 : decode cJ19_stringSize 35 = .ok (.istore_n 2, 1) := dk_61 (dk_at dksJ19_stringSize_1 11 rfl rfl)
theorem dJ19_stringSize_36 : decode cJ19_stringSize 36 = .ok (.iinc 3 1, 3) := dk_132 3 1 (dk_at dksJ19_stringSize_1 12 rfl rfl)
theorem dJ19_stringSize_39 : decode cJ19_stringSize 39 = .ok (.goto (-23), 3) := dk_167 255 233 (dk_at dksJ19_stringSize_1 15 rfl rfl)
theorem dJ19_stringSize_42 : decode cJ19_stringSize 42 = .ok (.bipush 10, 2) := dk_16 10 (dk_at dksJ19_stringSize_1 18 rfl rfl)
theorem dJ19_stringSize_44 : decode cJ19_stringSize 44 = .ok (.iload_n 1, 1) := dk_27 (dk_at dksJ19_stringSize_1 20 rfl rfl)
theorem dJ19_stringSize_45 : decode cJ19_stringSize 45 = .ok (.iadd, 1) := dk_96 (dk_at dksJ19_stringSize_1 21 rfl rfl)
theorem dJ19_stringSize_46 : decode cJ19_stringSize 46 = .ok (.ireturn, 1) := dk_172 (dk_at dksJ19_stringSize_1 22 rfl rfl)
abbrev cJ19_getChars : ByteArray := prog_19_method_12_code
def yJ19_getChars : MethodName := ⟨RJ19, "getChars", "(II[B)I"⟩
def dkwJ19_getChars_5 : List UInt8 := [16, 45, 84, 21, 5, 172]
abbrev dktJ19_getChars_5 : List UInt8 := dkwJ19_getChars_5 ++ []
def dkwJ19_getChars_4 : List UInt8 := [132, 5, 255, 21, 5, 178, 0, 87, 26, 116, 51, 84, 21, 6, 153, 0, 12, 44, 132, 5, 255, 21, 5]
abbrev dktJ19_getChars_4 : List UInt8 := dkwJ19_getChars_4 ++ dktJ19_getChars_5
def dkwJ19_getChars_3 : List UInt8 := [167, 255, 209, 44, 132, 5, 255, 21, 5, 178, 0, 83, 26, 116, 51, 84, 26, 16, 247, 162, 0, 16, 44]
abbrev dktJ19_getChars_3 : List UInt8 := dkwJ19_getChars_3 ++ dktJ19_getChars_4
def dkwJ19_getChars_2 : List UInt8 := [21, 5, 178, 0, 83, 21, 4, 51, 84, 44, 132, 5, 255, 21, 5, 178, 0, 87, 21, 4, 51, 84]
abbrev dktJ19_getChars_2 : List UInt8 := dkwJ19_getChars_2 ++ dktJ19_getChars_3
def dkwJ19_getChars_1 : List UInt8 := [16, 156, 163, 0, 47, 26, 16, 100, 108, 62, 29, 16, 100, 104, 26, 100, 54, 4, 29, 59, 44, 132, 5, 255]
abbrev dktJ19_getChars_1 : List UInt8 := dkwJ19_getChars_1 ++ dktJ19_getChars_2
def dkwJ19_getChars_0 : List UInt8 := [27, 54, 5, 26, 156, 0, 7, 4, 167, 0, 4, 3, 54, 6, 21, 6, 154, 0, 6, 26, 116, 59, 26]
abbrev dktJ19_getChars_0 : List UInt8 := dkwJ19_getChars_0 ++ dktJ19_getChars_1
theorem dksJ19_getChars_0 : cJ19_getChars.data.toList.drop 0 = dktJ19_getChars_0 := by decide +kernel
theorem dksJ19_getChars_1 : cJ19_getChars.data.toList.drop 23 = dktJ19_getChars_1 := dk_seg dksJ19_getChars_0 23 rfl rfl
theorem dksJ19_getChars_2 : cJ19_getChars.data.toList.drop 47 = dktJ19_getChars_2 := dk_seg dksJ19_getChars_1 24 rfl rfl
theorem dksJ19_getChars_3 : cJ19_getChars.data.toList.drop 69 = dktJ19_getChars_3 := dk_seg dksJ19_getChars_2 22 rfl rfl
theorem dksJ19_getChars_4 : cJ19_getChars.data.toList.drop 92 = dktJ19_getChars_4 := dk_seg dksJ19_getChars_3 23 rfl rfl
theorem dksJ19_getChars_5 : cJ19_getChars.data.toList.drop 115 = dktJ19_getChars_5 := dk_seg dksJ19_getChars_4 23 rfl rfl
theorem dJ19_getChars_0 : decode cJ19_getChars 0 = .ok (.iload_n 1, 1) := dk_27 (dk_at dksJ19_getChars_0 0 rfl rfl)
theorem dJ19_getChars_1 : decode cJ19_getChars 1 = .ok (.istore 5, 2) := dk_54 5 (dk_at dksJ19_getChars_0 1 rfl rfl)
theorem dJ19_getChars_3 : decode cJ19_getChars 3 = .ok (.iload_n 0, 1) := dk_26 (dk_at dksJ19_getChars_0 3 rfl rfl)
theorem dJ19_getChars_4 : decode cJ19_getChars 4 = .ok (.ifCond .ge 7, 3) := dk_156 0 7 (dk_at dksJ19_getChars_0 4 rfl rfl)
theorem dJ19_getChars_7 : decode cJ19_getChars 7 = .ok (.iconst 1, 1) := dk_4 (dk_at dksJ19_getChars_0 7 rfl rfl)
theorem dJ19_getChars_8 : decode cJ19_getChars 8 = .ok (.goto 4, 3) := dk_167 0 4 (dk_at dksJ19_getChars_0 8 rfl rfl)
theorem dJ19_getChars_11 : decode cJ19_getChars 11 = .ok (.iconst 0, 1) := dk_3 (dk_at dksJ19_getChars_0 11 rfl rfl)
theorem dJ19_getChars_12 : decode cJ19_getChars 12 = .ok (.istore 6, 2) := dk_54 6 (dk_at dksJ19_getChars_0 12 rfl rfl)
theorem dJ19_getChars_14 : decode cJ19_getChars 14 = .ok (.iload 6, 2) := dk_21 6 (dk_at dksJ19_getChars_0 14 rfl rfl)
theorem dJ19_getChars_16 : decode cJ19_getChars 16 = .ok (.ifCond .ne 6, 3) := dk_154 0 6 (dk_at dksJ19_getChars_0 16 rfl rfl)
theorem dJ19_getChars_19 : decode cJ19_getChars 19 = .ok (.iload_n 0, 1) := dk_26 (dk_at dksJ19_getChars_0 19 rfl rfl)
theorem dJ19_getChars_20 : decode cJ19_getChars 20 = .ok (.ineg, 1) := dk_116 (dk_at dksJ19_getChars_0 20 rfl rfl)
theorem dJ19_getChars_21 : decode cJ19_getChars 21 = .ok (.istore_n 0, 1) := dk_59 (dk_at dksJ19_getChars_0 21 rfl rfl)
theorem dJ19_getChars_22 : decode cJ19_getChars 22 = .ok (.iload_n 0, 1) := dk_26 (dk_at dksJ19_getChars_0 22 rfl rfl)
theorem dJ19_getChars_23 : decode cJ19_getChars 23 = .ok (.bipush (-100), 2) := dk_16 156 (dk_at dksJ19_getChars_1 0 rfl rfl)
theorem dJ19_getChars_25 : decode cJ19_getChars 25 = .ok (.if_icmp .gt 47, 3) := dk_163 0 47 (dk_at dksJ19_getChars_1 2 rfl rfl)
theorem dJ19_getChars_28 : decode cJ19_getChars 28 = .ok (.iload_n 0, 1) := dk_26 (dk_at dksJ19_getChars_1 5 rfl rfl)
theorem dJ19_getChars_29 : decode cJ19_getChars 29 = .ok (.bipush 100, 2) := dk_16 100 (dk_at dksJ19_getChars_1 6 rfl rfl)
theorem dJ19_getChars_31 : decode cJ19_getChars 31 = .ok (.idiv, 1) := dk_108 (dk_at dksJ19_getChars_1 8 rfl rfl)
theorem dJ19_getChars_32 : decode cJ19_getChars 32 = .ok (.istore_n 3, 1) := dk_62 (dk_at dksJ19_getChars_1 9 rfl rfl)
theorem dJ19_getChars_33 : decode cJ19_getChars 33 = .ok (.iload_n 3, 1) := dk_29 (dk_at dksJ19_getChars_1 10 rfl rfl)
theorem dJ19_getChars_34 : decode cJ19_getChars 34 = .ok (.bipush 100, 2) := dk_16 100 (dk_at dksJ19_getChars_1 11 rfl rfl)
theorem dJ19_getChars_36 : decode cJ19_getChars 36 = .ok (.imul, 1) := dk_104 (dk_at dksJ19_getChars_1 13 rfl rfl)
theorem dJ19_getChars_37 : decode cJ19_getChars 37 = .ok (.iload_n 0, 1) := dk_26 (dk_at dksJ19_getChars_1 14 rfl rfl)
theorem dJ19_getChars_38 : decode cJ19_getChars 38 = .ok (.isub, 1) := dk_100 (dk_at dksJ19_getChars_1 15 rfl rfl)
theorem dJ19_getChars_39 : decode cJ19_getChars 39 = .ok (.istore 4, 2) := dk_54 4 (dk_at dksJ19_getChars_1 16 rfl rfl)
theorem dJ19_getChars_41 : decode cJ19_getChars 41 = .ok (.iload_n 3, 1) := dk_29 (dk_at dksJ19_getChars_1 18 rfl rfl)
theorem dJ19_getChars_42 : decode cJ19_getChars 42 = .ok (.istore_n 0, 1) := dk_59 (dk_at dksJ19_getChars_1 19 rfl rfl)
theorem dJ19_getChars_43 : decode cJ19_getChars 43 = .ok (.aload_n 2, 1) := dk_44 (dk_at dksJ19_getChars_1 20 rfl rfl)
theorem dJ19_getChars_44 : decode cJ19_getChars 44 = .ok (.iinc 5 (-1), 3) := dk_132 5 255 (dk_at dksJ19_getChars_1 21 rfl rfl)
theorem dJ19_getChars_47 : decode cJ19_getChars 47 = .ok (.iload 5, 2) := dk_21 5 (dk_at dksJ19_getChars_2 0 rfl rfl)
theorem dJ19_getChars_49 : decode cJ19_getChars 49 = .ok (.getstatic 83, 3) := dk_178 0 83 (dk_at dksJ19_getChars_2 2 rfl rfl)
theorem dJ19_getChars_52 : decode cJ19_getChars 52 = .ok (.iload 4, 2) := dk_21 4 (dk_at dksJ19_getChars_2 5 rfl rfl)
theorem dJ19_getChars_54 : decode cJ19_getChars 54 = .ok (.baload, 1) := dk_51 (dk_at dksJ19_getChars_2 7 rfl rfl)
theorem dJ19_getChars_55 : decode cJ19_getChars 55 = .ok (.bastore, 1) := dk_84 (dk_at dksJ19_getChars_2 8 rfl rfl)
theorem dJ19_getChars_56 : decode cJ19_getChars 56 = .ok (.aload_n 2, 1) := dk_44 (dk_at dksJ19_getChars_2 9 rfl rfl)
theorem dJ19_getChars_57 : decode cJ19_getChars 57 = .ok (.iinc 5 (-1), 3) := dk_132 5 255 (dk_at dksJ19_getChars_2 10 rfl rfl)
theorem dJ19_getChars_60 : decode cJ19_getChars 60 = .ok (.iload 5, 2) := dk_21 5 (dk_at dksJ19_getChars_2 13 rfl rfl)
theorem dJ19_getChars_62 : decode cJ19_getChars 62 = .ok (.getstatic 87, 3) := dk_178 0 87 (dk_at dksJ19_getChars_2 15 rfl rfl)
theorem dJ19_getChars_65 : decode cJ19_getChars 65 = .ok (.iload 4, 2) := dk_21 4 (dk_at dksJ19_getChars_2 18 rfl rfl)
theorem dJ19_getChars_67 : decode cJ19_getChars 67 = .ok (.baload, 1) := dk_51 (dk_at dksJ19_getChars_2 20 rfl rfl)
theorem dJ19_getChars_68 : decode cJ19_getChars 68 = .ok (.bastore, 1) := dk_84 (dk_at dksJ19_getChars_2 21 rfl rfl)
theorem dJ19_getChars_69 : decode cJ19_getChars 69 = .ok (.goto (-47), 3) := dk_167 255 209 (dk_at dksJ19_getChars_3 0 rfl rfl)
theorem dJ19_getChars_72 : decode cJ19_getChars 72 = .ok (.aload_n 2, 1) := dk_44 (dk_at dksJ19_getChars_3 3 rfl rfl)
theorem dJ19_getChars_73 : decode cJ19_getChars 73 = .ok (.iinc 5 (-1), 3) := dk_132 5 255 (dk_at dksJ19_getChars_3 4 rfl rfl)
theorem dJ19_getChars_76 : decode cJ19_getChars 76 = .ok (.iload 5, 2) := dk_21 5 (dk_at dksJ19_getChars_3 7 rfl rfl)
theorem dJ19_getChars_78 : decode cJ19_getChars 78 = .ok (.getstatic 83, 3) := dk_178 0 83 (dk_at dksJ19_getChars_3 9 rfl rfl)
theorem dJ19_getChars_81 : decode cJ19_getChars 81 = .ok (.iload_n 0, 1) := dk_26 (dk_at dksJ19_getChars_3 12 rfl rfl)
theorem dJ19_getChars_82 : decode cJ19_getChars 82 = .ok (.ineg, 1) := dk_116 (dk_at dksJ19_getChars_3 13 rfl rfl)
theorem dJ19_getChars_83 : decode cJ19_getChars 83 = .ok (.baload, 1) := dk_51 (dk_at dksJ19_getChars_3 14 rfl rfl)
theorem dJ19_getChars_84 : decode cJ19_getChars 84 = .ok (.bastore, 1) := dk_84 (dk_at dksJ19_getChars_3 15 rfl rfl)
theorem dJ19_getChars_85 : decode cJ19_getChars 85 = .ok (.iload_n 0, 1) := dk_26 (dk_at dksJ19_getChars_3 16 rfl rfl)
theorem dJ19_getChars_86 : decode cJ19_getChars 86 = .ok (.bipush (-9), 2) := dk_16 247 (dk_at dksJ19_getChars_3 17 rfl rfl)
theorem dJ19_getChars_88 : decode cJ19_getChars 88 = .ok (.if_icmp .ge 16, 3) := dk_162 0 16 (dk_at dksJ19_getChars_3 19 rfl rfl)
theorem dJ19_getChars_91 : decode cJ19_getChars 91 = .ok (.aload_n 2, 1) := dk_44 (dk_at dksJ19_getChars_3 22 rfl rfl)
theorem dJ19_getChars_92 : decode cJ19_getChars 92 = .ok (.iinc 5 (-1), 3) := dk_132 5 255 (dk_at dksJ19_getChars_4 0 rfl rfl)
theorem dJ19_getChars_95 : decode cJ19_getChars 95 = .ok (.iload 5, 2) := dk_21 5 (dk_at dksJ19_getChars_4 3 rfl rfl)
theorem dJ19_getChars_97 : decode cJ19_getChars 97 = .ok (.getstatic 87, 3) := dk_178 0 87 (dk_at dksJ19_getChars_4 5 rfl rfl)
theorem dJ19_getChars_100 : decode cJ19_getChars 100 = .ok (.iload_n 0, 1) := dk_26 (dk_at dksJ19_getChars_4 8 rfl rfl)
theorem dJ19_getChars_101 : decode cJ19_getChars 101 = .ok (.ineg, 1) := dk_116 (dk_at dksJ19_getChars_4 9 rfl rfl)
theorem dJ19_getChars_102 : decode cJ19_getChars 102 = .ok (.baload, 1) := dk_51 (dk_at dksJ19_getChars_4 10 rfl rfl)
theorem dJ19_getChars_103 : decode cJ19_getChars 103 = .ok (.bastore, 1) := dk_84 (dk_at dksJ19_getChars_4 11 rfl rfl)
theorem dJ19_getChars_104 : decode cJ19_getChars 104 = .ok (.iload 6, 2) := dk_21 6 (dk_at dksJ19_getChars_4 12 rfl rfl)
theorem dJ19_getChars_106 : decode cJ19_getChars 106 = .ok (.ifCond .eq 12, 3) := dk_153 0 12 (dk_at dksJ19_getChars_4 14 rfl rfl)
theorem dJ19_getChars_109 : decode cJ19_getChars 109 = .ok (.aload_n 2, 1) := dk_44 (dk_at dksJ19_getChars_4 17 rfl rfl)
theorem dJ19_getChars_110 : decode cJ19_getChars 110 = .ok (.iinc 5 (-1), 3) := dk_132 5 255 (dk_at dksJ19_getChars_4 18 rfl rfl)
theorem dJ19_getChars_113 : decode cJ19_getChars 113 = .ok (.iload 5, 2) := dk_21 5 (dk_at dksJ19_getChars_4 21 rfl rfl)
theorem dJ19_getChars_115 : decode cJ19_getChars 115 = .ok (.bipush 45, 2) := dk_16 45 (dk_at dksJ19_getChars_5 0 rfl rfl)
theorem dJ19_getChars_117 : decode cJ19_getChars 117 = .ok (.bastore, 1) := dk_84 (dk_at dksJ19_getChars_5 2 rfl rfl)
theorem dJ19_getChars_118 : decode cJ19_getChars 118 = .ok (.iload 5, 2) := dk_21 5 (dk_at dksJ19_getChars_5 3 rfl rfl)
theorem dJ19_getChars_120 : decode cJ19_getChars 120 = .ok (.ireturn, 1) := dk_172 (dk_at dksJ19_getChars_5 5 rfl rfl)
abbrev cJ19_numberOfLeadingZeros : ByteArray := prog_19_method_47_code
def yJ19_numberOfLeadingZeros : MethodName := ⟨RJ19, "numberOfLeadingZeros", "(I)I"⟩
def dkwJ19_numberOfLeadingZeros_3 : List UInt8 := [5, 124, 59, 27, 26, 4, 124, 100, 172]
abbrev dktJ19_numberOfLeadingZeros_3 : List UInt8 := dkwJ19_numberOfLeadingZeros_3 ++ []
def dkwJ19_numberOfLeadingZeros_2 : List UInt8 := [124, 59, 26, 16, 16, 161, 0, 10, 132, 1, 252, 26, 7, 124, 59, 26, 7, 161, 0, 10, 132, 1, 254, 26]
abbrev dktJ19_numberOfLeadingZeros_2 : List UInt8 := dkwJ19_numberOfLeadingZeros_2 ++ dktJ19_numberOfLeadingZeros_3
def dkwJ19_numberOfLeadingZeros_1 : List UInt8 := [161, 0, 11, 132, 1, 240, 26, 16, 16, 124, 59, 26, 17, 1, 0, 161, 0, 11, 132, 1, 248, 26, 16, 8]
abbrev dktJ19_numberOfLeadingZeros_1 : List UInt8 := dkwJ19_numberOfLeadingZeros_1 ++ dktJ19_numberOfLeadingZeros_2
def dkwJ19_numberOfLeadingZeros_0 : List UInt8 := [26, 157, 0, 14, 26, 154, 0, 8, 16, 32, 167, 0, 4, 3, 172, 16, 31, 60, 26, 19, 1, 8]
abbrev dktJ19_numberOfLeadingZeros_0 : List UInt8 := dkwJ19_numberOfLeadingZeros_0 ++ dktJ19_numberOfLeadingZeros_1
theorem dksJ19_numberOfLeadingZeros_0 : cJ19_numberOfLeadingZeros.data.toList.drop 0 = dktJ19_numberOfLeadingZeros_0 := by decide +kernel
theorem dksJ19_numberOfLeadingZeros_1 : cJ19_numberOfLeadingZeros.data.toList.drop 22 = dktJ19_numberOfLeadingZeros_1 := dk_seg dksJ19_numberOfLeadingZeros_0 22 rfl rfl
theorem dksJ19_numberOfLeadingZeros_2 : cJ19_numberOfLeadingZeros.data.toList.drop 46 = dktJ19_numberOfLeadingZeros_2 := dk_seg dksJ19_numberOfLeadingZeros_1 24 rfl rfl
theorem dksJ19_numberOfLeadingZeros_3 : cJ19_numberOfLeadingZeros.data.toList.drop 70 = dktJ19_numberOfLeadingZeros_3 := dk_seg dksJ19_numberOfLeadingZeros_2 24 rfl rfl
theorem dJ19_numberOfLeadingZeros_0 : decode cJ19_numberOfLeadingZeros 0 = .ok (.iload_n 0, 1) := dk_26 (dk_at dksJ19_numberOfLeadingZeros_0 0 rfl rfl)
theorem dJ19_numberOfLeadingZeros_1 : decode cJ19_numberOfLeadingZeros 1 = .ok (.ifCond .gt 14, 3) := dk_157 0 14 (dk_at dksJ19_numberOfLeadingZeros_0 1 rfl rfl)
theorem dJ19_numberOfLeadingZeros_4 : decode cJ19_numberOfLeadingZeros 4 = .ok (.iload_n 0, 1) := dk_26 (dk_at dksJ19_numberOfLeadingZeros_0 4 rfl rfl)
theorem dJ19_numberOfLeadingZeros_5 : decode cJ19_numberOfLeadingZeros 5 = .ok (.ifCond .ne 8, 3) := dk_154 0 8 (dk_at dksJ19_numberOfLeadingZeros_0 5 rfl rfl)
theorem dJ19_numberOfLeadingZeros_8 : decode cJ19_numberOfLeadingZeros 8 = .ok (.bipush 32, 2) := dk_16 32 (dk_at dksJ19_numberOfLeadingZeros_0 8 rfl rfl)
theorem dJ19_numberOfLeadingZeros_10 : decode cJ19_numberOfLeadingZeros 10 = .ok (.goto 4, 3) := dk_167 0 4 (dk_at dksJ19_numberOfLeadingZeros_0 10 rfl rfl)
theorem dJ19_numberOfLeadingZeros_13 : decode cJ19_numberOfLeadingZeros 13 = .ok (.iconst 0, 1) := dk_3 (dk_at dksJ19_numberOfLeadingZeros_0 13 rfl rfl)
theorem dJ19_numberOfLeadingZeros_14 : decode cJ19_numberOfLeadingZeros 14 = .ok (.ireturn, 1) := dk_172 (dk_at dksJ19_numberOfLeadingZeros_0 14 rfl rfl)
theorem dJ19_numberOfLeadingZeros_15 : decode cJ19_numberOfLeadingZeros 15 = .ok (.bipush 31, 2) := dk_16 31 (dk_at dksJ19_numberOfLeadingZeros_0 15 rfl rfl)
theorem dJ19_numberOfLeadingZeros_17 : decode cJ19_numberOfLeadingZeros 17 = .ok (.istore_n 1, 1) := dk_60 (dk_at dksJ19_numberOfLeadingZeros_0 17 rfl rfl)
theorem dJ19_numberOfLeadingZeros_18 : decode cJ19_numberOfLeadingZeros 18 = .ok (.iload_n 0, 1) := dk_26 (dk_at dksJ19_numberOfLeadingZeros_0 18 rfl rfl)
theorem dJ19_numberOfLeadingZeros_19 : decode cJ19_numberOfLeadingZeros 19 = .ok (.ldc_w 264, 3) := dk_19 1 8 (dk_at dksJ19_numberOfLeadingZeros_0 19 rfl rfl)
theorem dJ19_numberOfLeadingZeros_22 : decode cJ19_numberOfLeadingZeros 22 = .ok (.if_icmp .lt 11, 3) := dk_161 0 11 (dk_at dksJ19_numberOfLeadingZeros_1 0 rfl rfl)
theorem dJ19_numberOfLeadingZeros_25 : decode cJ19_numberOfLeadingZeros 25 = .ok (.iinc 1 (-16), 3) := dk_132 1 240 (dk_at dksJ19_numberOfLeadingZeros_1 3 rfl rfl)
theorem dJ19_numberOfLeadingZeros_28 : decode cJ19_numberOfLeadingZeros 28 = .ok (.iload_n 0, 1) := dk_26 (dk_at dksJ19_numberOfLeadingZeros_1 6 rfl rfl)
theorem dJ19_numberOfLeadingZeros_29 : decode cJ19_numberOfLeadingZeros 29 = .ok (.bipush 16, 2) := dk_16 16 (dk_at dksJ19_numberOfLeadingZeros_1 7 rfl rfl)
theorem dJ19_numberOfLeadingZeros_31 : decode cJ19_numberOfLeadingZeros 31 = .ok (.iushr, 1) := dk_124 (dk_at dksJ19_numberOfLeadingZeros_1 9 rfl rfl)
theorem dJ19_numberOfLeadingZeros_32 : decode cJ19_numberOfLeadingZeros 32 = .ok (.istore_n 0, 1) := dk_59 (dk_at dksJ19_numberOfLeadingZeros_1 10 rfl rfl)
theorem dJ19_numberOfLeadingZeros_33 : decode cJ19_numberOfLeadingZeros 33 = .ok (.iload_n 0, 1) := dk_26 (dk_at dksJ19_numberOfLeadingZeros_1 11 rfl rfl)
theorem dJ19_numberOfLeadingZeros_34 : decode cJ19_numberOfLeadingZeros 34 = .ok (.sipush 256, 3) := dk_17 1 0 (dk_at dksJ19_numberOfLeadingZeros_1 12 rfl rfl)
theorem dJ19_numberOfLeadingZeros_37 : decode cJ19_numberOfLeadingZeros 37 = .ok (.if_icmp .lt 11, 3) := dk_161 0 11 (dk_at dksJ19_numberOfLeadingZeros_1 15 rfl rfl)
theorem dJ19_numberOfLeadingZeros_40 : decode cJ19_numberOfLeadingZeros 40 = .ok (.iinc 1 (-8), 3) := dk_132 1 248 (dk_at dksJ19_numberOfLeadingZeros_1 18 rfl rfl)
theorem dJ19_numberOfLeadingZeros_43 : decode cJ19_numberOfLeadingZeros 43 = .ok (.iload_n 0, 1) := dk_26 (dk_at dksJ19_numberOfLeadingZeros_1 21 rfl rfl)
theorem dJ19_numberOfLeadingZeros_44 : decode cJ19_numberOfLeadingZeros 44 = .ok (.bipush 8, 2) := dk_16 8 (dk_at dksJ19_numberOfLeadingZeros_1 22 rfl rfl)
theorem dJ19_numberOfLeadingZeros_46 : decode cJ19_numberOfLeadingZeros 46 = .ok (.iushr, 1) := dk_124 (dk_at dksJ19_numberOfLeadingZeros_2 0 rfl rfl)
theorem dJ19_numberOfLeadingZeros_47 : decode cJ19_numberOfLeadingZeros 47 = .ok (.istore_n 0, 1) := dk_59 (dk_at dksJ19_numberOfLeadingZeros_2 1 rfl rfl)
theorem dJ19_numberOfLeadingZeros_48 : decode cJ19_numberOfLeadingZeros 48 = .ok (.iload_n 0, 1) := dk_26 (dk_at dksJ19_numberOfLeadingZeros_2 2 rfl rfl)
theorem dJ19_numberOfLeadingZeros_49 : decode cJ19_numberOfLeadingZeros 49 = .ok (.bipush 16, 2) := dk_16 16 (dk_at dksJ19_numberOfLeadingZeros_2 3 rfl rfl)
theorem dJ19_numberOfLeadingZeros_51 : decode cJ19_numberOfLeadingZeros 51 = .ok (.if_icmp .lt 10, 3) := dk_161 0 10 (dk_at dksJ19_numberOfLeadingZeros_2 5 rfl rfl)
theorem dJ19_numberOfLeadingZeros_54 : decode cJ19_numberOfLeadingZeros 54 = .ok (.iinc 1 (-4), 3) := dk_132 1 252 (dk_at dksJ19_numberOfLeadingZeros_2 8 rfl rfl)
theorem dJ19_numberOfLeadingZeros_57 : decode cJ19_numberOfLeadingZeros 57 = .ok (.iload_n 0, 1) := dk_26 (dk_at dksJ19_numberOfLeadingZeros_2 11 rfl rfl)
theorem dJ19_numberOfLeadingZeros_58 : decode cJ19_numberOfLeadingZeros 58 = .ok (.iconst 4, 1) := dk_7 (dk_at dksJ19_numberOfLeadingZeros_2 12 rfl rfl)
theorem dJ19_numberOfLeadingZeros_59 : decode cJ19_numberOfLeadingZeros 59 = .ok (.iushr, 1) := dk_124 (dk_at dksJ19_numberOfLeadingZeros_2 13 rfl rfl)
theorem dJ19_numberOfLeadingZeros_60 : decode cJ19_numberOfLeadingZeros 60 = .ok (.istore_n 0, 1) := dk_59 (dk_at dksJ19_numberOfLeadingZeros_2 14 rfl rfl)
theorem dJ19_numberOfLeadingZeros_61 : decode cJ19_numberOfLeadingZeros 61 = .ok (.iload_n 0, 1) := dk_26 (dk_at dksJ19_numberOfLeadingZeros_2 15 rfl rfl)
theorem dJ19_numberOfLeadingZeros_62 : decode cJ19_numberOfLeadingZeros 62 = .ok (.iconst 4, 1) := dk_7 (dk_at dksJ19_numberOfLeadingZeros_2 16 rfl rfl)
theorem dJ19_numberOfLeadingZeros_63 : decode cJ19_numberOfLeadingZeros 63 = .ok (.if_icmp .lt 10, 3) := dk_161 0 10 (dk_at dksJ19_numberOfLeadingZeros_2 17 rfl rfl)
theorem dJ19_numberOfLeadingZeros_66 : decode cJ19_numberOfLeadingZeros 66 = .ok (.iinc 1 (-2), 3) := dk_132 1 254 (dk_at dksJ19_numberOfLeadingZeros_2 20 rfl rfl)
theorem dJ19_numberOfLeadingZeros_69 : decode cJ19_numberOfLeadingZeros 69 = .ok (.iload_n 0, 1) := dk_26 (dk_at dksJ19_numberOfLeadingZeros_2 23 rfl rfl)
theorem dJ19_numberOfLeadingZeros_70 : decode cJ19_numberOfLeadingZeros 70 = .ok (.iconst 2, 1) := dk_5 (dk_at dksJ19_numberOfLeadingZeros_3 0 rfl rfl)
theorem dJ19_numberOfLeadingZeros_71 : decode cJ19_numberOfLeadingZeros 71 = .ok (.iushr, 1) := dk_124 (dk_at dksJ19_numberOfLeadingZeros_3 1 rfl rfl)
theorem dJ19_numberOfLeadingZeros_72 : decode cJ19_numberOfLeadingZeros 72 = .ok (.istore_n 0, 1) := dk_59 (dk_at dksJ19_numberOfLeadingZeros_3 2 rfl rfl)
theorem dJ19_numberOfLeadingZeros_73 : decode cJ19_numberOfLeadingZeros 73 = .ok (.iload_n 1, 1) := dk_27 (dk_at dksJ19_numberOfLeadingZeros_3 3 rfl rfl)
theorem dJ19_numberOfLeadingZeros_74 : decode cJ19_numberOfLeadingZeros 74 = .ok (.iload_n 0, 1) := dk_26 (dk_at dksJ19_numberOfLeadingZeros_3 4 rfl rfl)
theorem dJ19_numberOfLeadingZeros_75 : decode cJ19_numberOfLeadingZeros 75 = .ok (.iconst 1, 1) := dk_4 (dk_at dksJ19_numberOfLeadingZeros_3 5 rfl rfl)
theorem dJ19_numberOfLeadingZeros_76 : decode cJ19_numberOfLeadingZeros 76 = .ok (.iushr, 1) := dk_124 (dk_at dksJ19_numberOfLeadingZeros_3 6 rfl rfl)
theorem dJ19_numberOfLeadingZeros_77 : decode cJ19_numberOfLeadingZeros 77 = .ok (.isub, 1) := dk_100 (dk_at dksJ19_numberOfLeadingZeros_3 7 rfl rfl)
theorem dJ19_numberOfLeadingZeros_78 : decode cJ19_numberOfLeadingZeros 78 = .ok (.ireturn, 1) := dk_172 (dk_at dksJ19_numberOfLeadingZeros_3 8 rfl rfl)
abbrev cJ19_numberOfTrailingZeros : ByteArray := prog_19_method_48_code
def yJ19_numberOfTrailingZeros : MethodName := ⟨RJ19, "numberOfTrailingZeros", "(I)I"⟩
def dkwJ19_numberOfTrailingZeros_3 : List UInt8 := [5, 124, 59, 27, 26, 4, 124, 96, 172]
abbrev dktJ19_numberOfTrailingZeros_3 : List UInt8 := dkwJ19_numberOfTrailingZeros_3 ++ []
def dkwJ19_numberOfTrailingZeros_2 : List UInt8 := [124, 59, 26, 16, 16, 164, 0, 10, 132, 1, 4, 26, 7, 124, 59, 26, 7, 164, 0, 10, 132, 1, 2, 26]
abbrev dktJ19_numberOfTrailingZeros_2 : List UInt8 := dkwJ19_numberOfTrailingZeros_2 ++ dktJ19_numberOfTrailingZeros_3
def dkwJ19_numberOfTrailingZeros_1 : List UInt8 := [164, 0, 11, 132, 1, 16, 26, 16, 16, 124, 59, 26, 17, 1, 0, 164, 0, 11, 132, 1, 8, 26, 16, 8]
abbrev dktJ19_numberOfTrailingZeros_1 : List UInt8 := dkwJ19_numberOfTrailingZeros_1 ++ dktJ19_numberOfTrailingZeros_2
def dkwJ19_numberOfTrailingZeros_0 : List UInt8 := [26, 2, 130, 26, 4, 100, 126, 59, 26, 157, 0, 8, 26, 16, 32, 126, 172, 4, 60, 26, 19, 1, 8]
abbrev dktJ19_numberOfTrailingZeros_0 : List UInt8 := dkwJ19_numberOfTrailingZeros_0 ++ dktJ19_numberOfTrailingZeros_1
theorem dksJ19_numberOfTrailingZeros_0 : cJ19_numberOfTrailingZeros.data.toList.drop 0 = dktJ19_numberOfTrailingZeros_0 := by decide +kernel
theorem dksJ19_numberOfTrailingZeros_1 : cJ19_numberOfTrailingZeros.data.toList.drop 23 = dktJ19_numberOfTrailingZeros_1 := dk_seg dksJ19_numberOfTrailingZeros_0 23 rfl rfl
theorem dksJ19_numberOfTrailingZeros_2 : cJ19_numberOfTrailingZeros.data.toList.drop 47 = dktJ19_numberOfTrailingZeros_2 := dk_seg dksJ19_numberOfTrailingZeros_1 24 rfl rfl
theorem dksJ19_numberOfTrailingZeros_3 : cJ19_numberOfTrailingZeros.data.toList.drop 71 = dktJ19_numberOfTrailingZeros_3 := dk_seg dksJ19_numberOfTrailingZeros_2 24 rfl rfl
theorem dJ19_numberOfTrailingZeros_0 : decode cJ19_numberOfTrailingZeros 0 = .ok (.iload_n 0, 1) := dk_26 (dk_at dksJ19_numberOfTrailingZeros_0 0 rfl rfl)
theorem dJ19_numberOfTrailingZeros_1 : decode cJ19_numberOfTrailingZeros 1 = .ok (.iconst (-1), 1) := dk_2 (dk_at dksJ19_numberOfTrailingZeros_0 1 rfl rfl)
theorem dJ19_numberOfTrailingZeros_2 : decode cJ19_numberOfTrailingZeros 2 = .ok (.ixor, 1) := dk_130 (dk_at dksJ19_numberOfTrailingZeros_0 2 rfl rfl)
theorem dJ19_numberOfTrailingZeros_3 : decode cJ19_numberOfTrailingZeros 3 = .ok (.iload_n 0, 1) := dk_26 (dk_at dksJ19_numberOfTrailingZeros_0 3 rfl rfl)
theorem dJ19_numberOfTrailingZeros_4 : decode cJ19_numberOfTrailingZeros 4 = .ok (.iconst 1, 1) := dk_4 (dk_at dksJ19_numberOfTrailingZeros_0 4 rfl rfl)
theorem dJ19_numberOfTrailingZeros_5 : decode cJ19_numberOfTrailingZeros 5 = .ok (.isub, 1) := dk_100 (dk_at dksJ19_numberOfTrailingZeros_0 5 rfl rfl)
theorem dJ19_numberOfTrailingZeros_6 : decode cJ19_numberOfTrailingZeros 6 = .ok (.iand, 1) := dk_126 (dk_at dksJ19_numberOfTrailingZeros_0 6 rfl rfl)
theorem dJ19_numberOfTrailingZeros_7 : decode cJ19_numberOfTrailingZeros 7 = .ok (.istore_n 0, 1) := dk_59 (dk_at dksJ19_numberOfTrailingZeros_0 7 rfl rfl)
theorem dJ19_numberOfTrailingZeros_8 : decode cJ19_numberOfTrailingZeros 8 = .ok (.iload_n 0, 1) := dk_26 (dk_at dksJ19_numberOfTrailingZeros_0 8 rfl rfl)
theorem dJ19_numberOfTrailingZeros_9 : decode cJ19_numberOfTrailingZeros 9 = .ok (.ifCond .gt 8, 3) := dk_157 0 8 (dk_at dksJ19_numberOfTrailingZeros_0 9 rfl rfl)
theorem dJ19_numberOfTrailingZeros_12 : decode cJ19_numberOfTrailingZeros 12 = .ok (.iload_n 0, 1) := dk_26 (dk_at dksJ19_numberOfTrailingZeros_0 12 rfl rfl)
theorem dJ19_numberOfTrailingZeros_13 : decode cJ19_numberOfTrailingZeros 13 = .ok (.bipush 32, 2) := dk_16 32 (dk_at dksJ19_numberOfTrailingZeros_0 13 rfl rfl)
theorem dJ19_numberOfTrailingZeros_15 : decode cJ19_numberOfTrailingZeros 15 = .ok (.iand, 1) := dk_126 (dk_at dksJ19_numberOfTrailingZeros_0 15 rfl rfl)
theorem dJ19_numberOfTrailingZeros_16 : decode cJ19_numberOfTrailingZeros 16 = .ok (.ireturn, 1) := dk_172 (dk_at dksJ19_numberOfTrailingZeros_0 16 rfl rfl)
theorem dJ19_numberOfTrailingZeros_17 : decode cJ19_numberOfTrailingZeros 17 = .ok (.iconst 1, 1) := dk_4 (dk_at dksJ19_numberOfTrailingZeros_0 17 rfl rfl)
theorem dJ19_numberOfTrailingZeros_18 : decode cJ19_numberOfTrailingZeros 18 = .ok (.istore_n 1, 1) := dk_60 (dk_at dksJ19_numberOfTrailingZeros_0 18 rfl rfl)
theorem dJ19_numberOfTrailingZeros_19 : decode cJ19_numberOfTrailingZeros 19 = .ok (.iload_n 0, 1) := dk_26 (dk_at dksJ19_numberOfTrailingZeros_0 19 rfl rfl)
theorem dJ19_numberOfTrailingZeros_20 : decode cJ19_numberOfTrailingZeros 20 = .ok (.ldc_w 264, 3) := dk_19 1 8 (dk_at dksJ19_numberOfTrailingZeros_0 20 rfl rfl)
theorem dJ19_numberOfTrailingZeros_23 : decode cJ19_numberOfTrailingZeros 23 = .ok (.if_icmp .le 11, 3) := dk_164 0 11 (dk_at dksJ19_numberOfTrailingZeros_1 0 rfl rfl)
theorem dJ19_numberOfTrailingZeros_26 : decode cJ19_numberOfTrailingZeros 26 = .ok (.iinc 1 16, 3) := dk_132 1 16 (dk_at dksJ19_numberOfTrailingZeros_1 3 rfl rfl)
theorem dJ19_numberOfTrailingZeros_29 : decode cJ19_numberOfTrailingZeros 29 = .ok (.iload_n 0, 1) := dk_26 (dk_at dksJ19_numberOfTrailingZeros_1 6 rfl rfl)
theorem dJ19_numberOfTrailingZeros_30 : decode cJ19_numberOfTrailingZeros 30 = .ok (.bipush 16, 2) := dk_16 16 (dk_at dksJ19_numberOfTrailingZeros_1 7 rfl rfl)
theorem dJ19_numberOfTrailingZeros_32 : decode cJ19_numberOfTrailingZeros 32 = .ok (.iushr, 1) := dk_124 (dk_at dksJ19_numberOfTrailingZeros_1 9 rfl rfl)
theorem dJ19_numberOfTrailingZeros_33 : decode cJ19_numberOfTrailingZeros 33 = .ok (.istore_n 0, 1) := dk_59 (dk_at dksJ19_numberOfTrailingZeros_1 10 rfl rfl)
theorem dJ19_numberOfTrailingZeros_34 : decode cJ19_numberOfTrailingZeros 34 = .ok (.iload_n 0, 1) := dk_26 (dk_at dksJ19_numberOfTrailingZeros_1 11 rfl rfl)
theorem dJ19_numberOfTrailingZeros_35 : decode cJ19_numberOfTrailingZeros 35 = .ok (.sipush 256, 3) := dk_17 1 0 (dk_at dksJ19_numberOfTrailingZeros_1 12 rfl rfl)
theorem dJ19_numberOfTrailingZeros_38 : decode cJ19_numberOfTrailingZeros 38 = .ok (.if_icmp .le 11, 3) := dk_164 0 11 (dk_at dksJ19_numberOfTrailingZeros_1 15 rfl rfl)
theorem dJ19_numberOfTrailingZeros_41 : decode cJ19_numberOfTrailingZeros 41 = .ok (.iinc 1 8, 3) := dk_132 1 8 (dk_at dksJ19_numberOfTrailingZeros_1 18 rfl rfl)
theorem dJ19_numberOfTrailingZeros_44 : decode cJ19_numberOfTrailingZeros 44 = .ok (.iload_n 0, 1) := dk_26 (dk_at dksJ19_numberOfTrailingZeros_1 21 rfl rfl)
theorem dJ19_numberOfTrailingZeros_45 : decode cJ19_numberOfTrailingZeros 45 = .ok (.bipush 8, 2) := dk_16 8 (dk_at dksJ19_numberOfTrailingZeros_1 22 rfl rfl)
theorem dJ19_numberOfTrailingZeros_47 : decode cJ19_numberOfTrailingZeros 47 = .ok (.iushr, 1) := dk_124 (dk_at dksJ19_numberOfTrailingZeros_2 0 rfl rfl)
theorem dJ19_numberOfTrailingZeros_48 : decode cJ19_numberOfTrailingZeros 48 = .ok (.istore_n 0, 1) := dk_59 (dk_at dksJ19_numberOfTrailingZeros_2 1 rfl rfl)
theorem dJ19_numberOfTrailingZeros_49 : decode cJ19_numberOfTrailingZeros 49 = .ok (.iload_n 0, 1) := dk_26 (dk_at dksJ19_numberOfTrailingZeros_2 2 rfl rfl)
theorem dJ19_numberOfTrailingZeros_50 : decode cJ19_numberOfTrailingZeros 50 = .ok (.bipush 16, 2) := dk_16 16 (dk_at dksJ19_numberOfTrailingZeros_2 3 rfl rfl)
theorem dJ19_numberOfTrailingZeros_52 : decode cJ19_numberOfTrailingZeros 52 = .ok (.if_icmp .le 10, 3) := dk_164 0 10 (dk_at dksJ19_numberOfTrailingZeros_2 5 rfl rfl)
theorem dJ19_numberOfTrailingZeros_55 : decode cJ19_numberOfTrailingZeros 55 = .ok (.iinc 1 4, 3) := dk_132 1 4 (dk_at dksJ19_numberOfTrailingZeros_2 8 rfl rfl)
theorem dJ19_numberOfTrailingZeros_58 : decode cJ19_numberOfTrailingZeros 58 = .ok (.iload_n 0, 1) := dk_26 (dk_at dksJ19_numberOfTrailingZeros_2 11 rfl rfl)
theorem dJ19_numberOfTrailingZeros_59 : decode cJ19_numberOfTrailingZeros 59 = .ok (.iconst 4, 1) := dk_7 (dk_at dksJ19_numberOfTrailingZeros_2 12 rfl rfl)
theorem dJ19_numberOfTrailingZeros_60 : decode cJ19_numberOfTrailingZeros 60 = .ok (.iushr, 1) := dk_124 (dk_at dksJ19_numberOfTrailingZeros_2 13 rfl rfl)
theorem dJ19_numberOfTrailingZeros_61 : decode cJ19_numberOfTrailingZeros 61 = .ok (.istore_n 0, 1) := dk_59 (dk_at dksJ19_numberOfTrailingZeros_2 14 rfl rfl)
theorem dJ19_numberOfTrailingZeros_62 : decode cJ19_numberOfTrailingZeros 62 = .ok (.iload_n 0, 1) := dk_26 (dk_at dksJ19_numberOfTrailingZeros_2 15 rfl rfl)
theorem dJ19_numberOfTrailingZeros_63 : decode cJ19_numberOfTrailingZeros 63 = .ok (.iconst 4, 1) := dk_7 (dk_at dksJ19_numberOfTrailingZeros_2 16 rfl rfl)
theorem dJ19_numberOfTrailingZeros_64 : decode cJ19_numberOfTrailingZeros 64 = .ok (.if_icmp .le 10, 3) := dk_164 0 10 (dk_at dksJ19_numberOfTrailingZeros_2 17 rfl rfl)
theorem dJ19_numberOfTrailingZeros_67 : decode cJ19_numberOfTrailingZeros 67 = .ok (.iinc 1 2, 3) := dk_132 1 2 (dk_at dksJ19_numberOfTrailingZeros_2 20 rfl rfl)
theorem dJ19_numberOfTrailingZeros_70 : decode cJ19_numberOfTrailingZeros 70 = .ok (.iload_n 0, 1) := dk_26 (dk_at dksJ19_numberOfTrailingZeros_2 23 rfl rfl)
theorem dJ19_numberOfTrailingZeros_71 : decode cJ19_numberOfTrailingZeros 71 = .ok (.iconst 2, 1) := dk_5 (dk_at dksJ19_numberOfTrailingZeros_3 0 rfl rfl)
theorem dJ19_numberOfTrailingZeros_72 : decode cJ19_numberOfTrailingZeros 72 = .ok (.iushr, 1) := dk_124 (dk_at dksJ19_numberOfTrailingZeros_3 1 rfl rfl)
theorem dJ19_numberOfTrailingZeros_73 : decode cJ19_numberOfTrailingZeros 73 = .ok (.istore_n 0, 1) := dk_59 (dk_at dksJ19_numberOfTrailingZeros_3 2 rfl rfl)
theorem dJ19_numberOfTrailingZeros_74 : decode cJ19_numberOfTrailingZeros 74 = .ok (.iload_n 1, 1) := dk_27 (dk_at dksJ19_numberOfTrailingZeros_3 3 rfl rfl)
theorem dJ19_numberOfTrailingZeros_75 : decode cJ19_numberOfTrailingZeros 75 = .ok (.iload_n 0, 1) := dk_26 (dk_at dksJ19_numberOfTrailingZeros_3 4 rfl rfl)
theorem dJ19_numberOfTrailingZeros_76 : decode cJ19_numberOfTrailingZeros 76 = .ok (.iconst 1, 1) := dk_4 (dk_at dksJ19_numberOfTrailingZeros_3 5 rfl rfl)
theorem dJ19_numberOfTrailingZeros_77 : decode cJ19_numberOfTrailingZeros 77 = .ok (.iushr, 1) := dk_124 (dk_at dksJ19_numberOfTrailingZeros_3 6 rfl rfl)
theorem dJ19_numberOfTrailingZeros_78 : decode cJ19_numberOfTrailingZeros 78 = .ok (.iadd, 1) := dk_96 (dk_at dksJ19_numberOfTrailingZeros_3 7 rfl rfl)
theorem dJ19_numberOfTrailingZeros_79 : decode cJ19_numberOfTrailingZeros 79 = .ok (.ireturn, 1) := dk_172 (dk_at dksJ19_numberOfTrailingZeros_3 8 rfl rfl)
theorem q61 : (Jvm.Cond.initialized "java/lang/Integer") ∈ lw_all := lw_g (lw_at lw_m1 26 rfl) rfl
theorem q420 : (Jvm.Cond.static ({ cls := "java/lang/Integer", name := "stringSize", desc := "(I)I" } : Jvm.MethodName)) ∈ lw_all := lw_g (lw_at lw_m2 145 rfl) rfl
theorem q421 : (Jvm.Cond.code ({ cls := "java/lang/Integer", name := "stringSize", desc := "(I)I" } : Jvm.MethodName) prog_19_method_13_code (4 : Nat) (Option.some Jvm.ClassFile.FieldType.int)) ∈ lw_all := lw_g (lw_at lw_m2 146 rfl) rfl
theorem q423 : (Jvm.Cond.static ({ cls := "java/lang/Integer", name := "getChars", desc := "(II[B)I" } : Jvm.MethodName)) ∈ lw_all := lw_g (lw_at lw_m2 148 rfl) rfl
theorem q424 : (Jvm.Cond.code ({ cls := "java/lang/Integer", name := "getChars", desc := "(II[B)I" } : Jvm.MethodName) prog_19_method_12_code (7 : Nat) (Option.some Jvm.ClassFile.FieldType.int)) ∈ lw_all := lw_g (lw_at lw_m2 149 rfl) rfl
theorem q425 : (Jvm.Cond.fieldLink "java/lang/Integer" (83 : Nat) "java/lang/Integer" "DigitOnes" "[B") ∈ lw_all := lw_g (lw_at lw_m2 150 rfl) rfl
theorem q426 : (Jvm.Cond.laysStatic "java/lang/Integer" "DigitOnes" "[B") ∈ lw_tbl := lw_at lw_m2 151 rfl
theorem q427 : (Jvm.Cond.fieldLink "java/lang/Integer" (87 : Nat) "java/lang/Integer" "DigitTens" "[B") ∈ lw_all := lw_g (lw_at lw_m2 152 rfl) rfl
theorem q428 : (Jvm.Cond.laysStatic "java/lang/Integer" "DigitTens" "[B") ∈ lw_tbl := lw_at lw_m2 153 rfl
theorem q728 : (Jvm.Cond.static ({ cls := "java/lang/Integer", name := "numberOfLeadingZeros", desc := "(I)I" } : Jvm.MethodName)) ∈ lw_all := lw_g (lw_at lw_m3 213 rfl) rfl
theorem q729 : (Jvm.Cond.code ({ cls := "java/lang/Integer", name := "numberOfLeadingZeros", desc := "(I)I" } : Jvm.MethodName) prog_19_method_47_code (2 : Nat) (Option.some Jvm.ClassFile.FieldType.int)) ∈ lw_all := lw_g (lw_at lw_m3 214 rfl) rfl
theorem q730 : (Jvm.Cond.constant "java/lang/Integer" (264 : Nat) (65536 : Int32)) ∈ lw_all := lw_g (lw_at lw_m3 215 rfl) rfl
theorem q737 : (Jvm.Cond.static ({ cls := "java/lang/Integer", name := "numberOfTrailingZeros", desc := "(I)I" } : Jvm.MethodName)) ∈ lw_all := lw_g (lw_at lw_m3 222 rfl) rfl
theorem q738 : (Jvm.Cond.code ({ cls := "java/lang/Integer", name := "numberOfTrailingZeros", desc := "(I)I" } : Jvm.MethodName) prog_19_method_48_code (2 : Nat) (Option.some Jvm.ClassFile.FieldType.int)) ∈ lw_all := lw_g (lw_at lw_m3 223 rfl) rfl

/-! jdk/internal/misc/Unsafe -/
set_option maxRecDepth 100000
def RJ22 : String := "jdk/internal/misc/Unsafe"
abbrev cJ22_getLongUnaligned : ByteArray := prog_44_method_334_code
def yJ22_getLongUnaligned : MethodName := ⟨RJ22, "getLongUnaligned", "(Ljava/lang/Object;J)J"⟩
def dkwJ22_getLongUnaligned_7 : List UInt8 := [182, 0, 39, 184, 2, 197, 173]
abbrev dktJ22_getLongUnaligned_7 : List UInt8 := dkwJ22_getLongUnaligned_7 ++ []
def dkwJ22_getLongUnaligned_6 : List UInt8 := [20, 2, 195, 97, 182, 0, 39, 42, 43, 32, 20, 2, 190, 97, 182, 0, 39, 42, 43, 32, 20, 2, 184, 97]
abbrev dktJ22_getLongUnaligned_6 : List UInt8 := dkwJ22_getLongUnaligned_6 ++ dktJ22_getLongUnaligned_7
def dkwJ22_getLongUnaligned_5 : List UInt8 := [43, 32, 20, 1, 93, 97, 182, 0, 39, 42, 43, 32, 20, 0, 205, 97, 182, 0, 39, 42, 43, 32]
abbrev dktJ22_getLongUnaligned_5 : List UInt8 := dkwJ22_getLongUnaligned_5 ++ dktJ22_getLongUnaligned_6
def dkwJ22_getLongUnaligned_4 : List UInt8 := [43, 32, 182, 0, 39, 42, 43, 32, 10, 97, 182, 0, 39, 42, 43, 32, 20, 0, 203, 97, 182, 0, 39, 42]
abbrev dktJ22_getLongUnaligned_4 : List UInt8 := dkwJ22_getLongUnaligned_4 ++ dktJ22_getLongUnaligned_5
def dkwJ22_getLongUnaligned_3 : List UInt8 := [43, 32, 20, 0, 205, 97, 182, 0, 47, 42, 43, 32, 20, 2, 190, 97, 182, 0, 47, 184, 2, 192, 173, 42]
abbrev dktJ22_getLongUnaligned_3 : List UInt8 := dkwJ22_getLongUnaligned_3 ++ dktJ22_getLongUnaligned_4
def dkwJ22_getLongUnaligned_2 : List UInt8 := [10, 127, 9, 148, 154, 0, 43, 42, 43, 32, 182, 0, 47, 42, 43, 32, 20, 0, 203, 97, 182, 0, 47, 42]
abbrev dktJ22_getLongUnaligned_2 : List UInt8 := dkwJ22_getLongUnaligned_2 ++ dktJ22_getLongUnaligned_3
def dkwJ22_getLongUnaligned_1 : List UInt8 := [154, 0, 23, 42, 43, 32, 182, 0, 17, 42, 43, 32, 20, 0, 205, 97, 182, 0, 17, 184, 2, 186, 173, 32]
abbrev dktJ22_getLongUnaligned_1 : List UInt8 := dkwJ22_getLongUnaligned_1 ++ dktJ22_getLongUnaligned_2
def dkwJ22_getLongUnaligned_0 : List UInt8 := [32, 20, 2, 184, 127, 9, 148, 154, 0, 10, 42, 43, 32, 182, 0, 27, 173, 32, 20, 1, 93, 127, 9, 148]
abbrev dktJ22_getLongUnaligned_0 : List UInt8 := dkwJ22_getLongUnaligned_0 ++ dktJ22_getLongUnaligned_1
theorem dksJ22_getLongUnaligned_0 : cJ22_getLongUnaligned.data.toList.drop 0 = dktJ22_getLongUnaligned_0 := by decide +kernel
theorem dksJ22_getLongUnaligned_1 : cJ22_getLongUnaligned.data.toList.drop 24 = dktJ22_getLongUnaligned_1 := dk_seg dksJ22_getLongUnaligned_0 24 rfl rfl
theorem dksJ22_getLongUnaligned_2 : cJ22_getLongUnaligned.data.toList.drop 48 = dktJ22_getLongUnaligned_2 := dk_seg dksJ22_getLongUnaligned_1 24 rfl rfl
theorem dksJ22_getLongUnaligned_3 : cJ22_getLongUnaligned.data.toList.drop 72 = dktJ22_getLongUnaligned_3 := dk_seg dksJ22_getLongUnaligned_2 24 rfl rfl
theorem dksJ22_getLongUnaligned_4 : cJ22_getLongUnaligned.data.toList.drop 96 = dktJ22_getLongUnaligned_4 := dk_seg dksJ22_getLongUnaligned_3 24 rfl rfl
theorem dksJ22_getLongUnaligned_5 : cJ22_getLongUnaligned.data.toList.drop 120 = dktJ22_getLongUnaligned_5 := dk_seg dksJ22_getLongUnaligned_4 24 rfl rfl
theorem dksJ22_getLongUnaligned_6 : cJ22_getLongUnaligned.data.toList.drop 142 = dktJ22_getLongUnaligned_6 := dk_seg dksJ22_getLongUnaligned_5 22 rfl rfl
theorem dksJ22_getLongUnaligned_7 : cJ22_getLongUnaligned.data.toList.drop 166 = dktJ22_getLongUnaligned_7 := dk_seg dksJ22_getLongUnaligned_6 24 rfl rfl
theorem dJ22_getLongUnaligned_0 : decode cJ22_getLongUnaligned 0 = .ok (.lload_n 2, 1) := dk_32 (dk_at dksJ22_getLongUnaligned_0 0 rfl rfl)
theorem dJ22_getLongUnaligned_1 : decode cJ22_getLongUnaligned 1 = .ok (.ldc2_w 696, 3) := dk_20 2 184 (dk_at dksJ22_getLongUnaligned_0 1 rfl rfl)
theorem dJ22_getLongUnaligned_4 : decode cJ22_getLongUnaligned 4 = .ok (.land, 1) := dk_127 (dk_at dksJ22_getLongUnaligned_0 4 rfl rfl)
theorem dJ22_getLongUnaligned_5 : decode cJ22_getLongUnaligned 5 = .ok (.lconst 0, 1) := dk_9 (dk_at dksJ22_getLongUnaligned_0 5 rfl rfl)
theorem dJ22_getLongUnaligned_6 : decode cJ22_getLongUnaligned 6 = .ok (.lcmp, 1) := dk_148 (dk_at dksJ22_getLongUnaligned_0 6 rfl rfl)
theorem dJ22_getLongUnaligned_7 : decode cJ22_getLongUnaligned 7 = .ok (.ifCond .ne 10, 3) := dk_154 0 10 (dk_at dksJ22_getLongUnaligned_0 7 rfl rfl)
theorem dJ22_getLongUnaligned_10 : decode cJ22_getLongUnaligned 10 = .ok (.aload_n 0, 1) := dk_42 (dk_at dksJ22_getLongUnaligned_0 10 rfl rfl)
theorem dJ22_getLongUnaligned_11 : decode cJ22_getLongUnaligned 11 = .ok (.aload_n 1, 1) := dk_43 (dk_at dksJ22_getLongUnaligned_0 11 rfl rfl)
theorem dJ22_getLongUnaligned_12 : decode cJ22_getLongUnaligned 12 = .ok (.lload_n 2, 1) := dk_32 (dk_at dksJ22_getLongUnaligned_0 12 rfl rfl)
theorem dJ22_getLongUnaligned_13 : decode cJ22_getLongUnaligned 13 = .ok (.invokevirtual 27, 3) := dk_182 0 27 (dk_at dksJ22_getLongUnaligned_0 13 rfl rfl)
theorem dJ22_getLongUnaligned_16 : decode cJ22_getLongUnaligned 16 = .ok (.lreturn, 1) := dk_173 (dk_at dksJ22_getLongUnaligned_0 16 rfl rfl)
theorem dJ22_getLongUnaligned_17 : decode cJ22_getLongUnaligned 17 = .ok (.lload_n 2, 1) := dk_32 (dk_at dksJ22_getLongUnaligned_0 17 rfl rfl)
theorem dJ22_getLongUnaligned_18 : decode cJ22_getLongUnaligned 18 = .ok (.ldc2_w 349, 3) := dk_20 1 93 (dk_at dksJ22_getLongUnaligned_0 18 rfl rfl)
theorem dJ22_getLongUnaligned_21 : decode cJ22_getLongUnaligned 21 = .ok (.land, 1) := dk_127 (dk_at dksJ22_getLongUnaligned_0 21 rfl rfl)
theorem dJ22_getLongUnaligned_22 : decode cJ22_getLongUnaligned 22 = .ok (.lconst 0, 1) := dk_9 (dk_at dksJ22_getLongUnaligned_0 22 rfl rfl)
theorem dJ22_getLongUnaligned_23 : decode cJ22_getLongUnaligned 23 = .ok (.lcmp, 1) := dk_148 (dk_at dksJ22_getLongUnaligned_0 23 rfl rfl)
theorem dJ22_getLongUnaligned_24 : decode cJ22_getLongUnaligned 24 = .ok (.ifCond .ne 23, 3) := dk_154 0 23 (dk_at dksJ22_getLongUnaligned_1 0 rfl rfl)
theorem dJ22_getLongUnaligned_27 : decode cJ22_getLongUnaligned 27 = .ok (.aload_n 0, 1) := dk_42 (dk_at dksJ22_getLongUnaligned_1 3 rfl rfl)
theorem dJ22_getLongUnaligned_28 : decode cJ22_getLongUnaligned 28 = .ok (.aload_n 1, 1) := dk_43 (dk_at dksJ22_getLongUnaligned_1 4 rfl rfl)
theorem dJ22_getLongUnaligned_29 : decode cJ22_getLongUnaligned 29 = .ok (.lload_n 2, 1) := dk_32 (dk_at dksJ22_getLongUnaligned_1 5 rfl rfl)
theorem dJ22_getLongUnaligned_30 : decode cJ22_getLongUnaligned 30 = .ok (.invokevirtual 17, 3) := dk_182 0 17 (dk_at dksJ22_getLongUnaligned_1 6 rfl rfl)
theorem dJ22_getLongUnaligned_33 : decode cJ22_getLongUnaligned 33 = .ok (.aload_n 0, 1) := dk_42 (dk_at dksJ22_getLongUnaligned_1 9 rfl rfl)
theorem dJ22_getLongUnaligned_34 : decode cJ22_getLongUnaligned 34 = .ok (.aload_n 1, 1) := dk_43 (dk_at dksJ22_getLongUnaligned_1 10 rfl rfl)
theorem dJ22_getLongUnaligned_35 : decode cJ22_getLongUnaligned 35 = .ok (.lload_n 2, 1) := dk_32 (dk_at dksJ22_getLongUnaligned_1 11 rfl rfl)
theorem dJ22_getLongUnaligned_36 : decode cJ22_getLongUnaligned 36 = .ok (.ldc2_w 205, 3) := dk_20 0 205 (dk_at dksJ22_getLongUnaligned_1 12 rfl rfl)
theorem dJ22_getLongUnaligned_39 : decode cJ22_getLongUnaligned 39 = .ok (.ladd, 1) := dk_97 (dk_at dksJ22_getLongUnaligned_1 15 rfl rfl)
theorem dJ22_getLongUnaligned_40 : decode cJ22_getLongUnaligned 40 = .ok (.invokevirtual 17, 3) := dk_182 0 17 (dk_at dksJ22_getLongUnaligned_1 16 rfl rfl)
theorem dJ22_getLongUnaligned_43 : decode cJ22_getLongUnaligned 43 = .ok (.invokestatic 698, 3) := dk_184 2 186 (dk_at dksJ22_getLongUnaligned_1 19 rfl rfl)
theorem dJ22_getLongUnaligned_46 : decode cJ22_getLongUnaligned 46 = .ok (.lreturn, 1) := dk_173 (dk_at dksJ22_getLongUnaligned_1 22 rfl rfl)
theorem dJ22_getLongUnaligned_47 : decode cJ22_getLongUnaligned 47 = .ok (.lload_n 2, 1) := dk_32 (dk_at dksJ22_getLongUnaligned_1 23 rfl rfl)
theorem dJ22_getLongUnaligned_48 : decode cJ22_getLongUnaligned 48 = .ok (.lconst 1, 1) := dk_10 (dk_at dksJ22_getLongUnaligned_2 0 rfl rfl)
theorem dJ22_getLongUnaligned_49 : decode cJ22_getLongUnaligned 49 = .ok (.land, 1) := dk_127 (dk_at dksJ22_getLongUnaligned_2 1 rfl rfl)
theorem dJ22_getLongUnaligned_50 : decode cJ22_getLongUnaligned 50 = .ok (.lconst 0, 1) := dk_9 (dk_at dksJ22_getLongUnaligned_2 2 rfl rfl)
theorem dJ22_getLongUnaligned_51 : decode cJ22_getLongUnaligned 51 = .ok (.lcmp, 1) := dk_148 (dk_at dksJ22_getLongUnaligned_2 3 rfl rfl)
theorem dJ22_getLongUnaligned_52 : decode cJ22_getLongUnaligned 52 = .ok (.ifCond .ne 43, 3) := dk_154 0 43 (dk_at dksJ22_getLongUnaligned_2 4 rfl rfl)
theorem dJ22_getLongUnaligned_55 : decode cJ22_getLongUnaligned 55 = .ok (.aload_n 0, 1) := dk_42 (dk_at dksJ22_getLongUnaligned_2 7 rfl rfl)
theorem dJ22_getLongUnaligned_56 : decode cJ22_getLongUnaligned 56 = .ok (.aload_n 1, 1) := dk_43 (dk_at dksJ22_getLongUnaligned_2 8 rfl rfl)
theorem dJ22_getLongUnaligned_57 : decode cJ22_getLongUnaligned 57 = .ok (.lload_n 2, 1) := dk_32 (dk_at dksJ22_getLongUnaligned_2 9 rfl rfl)
theorem dJ22_getLongUnaligned_58 : decode cJ22_getLongUnaligned 58 = .ok (.invokevirtual 47, 3) := dk_182 0 47 (dk_at dksJ22_getLongUnaligned_2 10 rfl rfl)
theorem dJ22_getLongUnaligned_61 : decode cJ22_getLongUnaligned 61 = .ok (.aload_n 0, 1) := dk_42 (dk_at dksJ22_getLongUnaligned_2 13 rfl rfl)
theorem dJ22_getLongUnaligned_62 : decode cJ22_getLongUnaligned 62 = .ok (.aload_n 1, 1) := dk_43 (dk_at dksJ22_getLongUnaligned_2 14 rfl rfl)
theorem dJ22_getLongUnaligned_63 : decode cJ22_getLongUnaligned 63 = .ok (.lload_n 2, 1) := dk_32 (dk_at dksJ22_getLongUnaligned_2 15 rfl rfl)
theorem dJ22_getLongUnaligned_64 : decode cJ22_getLongUnaligned 64 = .ok (.ldc2_w 203, 3) := dk_20 0 203 (dk_at dksJ22_getLongUnaligned_2 16 rfl rfl)
theorem dJ22_getLongUnaligned_67 : decode cJ22_getLongUnaligned 67 = .ok (.ladd, 1) := dk_97 (dk_at dksJ22_getLongUnaligned_2 19 rfl rfl)
theorem dJ22_getLongUnaligned_68 : decode cJ22_getLongUnaligned 68 = .ok (.invokevirtual 47, 3) := dk_182 0 47 (dk_at dksJ22_getLongUnaligned_2 20 rfl rfl)
theorem dJ22_getLongUnaligned_71 : decode cJ22_getLongUnaligned 71 = .ok (.aload_n 0, 1) := dk_42 (dk_at dksJ22_getLongUnaligned_2 23 rfl rfl)
theorem dJ22_getLongUnaligned_72 : decode cJ22_getLongUnaligned 72 = .ok (.aload_n 1, 1) := dk_43 (dk_at dksJ22_getLongUnaligned_3 0 rfl rfl)
theorem dJ22_getLongUnaligned_73 : decode cJ22_getLongUnaligned 73 = .ok (.lload_n 2, 1) := dk_32 (dk_at dksJ22_getLongUnaligned_3 1 rfl rfl)
theorem dJ22_getLongUnaligned_74 : decode cJ22_getLongUnaligned 74 = .ok (.ldc2_w 205, 3) := dk_20 0 205 (dk_at dksJ22_getLongUnaligned_3 2 rfl rfl)
theorem dJ22_getLongUnaligned_77 : decode cJ22_getLongUnaligned 77 = .ok (.ladd, 1) := dk_97 (dk_at dksJ22_getLongUnaligned_3 5 rfl rfl)
theorem dJ22_getLongUnaligned_78 : decode cJ22_getLongUnaligned 78 = .ok (.invokevirtual 47, 3) := dk_182 0 47 (dk_at dksJ22_getLongUnaligned_3 6 rfl rfl)
theorem dJ22_getLongUnaligned_81 : decode cJ22_getLongUnaligned 81 = .ok (.aload_n 0, 1) := dk_42 (dk_at dksJ22_getLongUnaligned_3 9 rfl rfl)
theorem dJ22_getLongUnaligned_82 : decode cJ22_getLongUnaligned 82 = .ok (.aload_n 1, 1) := dk_43 (dk_at dksJ22_getLongUnaligned_3 10 rfl rfl)
theorem dJ22_getLongUnaligned_83 : decode cJ22_getLongUnaligned 83 = .ok (.lload_n 2, 1) := dk_32 (dk_at dksJ22_getLongUnaligned_3 11 rfl rfl)
theorem dJ22_getLongUnaligned_84 : decode cJ22_getLongUnaligned 84 = .ok (.ldc2_w 702, 3) := dk_20 2 190 (dk_at dksJ22_getLongUnaligned_3 12 rfl rfl)
theorem dJ22_getLongUnaligned_87 : decode cJ22_getLongUnaligned 87 = .ok (.ladd, 1) := dk_97 (dk_at dksJ22_getLongUnaligned_3 15 rfl rfl)
theorem dJ22_getLongUnaligned_88 : decode cJ22_getLongUnaligned 88 = .ok (.invokevirtual 47, 3) := dk_182 0 47 (dk_at dksJ22_getLongUnaligned_3 16 rfl rfl)
theorem dJ22_getLongUnaligned_91 : decode cJ22_getLongUnaligned 91 = .ok (.invokestatic 704, 3) := dk_184 2 192 (dk_at dksJ22_getLongUnaligned_3 19 rfl rfl)
theorem dJ22_getLongUnaligned_94 : decode cJ22_getLongUnaligned 94 = .ok (.lreturn, 1) := dk_173 (dk_at dksJ22_getLongUnaligned_3 22 rfl rfl)
theorem dJ22_getLongUnaligned_95 : decode cJ22_getLongUnaligned 95 = .ok (.aload_n 0, 1) := dk_42 (dk_at dksJ22_getLongUnaligned_3 23 rfl rfl)
theorem dJ22_getLongUnaligned_96 : decode cJ22_getLongUnaligned 96 = .ok (.aload_n 1, 1) := dk_43 (dk_at dksJ22_getLongUnaligned_4 0 rfl rfl)
theorem dJ22_getLongUnaligned_97 : decode cJ22_getLongUnaligned 97 = .ok (.lload_n 2, 1) := dk_32 (dk_at dksJ22_getLongUnaligned_4 1 rfl rfl)
theorem dJ22_getLongUnaligned_98 : decode cJ22_getLongUnaligned 98 = .ok (.invokevirtual 39, 3) := dk_182 0 39 (dk_at dksJ22_getLongUnaligned_4 2 rfl rfl)
theorem dJ22_getLongUnaligned_101 : decode cJ22_getLongUnaligned 101 = .ok (.aload_n 0, 1) := dk_42 (dk_at dksJ22_getLongUnaligned_4 5 rfl rfl)
theorem dJ22_getLongUnaligned_102 : decode cJ22_getLongUnaligned 102 = .ok (.aload_n 1, 1) := dk_43 (dk_at dksJ22_getLongUnaligned_4 6 rfl rfl)
theorem dJ22_getLongUnaligned_103 : decode cJ22_getLongUnaligned 103 = .ok (.lload_n 2, 1) := dk_32 (dk_at dksJ22_getLongUnaligned_4 7 rfl rfl)
theorem dJ22_getLongUnaligned_104 : decode cJ22_getLongUnaligned 104 = .ok (.lconst 1, 1) := dk_10 (dk_at dksJ22_getLongUnaligned_4 8 rfl rfl)
theorem dJ22_getLongUnaligned_105 : decode cJ22_getLongUnaligned 105 = .ok (.ladd, 1) := dk_97 (dk_at dksJ22_getLongUnaligned_4 9 rfl rfl)
theorem dJ22_getLongUnaligned_106 : decode cJ22_getLongUnaligned 106 = .ok (.invokevirtual 39, 3) := dk_182 0 39 (dk_at dksJ22_getLongUnaligned_4 10 rfl rfl)
theorem dJ22_getLongUnaligned_109 : decode cJ22_getLongUnaligned 109 = .ok (.aload_n 0, 1) := dk_42 (dk_at dksJ22_getLongUnaligned_4 13 rfl rfl)
theorem dJ22_getLongUnaligned_110 : decode cJ22_getLongUnaligned 110 = .ok (.aload_n 1, 1) := dk_43 (dk_at dksJ22_getLongUnaligned_4 14 rfl rfl)
theorem dJ22_getLongUnaligned_111 : decode cJ22_getLongUnaligned 111 = .ok (.lload_n 2, 1) := dk_32 (dk_at dksJ22_getLongUnaligned_4 15 rfl rfl)
theorem dJ22_getLongUnaligned_112 : decode cJ22_getLongUnaligned 112 = .ok (.ldc2_w 203, 3) := dk_20 0 203 (dk_at dksJ22_getLongUnaligned_4 16 rfl rfl)
theorem dJ22_getLongUnaligned_115 : decode cJ22_getLongUnaligned 115 = .ok (.ladd, 1) := dk_97 (dk_at dksJ22_getLongUnaligned_4 19 rfl rfl)
theorem dJ22_getLongUnaligned_116 : decode cJ22_getLongUnaligned 116 = .ok (.invokevirtual 39, 3) := dk_182 0 39 (dk_at dksJ22_getLongUnaligned_4 20 rfl rfl)
theorem dJ22_getLongUnaligned_119 : decode cJ22_getLongUnaligned 119 = .ok (.aload_n 0, 1) := dk_42 (dk_at dksJ22_getLongUnaligned_4 23 rfl rfl)
theorem dJ22_getLongUnaligned_120 : decode cJ22_getLongUnaligned 120 = .ok (.aload_n 1, 1) := dk_43 (dk_at dksJ22_getLongUnaligned_5 0 rfl rfl)
theorem dJ22_getLongUnaligned_121 : decode cJ22_getLongUnaligned 121 = .ok (.lload_n 2, 1) := dk_32 (dk_at dksJ22_getLongUnaligned_5 1 rfl rfl)
theorem dJ22_getLongUnaligned_122 : decode cJ22_getLongUnaligned 122 = .ok (.ldc2_w 349, 3) := dk_20 1 93 (dk_at dksJ22_getLongUnaligned_5 2 rfl rfl)
theorem dJ22_getLongUnaligned_125 : decode cJ22_getLongUnaligned 125 = .ok (.ladd, 1) := dk_97 (dk_at dksJ22_getLongUnaligned_5 5 rfl rfl)
theorem dJ22_getLongUnaligned_126 : decode cJ22_getLongUnaligned 126 = .ok (.invokevirtual 39, 3) := dk_182 0 39 (dk_at dksJ22_getLongUnaligned_5 6 rfl rfl)
theorem dJ22_getLongUnaligned_129 : decode cJ22_getLongUnaligned 129 = .ok (.aload_n 0, 1) := dk_42 (dk_at dksJ22_getLongUnaligned_5 9 rfl rfl)
theorem dJ22_getLongUnaligned_130 : decode cJ22_getLongUnaligned 130 = .ok (.aload_n 1, 1) := dk_43 (dk_at dksJ22_getLongUnaligned_5 10 rfl rfl)
theorem dJ22_getLongUnaligned_131 : decode cJ22_getLongUnaligned 131 = .ok (.lload_n 2, 1) := dk_32 (dk_at dksJ22_getLongUnaligned_5 11 rfl rfl)
theorem dJ22_getLongUnaligned_132 : decode cJ22_getLongUnaligned 132 = .ok (.ldc2_w 205, 3) := dk_20 0 205 (dk_at dksJ22_getLongUnaligned_5 12 rfl rfl)
theorem dJ22_getLongUnaligned_135 : decode cJ22_getLongUnaligned 135 = .ok (.ladd, 1) := dk_97 (dk_at dksJ22_getLongUnaligned_5 15 rfl rfl)
theorem dJ22_getLongUnaligned_136 : decode cJ22_getLongUnaligned 136 = .ok (.invokevirtual 39, 3) := dk_182 0 39 (dk_at dksJ22_getLongUnaligned_5 16 rfl rfl)
theorem dJ22_getLongUnaligned_139 : decode cJ22_getLongUnaligned 139 = .ok (.aload_n 0, 1) := dk_42 (dk_at dksJ22_getLongUnaligned_5 19 rfl rfl)
theorem dJ22_getLongUnaligned_140 : decode cJ22_getLongUnaligned 140 = .ok (.aload_n 1, 1) := dk_43 (dk_at dksJ22_getLongUnaligned_5 20 rfl rfl)
theorem dJ22_getLongUnaligned_141 : decode cJ22_getLongUnaligned 141 = .ok (.lload_n 2, 1) := dk_32 (dk_at dksJ22_getLongUnaligned_5 21 rfl rfl)
theorem dJ22_getLongUnaligned_142 : decode cJ22_getLongUnaligned 142 = .ok (.ldc2_w 707, 3) := dk_20 2 195 (dk_at dksJ22_getLongUnaligned_6 0 rfl rfl)
theorem dJ22_getLongUnaligned_145 : decode cJ22_getLongUnaligned 145 = .ok (.ladd, 1) := dk_97 (dk_at dksJ22_getLongUnaligned_6 3 rfl rfl)
theorem dJ22_getLongUnaligned_146 : decode cJ22_getLongUnaligned 146 = .ok (.invokevirtual 39, 3) := dk_182 0 39 (dk_at dksJ22_getLongUnaligned_6 4 rfl rfl)
theorem dJ22_getLongUnaligned_149 : decode cJ22_getLongUnaligned 149 = .ok (.aload_n 0, 1) := dk_42 (dk_at dksJ22_getLongUnaligned_6 7 rfl rfl)
theorem dJ22_getLongUnaligned_150 : decode cJ22_getLongUnaligned 150 = .ok (.aload_n 1, 1) := dk_43 (dk_at dksJ22_getLongUnaligned_6 8 rfl rfl)
theorem dJ22_getLongUnaligned_151 : decode cJ22_getLongUnaligned 151 = .ok (.lload_n 2, 1) := dk_32 (dk_at dksJ22_getLongUnaligned_6 9 rfl rfl)
theorem dJ22_getLongUnaligned_152 : decode cJ22_getLongUnaligned 152 = .ok (.ldc2_w 702, 3) := dk_20 2 190 (dk_at dksJ22_getLongUnaligned_6 10 rfl rfl)
theorem dJ22_getLongUnaligned_155 : decode cJ22_getLongUnaligned 155 = .ok (.ladd, 1) := dk_97 (dk_at dksJ22_getLongUnaligned_6 13 rfl rfl)
theorem dJ22_getLongUnaligned_156 : decode cJ22_getLongUnaligned 156 = .ok (.invokevirtual 39, 3) := dk_182 0 39 (dk_at dksJ22_getLongUnaligned_6 14 rfl rfl)
theorem dJ22_getLongUnaligned_159 : decode cJ22_getLongUnaligned 159 = .ok (.aload_n 0, 1) := dk_42 (dk_at dksJ22_getLongUnaligned_6 17 rfl rfl)
theorem dJ22_getLongUnaligned_160 : decode cJ22_getLongUnaligned 160 = .ok (.aload_n 1, 1) := dk_43 (dk_at dksJ22_getLongUnaligned_6 18 rfl rfl)
theorem dJ22_getLongUnaligned_161 : decode cJ22_getLongUnaligned 161 = .ok (.lload_n 2, 1) := dk_32 (dk_at dksJ22_getLongUnaligned_6 19 rfl rfl)
theorem dJ22_getLongUnaligned_162 : decode cJ22_getLongUnaligned 162 = .ok (.ldc2_w 696, 3) := dk_20 2 184 (dk_at dksJ22_getLongUnaligned_6 20 rfl rfl)
theorem dJ22_getLongUnaligned_165 : decode cJ22_getLongUnaligned 165 = .ok (.ladd, 1) := dk_97 (dk_at dksJ22_getLongUnaligned_6 23 rfl rfl)
theorem dJ22_getLongUnaligned_166 : decode cJ22_getLongUnaligned 166 = .ok (.invokevirtual 39, 3) := dk_182 0 39 (dk_at dksJ22_getLongUnaligned_7 0 rfl rfl)
theorem dJ22_getLongUnaligned_169 : decode cJ22_getLongUnaligned 169 = .ok (.invokestatic 709, 3) := dk_184 2 197 (dk_at dksJ22_getLongUnaligned_7 3 rfl rfl)
theorem dJ22_getLongUnaligned_172 : decode cJ22_getLongUnaligned 172 = .ok (.lreturn, 1) := dk_173 (dk_at dksJ22_getLongUnaligned_7 6 rfl rfl)
abbrev cJ22_makeLong : ByteArray := prog_44_method_353_code
def yJ22_makeLong : MethodName := ⟨RJ22, "makeLong", "(II)J"⟩
def dkwJ22_makeLong_1 : List UInt8 := [173]
abbrev dktJ22_makeLong_1 : List UInt8 := dkwJ22_makeLong_1 ++ []
def dkwJ22_makeLong_0 : List UInt8 := [26, 184, 3, 23, 16, 32, 3, 184, 3, 16, 121, 27, 184, 3, 23, 16, 32, 16, 32, 184, 3, 16, 121, 129]
abbrev dktJ22_makeLong_0 : List UInt8 := dkwJ22_makeLong_0 ++ dktJ22_makeLong_1
theorem dksJ22_makeLong_0 : cJ22_makeLong.data.toList.drop 0 = dktJ22_makeLong_0 := by decide +kernel
theorem dksJ22_makeLong_1 : cJ22_makeLong.data.toList.drop 24 = dktJ22_makeLong_1 := dk_seg dksJ22_makeLong_0 24 rfl rfl
theorem dJ22_makeLong_0 : decode cJ22_makeLong 0 = .ok (.iload_n 0, 1) := dk_26 (dk_at dksJ22_makeLong_0 0 rfl rfl)
theorem dJ22_makeLong_1 : decode cJ22_makeLong 1 = .ok (.invokestatic 791, 3) := dk_184 3 23 (dk_at dksJ22_makeLong_0 1 rfl rfl)
theorem dJ22_makeLong_4 : decode cJ22_makeLong 4 = .ok (.bipush 32, 2) := dk_16 32 (dk_at dksJ22_makeLong_0 4 rfl rfl)
theorem dJ22_makeLong_6 : decode cJ22_makeLong 6 = .ok (.iconst 0, 1) := dk_3 (dk_at dksJ22_makeLong_0 6 rfl rfl)
theorem dJ22_makeLong_7 : decode cJ22_makeLong 7 = .ok (.invokestatic 784, 3) := dk_184 3 16 (dk_at dksJ22_makeLong_0 7 rfl rfl)
theorem dJ22_makeLong_10 : decode cJ22_makeLong 10 = .ok (.lshl, 1) := dk_121 (dk_at dksJ22_makeLong_0 10 rfl rfl)
theorem dJ22_makeLong_11 : decode cJ22_makeLong 11 = .ok (.iload_n 1, 1) := dk_27 (dk_at dksJ22_makeLong_0 11 rfl rfl)
theorem dJ22_makeLong_12 : decode cJ22_makeLong 12 = .ok (.invokestatic 791, 3) := dk_184 3 23 (dk_at dksJ22_makeLong_0 12 rfl rfl)
theorem dJ22_makeLong_15 : decode cJ22_makeLong 15 = .ok (.bipush 32, 2) := dk_16 32 (dk_at dksJ22_makeLong_0 15 rfl rfl)
theorem dJ22_makeLong_17 : decode cJ22_makeLong 17 = .ok (.bipush 32, 2) := dk_16 32 (dk_at dksJ22_makeLong_0 17 rfl rfl)
theorem dJ22_makeLong_19 : decode cJ22_makeLong 19 = .ok (.invokestatic 784, 3) := dk_184 3 16 (dk_at dksJ22_makeLong_0 19 rfl rfl)
theorem dJ22_makeLong_22 : decode cJ22_makeLong 22 = .ok (.lshl, 1) := dk_121 (dk_at dksJ22_makeLong_0 22 rfl rfl)
theorem dJ22_makeLong_23 : decode cJ22_makeLong 23 = .ok (.lor, 1) := dk_129 (dk_at dksJ22_makeLong_0 23 rfl rfl)
theorem dJ22_makeLong_24 : decode cJ22_makeLong 24 = .ok (.lreturn, 1) := dk_173 (dk_at dksJ22_makeLong_1 0 rfl rfl)
abbrev cJ22_toUnsignedLong : ByteArray := prog_44_method_370_code
def yJ22_toUnsignedLong : MethodName := ⟨RJ22, "toUnsignedLong", "(I)J"⟩
def dkwJ22_toUnsignedLong_0 : List UInt8 := [26, 133, 20, 3, 44, 127, 173]
abbrev dktJ22_toUnsignedLong_0 : List UInt8 := dkwJ22_toUnsignedLong_0 ++ []
theorem dksJ22_toUnsignedLong_0 : cJ22_toUnsignedLong.data.toList.drop 0 = dktJ22_toUnsignedLong_0 := by decide +kernel
theorem dJ22_toUnsignedLong_0 : decode cJ22_toUnsignedLong 0 = .ok (.iload_n 0, 1) := dk_26 (dk_at dksJ22_toUnsignedLong_0 0 rfl rfl)
theorem dJ22_toUnsignedLong_1 : decode cJ22_toUnsignedLong 1 = .ok (.i2l, 1) := dk_133 (dk_at dksJ22_toUnsignedLong_0 1 rfl rfl)
theorem dJ22_toUnsignedLong_2 : decode cJ22_toUnsignedLong 2 = .ok (.ldc2_w 812, 3) := dk_20 3 44 (dk_at dksJ22_toUnsignedLong_0 2 rfl rfl)
theorem dJ22_toUnsignedLong_5 : decode cJ22_toUnsignedLong 5 = .ok (.land, 1) := dk_127 (dk_at dksJ22_toUnsignedLong_0 5 rfl rfl)
theorem dJ22_toUnsignedLong_6 : decode cJ22_toUnsignedLong 6 = .ok (.lreturn, 1) := dk_173 (dk_at dksJ22_toUnsignedLong_0 6 rfl rfl)
abbrev cJ22_pickPos : ByteArray := prog_44_method_350_code
def yJ22_pickPos : MethodName := ⟨RJ22, "pickPos", "(II)I"⟩
def dkwJ22_pickPos_0 : List UInt8 := [178, 1, 95, 153, 0, 9, 26, 27, 100, 167, 0, 4, 27, 172]
abbrev dktJ22_pickPos_0 : List UInt8 := dkwJ22_pickPos_0 ++ []
theorem dksJ22_pickPos_0 : cJ22_pickPos.data.toList.drop 0 = dktJ22_pickPos_0 := by decide +kernel
theorem dJ22_pickPos_0 : decode cJ22_pickPos 0 = .ok (.getstatic 351, 3) := dk_178 1 95 (dk_at dksJ22_pickPos_0 0 rfl rfl)
theorem dJ22_pickPos_3 : decode cJ22_pickPos 3 = .ok (.ifCond .eq 9, 3) := dk_153 0 9 (dk_at dksJ22_pickPos_0 3 rfl rfl)
theorem dJ22_pickPos_6 : decode cJ22_pickPos 6 = .ok (.iload_n 0, 1) := dk_26 (dk_at dksJ22_pickPos_0 6 rfl rfl)
theorem dJ22_pickPos_7 : decode cJ22_pickPos 7 = .ok (.iload_n 1, 1) := dk_27 (dk_at dksJ22_pickPos_0 7 rfl rfl)
theorem dJ22_pickPos_8 : decode cJ22_pickPos 8 = .ok (.isub, 1) := dk_100 (dk_at dksJ22_pickPos_0 8 rfl rfl)
theorem dJ22_pickPos_9 : decode cJ22_pickPos 9 = .ok (.goto 4, 3) := dk_167 0 4 (dk_at dksJ22_pickPos_0 9 rfl rfl)
theorem dJ22_pickPos_12 : decode cJ22_pickPos 12 = .ok (.iload_n 1, 1) := dk_27 (dk_at dksJ22_pickPos_0 12 rfl rfl)
theorem dJ22_pickPos_13 : decode cJ22_pickPos 13 = .ok (.ireturn, 1) := dk_172 (dk_at dksJ22_pickPos_0 13 rfl rfl)
abbrev cJ22_makeLong_2 : ByteArray := prog_44_method_352_code
def yJ22_makeLong_2 : MethodName := ⟨RJ22, "makeLong", "(SSSS)J"⟩
def dkwJ22_makeLong_2_2 : List UInt8 := [121, 129, 173]
abbrev dktJ22_makeLong_2_2 : List UInt8 := dkwJ22_makeLong_2_2 ++ []
def dkwJ22_makeLong_2_1 : List UInt8 := [28, 184, 3, 20, 16, 48, 16, 32, 184, 3, 16, 121, 129, 29, 184, 3, 20, 16, 48, 16, 48, 184, 3, 16]
abbrev dktJ22_makeLong_2_1 : List UInt8 := dkwJ22_makeLong_2_1 ++ dktJ22_makeLong_2_2
def dkwJ22_makeLong_2_0 : List UInt8 := [26, 184, 3, 20, 16, 48, 3, 184, 3, 16, 121, 27, 184, 3, 20, 16, 48, 16, 16, 184, 3, 16, 121, 129]
abbrev dktJ22_makeLong_2_0 : List UInt8 := dkwJ22_makeLong_2_0 ++ dktJ22_makeLong_2_1
theorem dksJ22_makeLong_2_0 : cJ22_makeLong_2.data.toList.drop 0 = dktJ22_makeLong_2_0 := by decide +kernel
theorem dksJ22_makeLong_2_1 : cJ22_makeLong_2.data.toList.drop 24 = dktJ22_makeLong_2_1 := dk_seg dksJ22_makeLong_2_0 24 rfl rfl
theorem dksJ22_makeLong_2_2 : cJ22_makeLong_2.data.toList.drop 48 = dktJ22_makeLong_2_2 := dk_seg dksJ22_makeLong_2_1 24 rfl rfl
theorem dJ22_makeLong_2_0 : decode cJ22_makeLong_2 0 = .ok (.iload_n 0, 1) := dk_26 (dk_at dksJ22_makeLong_2_0 0 rfl rfl)
theorem dJ22_makeLong_2_1 : decode cJ22_makeLong_2 1 = .ok (.invokestatic 788, 3) := dk_184 3 20 (dk_at dksJ22_makeLong_2_0 1 rfl rfl)
theorem dJ22_makeLong_2_4 : decode cJ22_makeLong_2 4 = .ok (.bipush 48, 2) := dk_16 48 (dk_at dksJ22_makeLong_2_0 4 rfl rfl)
theorem dJ22_makeLong_2_6 : decode cJ22_makeLong_2 6 = .ok (.iconst 0, 1) := dk_3 (dk_at dksJ22_makeLong_2_0 6 rfl rfl)
theorem dJ22_makeLong_2_7 : decode cJ22_makeLong_2 7 = .ok (.invokestatic 784, 3) := dk_184 3 16 (dk_at dksJ22_makeLong_2_0 7 rfl rfl)
theorem dJ22_makeLong_2_10 : decode cJ22_makeLong_2 10 = .ok (.lshl, 1) := dk_121 (dk_at dksJ22_makeLong_2_0 10 rfl rfl)
theorem dJ22_makeLong_2_11 : decode cJ22_makeLong_2 11 = .ok (.iload_n 1, 1) := dk_27 (dk_at dksJ22_makeLong_2_0 11 rfl rfl)
theorem dJ22_makeLong_2_12 : decode cJ22_makeLong_2 12 = .ok (.invokestatic 788, 3) := dk_184 3 20 (dk_at dksJ22_makeLong_2_0 12 rfl rfl)
theorem dJ22_makeLong_2_15 : decode cJ22_makeLong_2 15 = .ok (.bipush 48, 2) := dk_16 48 (dk_at dksJ22_makeLong_2_0 15 rfl rfl)
theorem dJ22_makeLong_2_17 : decode cJ22_makeLong_2 17 = .ok (.bipush 16, 2) := dk_16 16 (dk_at dksJ22_makeLong_2_0 17 rfl rfl)
theorem dJ22_makeLong_2_19 : decode cJ22_makeLong_2 19 = .ok (.invokestatic 784, 3) := dk_184 3 16 (dk_at dksJ22_makeLong_2_0 19 rfl rfl)
theorem dJ22_makeLong_2_22 : decode cJ22_makeLong_2 22 = .ok (.lshl, 1) := dk_121 (dk_at dksJ22_makeLong_2_0 22 rfl rfl)
theorem dJ22_makeLong_2_23 : decode cJ22_makeLong_2 23 = .ok (.lor, 1) := dk_129 (dk_at dksJ22_makeLong_2_0 23 rfl rfl)
theorem dJ22_makeLong_2_24 : decode cJ22_makeLong_2 24 = .ok (.iload_n 2, 1) := dk_28 (dk_at dksJ22_makeLong_2_1 0 rfl rfl)
theorem dJ22_makeLong_2_25 : decode cJ22_makeLong_2 25 = .ok (.invokestatic 788, 3) := dk_184 3 20 (dk_at dksJ22_makeLong_2_1 1 rfl rfl)
theorem dJ22_makeLong_2_28 : decode cJ22_makeLong_2 28 = .ok (.bipush 48, 2) := dk_16 48 (dk_at dksJ22_makeLong_2_1 4 rfl rfl)
theorem dJ22_makeLong_2_30 : decode cJ22_makeLong_2 30 = .ok (.bipush 32, 2) := dk_16 32 (dk_at dksJ22_makeLong_2_1 6 rfl rfl)
theorem dJ22_makeLong_2_32 : decode cJ22_makeLong_2 32 = .ok (.invokestatic 784, 3) := dk_184 3 16 (dk_at dksJ22_makeLong_2_1 8 rfl rfl)
theorem dJ22_makeLong_2_35 : decode cJ22_makeLong_2 35 = .ok (.lshl, 1) := dk_121 (dk_at dksJ22_makeLong_2_1 11 rfl rfl)
theorem dJ22_makeLong_2_36 : decode cJ22_makeLong_2 36 = .ok (.lor, 1) := dk_129 (dk_at dksJ22_makeLong_2_1 12 rfl rfl)
theorem dJ22_makeLong_2_37 : decode cJ22_makeLong_2 37 = .ok (.iload_n 3, 1) := dk_29 (dk_at dksJ22_makeLong_2_1 13 rfl rfl)
theorem dJ22_makeLong_2_38 : decode cJ22_makeLong_2 38 = .ok (.invokestatic 788, 3) := dk_184 3 20 (dk_at dksJ22_makeLong_2_1 14 rfl rfl)
theorem dJ22_makeLong_2_41 : decode cJ22_makeLong_2 41 = .ok (.bipush 48, 2) := dk_16 48 (dk_at dksJ22_makeLong_2_1 17 rfl rfl)
theorem dJ22_makeLong_2_43 : decode cJ22_makeLong_2 43 = .ok (.bipush 48, 2) := dk_16 48 (dk_at dksJ22_makeLong_2_1 19 rfl rfl)
theorem dJ22_makeLong_2_45 : decode cJ22_makeLong_2 45 = .ok (.invokestatic 784, 3) := dk_184 3 16 (dk_at dksJ22_makeLong_2_1 21 rfl rfl)
theorem dJ22_makeLong_2_48 : decode cJ22_makeLong_2 48 = .ok (.lshl, 1) := dk_121 (dk_at dksJ22_makeLong_2_2 0 rfl rfl)
theorem dJ22_makeLong_2_49 : decode cJ22_makeLong_2 49 = .ok (.lor, 1) := dk_129 (dk_at dksJ22_makeLong_2_2 1 rfl rfl)
theorem dJ22_makeLong_2_50 : decode cJ22_makeLong_2 50 = .ok (.lreturn, 1) := dk_173 (dk_at dksJ22_makeLong_2_2 2 rfl rfl)
abbrev cJ22_toUnsignedLong_2 : ByteArray := prog_44_method_369_code
def yJ22_toUnsignedLong_2 : MethodName := ⟨RJ22, "toUnsignedLong", "(S)J"⟩
def dkwJ22_toUnsignedLong_2_0 : List UInt8 := [26, 133, 20, 3, 42, 127, 173]
abbrev dktJ22_toUnsignedLong_2_0 : List UInt8 := dkwJ22_toUnsignedLong_2_0 ++ []
theorem dksJ22_toUnsignedLong_2_0 : cJ22_toUnsignedLong_2.data.toList.drop 0 = dktJ22_toUnsignedLong_2_0 := by decide +kernel
theorem dJ22_toUnsignedLong_2_0 : decode cJ22_toUnsignedLong_2 0 = .ok (.iload_n 0, 1) := dk_26 (dk_at dksJ22_toUnsignedLong_2_0 0 rfl rfl)
theorem dJ22_toUnsignedLong_2_1 : decode cJ22_toUnsignedLong_2 1 = .ok (.i2l, 1) := dk_133 (dk_at dksJ22_toUnsignedLong_2_0 1 rfl rfl)
theorem dJ22_toUnsignedLong_2_2 : decode cJ22_toUnsignedLong_2 2 = .ok (.ldc2_w 810, 3) := dk_20 3 42 (dk_at dksJ22_toUnsignedLong_2_0 2 rfl rfl)
theorem dJ22_toUnsignedLong_2_5 : decode cJ22_toUnsignedLong_2 5 = .ok (.land, 1) := dk_127 (dk_at dksJ22_toUnsignedLong_2_0 5 rfl rfl)
theorem dJ22_toUnsignedLong_2_6 : decode cJ22_toUnsignedLong_2 6 = .ok (.lreturn, 1) := dk_173 (dk_at dksJ22_toUnsignedLong_2_0 6 rfl rfl)
abbrev cJ22_makeLong_3 : ByteArray := prog_44_method_351_code
def yJ22_makeLong_3 : MethodName := ⟨RJ22, "makeLong", "(BBBBBBBB)J"⟩
def dkwJ22_makeLong_3_4 : List UInt8 := [184, 3, 13, 16, 56, 16, 56, 184, 3, 16, 121, 129, 173]
abbrev dktJ22_makeLong_3_4 : List UInt8 := dkwJ22_makeLong_3_4 ++ []
def dkwJ22_makeLong_3_3 : List UInt8 := [16, 40, 184, 3, 16, 121, 129, 21, 6, 184, 3, 13, 16, 56, 16, 48, 184, 3, 16, 121, 129, 21, 7]
abbrev dktJ22_makeLong_3_3 : List UInt8 := dkwJ22_makeLong_3_3 ++ dktJ22_makeLong_3_4
def dkwJ22_makeLong_3_2 : List UInt8 := [121, 129, 21, 4, 184, 3, 13, 16, 56, 16, 32, 184, 3, 16, 121, 129, 21, 5, 184, 3, 13, 16, 56]
abbrev dktJ22_makeLong_3_2 : List UInt8 := dkwJ22_makeLong_3_2 ++ dktJ22_makeLong_3_3
def dkwJ22_makeLong_3_1 : List UInt8 := [28, 184, 3, 13, 16, 56, 16, 16, 184, 3, 16, 121, 129, 29, 184, 3, 13, 16, 56, 16, 24, 184, 3, 16]
abbrev dktJ22_makeLong_3_1 : List UInt8 := dkwJ22_makeLong_3_1 ++ dktJ22_makeLong_3_2
def dkwJ22_makeLong_3_0 : List UInt8 := [26, 184, 3, 13, 16, 56, 3, 184, 3, 16, 121, 27, 184, 3, 13, 16, 56, 16, 8, 184, 3, 16, 121, 129]
abbrev dktJ22_makeLong_3_0 : List UInt8 := dkwJ22_makeLong_3_0 ++ dktJ22_makeLong_3_1
theorem dksJ22_makeLong_3_0 : cJ22_makeLong_3.data.toList.drop 0 = dktJ22_makeLong_3_0 := by decide +kernel
theorem dksJ22_makeLong_3_1 : cJ22_makeLong_3.data.toList.drop 24 = dktJ22_makeLong_3_1 := dk_seg dksJ22_makeLong_3_0 24 rfl rfl
theorem dksJ22_makeLong_3_2 : cJ22_makeLong_3.data.toList.drop 48 = dktJ22_makeLong_3_2 := dk_seg dksJ22_makeLong_3_1 24 rfl rfl
theorem dksJ22_makeLong_3_3 : cJ22_makeLong_3.data.toList.drop 71 = dktJ22_makeLong_3_3 := dk_seg dksJ22_makeLong_3_2 23 rfl rfl
theorem dksJ22_makeLong_3_4 : cJ22_makeLong_3.data.toList.drop 94 = dktJ22_makeLong_3_4 := dk_seg dksJ22_makeLong_3_3 23 rfl rfl
theorem dJ22_makeLong_3_0 : decode cJ22_makeLong_3 0 = .ok (.iload_n 0, 1) := dk_26 (dk_at dksJ22_makeLong_3_0 0 rfl rfl)
theorem dJ22_makeLong_3_1 : decode cJ22_makeLong_3 1 = .ok (.invokestatic 781, 3) := dk_184 3 13 (dk_at dksJ22_makeLong_3_0 1 rfl rfl)
theorem dJ22_makeLong_3_4 : decode cJ22_makeLong_3 4 = .ok (.bipush 56, 2) := dk_16 56 (dk_at dksJ22_makeLong_3_0 4 rfl rfl)
theorem dJ22_makeLong_3_6 : decode cJ22_makeLong_3 6 = .ok (.iconst 0, 1) := dk_3 (dk_at dksJ22_makeLong_3_0 6 rfl rfl)
theorem dJ22_makeLong_3_7 : decode cJ22_makeLong_3 7 = .ok (.invokestatic 784, 3) := dk_184 3 16 (dk_at dksJ22_makeLong_3_0 7 rfl rfl)
theorem dJ22_makeLong_3_10 : decode cJ22_makeLong_3 10 = .ok (.lshl, 1) := dk_121 (dk_at dksJ22_makeLong_3_0 10 rfl rfl)
theorem dJ22_makeLong_3_11 : decode cJ22_makeLong_3 11 = .ok (.iload_n 1, 1) := dk_27 (dk_at dksJ22_makeLong_3_0 11 rfl rfl)
theorem dJ22_makeLong_3_12 : decode cJ22_makeLong_3 12 = .ok (.invokestatic 781, 3) := dk_184 3 13 (dk_at dksJ22_makeLong_3_0 12 rfl rfl)
theorem dJ22_makeLong_3_15 : decode cJ22_makeLong_3 15 = .ok (.bipush 56, 2) := dk_16 56 (dk_at dksJ22_makeLong_3_0 15 rfl rfl)
theorem dJ22_makeLong_3_17 : decode cJ22_makeLong_3 17 = .ok (.bipush 8, 2) := dk_16 8 (dk_at dksJ22_makeLong_3_0 17 rfl rfl)
theorem dJ22_makeLong_3_19 : decode cJ22_makeLong_3 19 = .ok (.invokestatic 784, 3) := dk_184 3 16 (dk_at dksJ22_makeLong_3_0 19 rfl rfl)
theorem dJ22_makeLong_3_22 : decode cJ22_makeLong_3 22 = .ok (.lshl, 1) := dk_121 (dk_at dksJ22_makeLong_3_0 22 rfl rfl)
theorem dJ22_makeLong_3_23 : decode cJ22_makeLong_3 23 = .ok (.lor, 1) := dk_129 (dk_at dksJ22_makeLong_3_0 23 rfl rfl)
theorem dJ22_makeLong_3_24 : decode cJ22_makeLong_3 24 = .ok (.iload_n 2, 1) := dk_28 (dk_at dksJ22_makeLong_3_1 0 rfl rfl)
theorem dJ22_makeLong_3_25 : decode cJ22_makeLong_3 25 = .ok (.invokestatic 781, 3) := dk_184 3 13 (dk_at dksJ22_makeLong_3_1 1 rfl rfl)
theorem dJ22_makeLong_3_28 : decode cJ22_makeLong_3 28 = .ok (.bipush 56, 2) := dk_16 56 (dk_at dksJ22_makeLong_3_1 4 rfl rfl)
theorem dJ22_makeLong_3_30 : decode cJ22_makeLong_3 30 = .ok (.bipush 16, 2) := dk_16 16 (dk_at dksJ22_makeLong_3_1 6 rfl rfl)
theorem dJ22_makeLong_3_32 : decode cJ22_makeLong_3 32 = .ok (.invokestatic 784, 3) := dk_184 3 16 (dk_at dksJ22_makeLong_3_1 8 rfl rfl)
theorem dJ22_makeLong_3_35 : decode cJ22_makeLong_3 35 = .ok (.lshl, 1) := dk_121 (dk_at dksJ22_makeLong_3_1 11 rfl rfl)
theorem dJ22_makeLong_3_36 : decode cJ22_makeLong_3 36 = .ok (.lor, 1) := dk_129 (dk_at dksJ22_makeLong_3_1 12 rfl rfl)
theorem dJ22_makeLong_3_37 : decode cJ22_makeLong_3 37 = .ok (.iload_n 3, 1) := dk_29 (dk_at dksJ22_makeLong_3_1 13 rfl rfl)
theorem dJ22_makeLong_3_38 : decode cJ22_makeLong_3 38 = .ok (.invokestatic 781, 3) := dk_184 3 13 (dk_at dksJ22_makeLong_3_1 14 rfl rfl)
theorem dJ22_makeLong_3_41 : decode cJ22_makeLong_3 41 = .ok (.bipush 56, 2) := dk_16 56 (dk_at dksJ22_makeLong_3_1 17 rfl rfl)
theorem dJ22_makeLong_3_43 : decode cJ22_makeLong_3 43 = .ok (.bipush 24, 2) := dk_16 24 (dk_at dksJ22_makeLong_3_1 19 rfl rfl)
theorem dJ22_makeLong_3_45 : decode cJ22_makeLong_3 45 = .ok (.invokestatic 784, 3) := dk_184 3 16 (dk_at dksJ22_makeLong_3_1 21 rfl rfl)
theorem dJ22_makeLong_3_48 : decode cJ22_makeLong_3 48 = .ok (.lshl, 1) := dk_121 (dk_at dksJ22_makeLong_3_2 0 rfl rfl)
theorem dJ22_makeLong_3_49 : decode cJ22_makeLong_3 49 = .ok (.lor, 1) := dk_129 (dk_at dksJ22_makeLong_3_2 1 rfl rfl)
theorem dJ22_makeLong_3_50 : decode cJ22_makeLong_3 50 = .ok (.iload 4, 2) := dk_21 4 (dk_at dksJ22_makeLong_3_2 2 rfl rfl)
theorem dJ22_makeLong_3_52 : decode cJ22_makeLong_3 52 = .ok (.invokestatic 781, 3) := dk_184 3 13 (dk_at dksJ22_makeLong_3_2 4 rfl rfl)
theorem dJ22_makeLong_3_55 : decode cJ22_makeLong_3 55 = .ok (.bipush 56, 2) := dk_16 56 (dk_at dksJ22_makeLong_3_2 7 rfl rfl)
theorem dJ22_makeLong_3_57 : decode cJ22_makeLong_3 57 = .ok (.bipush 32, 2) := dk_16 32 (dk_at dksJ22_makeLong_3_2 9 rfl rfl)
theorem dJ22_makeLong_3_59 : decode cJ22_makeLong_3 59 = .ok (.invokestatic 784, 3) := dk_184 3 16 (dk_at dksJ22_makeLong_3_2 11 rfl rfl)
theorem dJ22_makeLong_3_62 : decode cJ22_makeLong_3 62 = .ok (.lshl, 1) := dk_121 (dk_at dksJ22_makeLong_3_2 14 rfl rfl)
theorem dJ22_makeLong_3_63 : decode cJ22_makeLong_3 63 = .ok (.lor, 1) := dk_129 (dk_at dksJ22_makeLong_3_2 15 rfl rfl)
theorem dJ22_makeLong_3_64 : decode cJ22_makeLong_3 64 = .ok (.iload 5, 2) := dk_21 5 (dk_at dksJ22_makeLong_3_2 16 rfl rfl)
theorem dJ22_makeLong_3_66 : decode cJ22_makeLong_3 66 = .ok (.invokestatic 781, 3) := dk_184 3 13 (dk_at dksJ22_makeLong_3_2 18 rfl rfl)
theorem dJ22_makeLong_3_69 : decode cJ22_makeLong_3 69 = .ok (.bipush 56, 2) := dk_16 56 (dk_at dksJ22_makeLong_3_2 21 rfl rfl)
theorem dJ22_makeLong_3_71 : decode cJ22_makeLong_3 71 = .ok (.bipush 40, 2) := dk_16 40 (dk_at dksJ22_makeLong_3_3 0 rfl rfl)
theorem dJ22_makeLong_3_73 : decode cJ22_makeLong_3 73 = .ok (.invokestatic 784, 3) := dk_184 3 16 (dk_at dksJ22_makeLong_3_3 2 rfl rfl)
theorem dJ22_makeLong_3_76 : decode cJ22_makeLong_3 76 = .ok (.lshl, 1) := dk_121 (dk_at dksJ22_makeLong_3_3 5 rfl rfl)
theorem dJ22_makeLong_3_77 : decode cJ22_makeLong_3 77 = .ok (.lor, 1) := dk_129 (dk_at dksJ22_makeLong_3_3 6 rfl rfl)
theorem dJ22_makeLong_3_78 : decode cJ22_makeLong_3 78 = .ok (.iload 6, 2) := dk_21 6 (dk_at dksJ22_makeLong_3_3 7 rfl rfl)
theorem dJ22_makeLong_3_80 : decode cJ22_makeLong_3 80 = .ok (.invokestatic 781, 3) := dk_184 3 13 (dk_at dksJ22_makeLong_3_3 9 rfl rfl)
theorem dJ22_makeLong_3_83 : decode cJ22_makeLong_3 83 = .ok (.bipush 56, 2) := dk_16 56 (dk_at dksJ22_makeLong_3_3 12 rfl rfl)
theorem dJ22_makeLong_3_85 : decode cJ22_makeLong_3 85 = .ok (.bipush 48, 2) := dk_16 48 (dk_at dksJ22_makeLong_3_3 14 rfl rfl)
theorem dJ22_makeLong_3_87 : decode cJ22_makeLong_3 87 = .ok (.invokestatic 784, 3) := dk_184 3 16 (dk_at dksJ22_makeLong_3_3 16 rfl rfl)
theorem dJ22_makeLong_3_90 : decode cJ22_makeLong_3 90 = .ok (.lshl, 1) := dk_121 (dk_at dksJ22_makeLong_3_3 19 rfl rfl)
theorem dJ22_makeLong_3_91 : decode cJ22_makeLong_3 91 = .ok (.lor, 1) := dk_129 (dk_at dksJ22_makeLong_3_3 20 rfl rfl)
theorem dJ22_makeLong_3_92 : decode cJ22_makeLong_3 92 = .ok (.iload 7, 2) := dk_21 7 (dk_at dksJ22_makeLong_3_3 21 rfl rfl)
theorem dJ22_makeLong_3_94 : decode cJ22_makeLong_3 94 = .ok (.invokestatic 781, 3) := dk_184 3 13 (dk_at dksJ22_makeLong_3_4 0 rfl rfl)
theorem dJ22_makeLong_3_97 : decode cJ22_makeLong_3 97 = .ok (.bipush 56, 2) := dk_16 56 (dk_at dksJ22_makeLong_3_4 3 rfl rfl)
theorem dJ22_makeLong_3_99 : decode cJ22_makeLong_3 99 = .ok (.bipush 56, 2) := dk_16 56 (dk_at dksJ22_makeLong_3_4 5 rfl rfl)
theorem dJ22_makeLong_3_101 : decode cJ22_makeLong_3 101 = .ok (.invokestatic 784, 3) := dk_184 3 16 (dk_at dksJ22_makeLong_3_4 7 rfl rfl)
theorem dJ22_makeLong_3_104 : decode cJ22_makeLong_3 104 = .ok (.lshl, 1) := dk_121 (dk_at dksJ22_makeLong_3_4 10 rfl rfl)
theorem dJ22_makeLong_3_105 : decode cJ22_makeLong_3 105 = .ok (.lor, 1) := dk_129 (dk_at dksJ22_makeLong_3_4 11 rfl rfl)
theorem dJ22_makeLong_3_106 : decode cJ22_makeLong_3 106 = .ok (.lreturn, 1) := dk_173 (dk_at dksJ22_makeLong_3_4 12 rfl rfl)
abbrev cJ22_toUnsignedLong_3 : ByteArray := prog_44_method_368_code
def yJ22_toUnsignedLong_3 : MethodName := ⟨RJ22, "toUnsignedLong", "(B)J"⟩
def dkwJ22_toUnsignedLong_3_0 : List UInt8 := [26, 133, 20, 3, 40, 127, 173]
abbrev dktJ22_toUnsignedLong_3_0 : List UInt8 := dkwJ22_toUnsignedLong_3_0 ++ []
theorem dksJ22_toUnsignedLong_3_0 : cJ22_toUnsignedLong_3.data.toList.drop 0 = dktJ22_toUnsignedLong_3_0 := by decide +kernel
theorem dJ22_toUnsignedLong_3_0 : decode cJ22_toUnsignedLong_3 0 = .ok (.iload_n 0, 1) := dk_26 (dk_at dksJ22_toUnsignedLong_3_0 0 rfl rfl)
theorem dJ22_toUnsignedLong_3_1 : decode cJ22_toUnsignedLong_3 1 = .ok (.i2l, 1) := dk_133 (dk_at dksJ22_toUnsignedLong_3_0 1 rfl rfl)
theorem dJ22_toUnsignedLong_3_2 : decode cJ22_toUnsignedLong_3 2 = .ok (.ldc2_w 808, 3) := dk_20 3 40 (dk_at dksJ22_toUnsignedLong_3_0 2 rfl rfl)
theorem dJ22_toUnsignedLong_3_5 : decode cJ22_toUnsignedLong_3 5 = .ok (.land, 1) := dk_127 (dk_at dksJ22_toUnsignedLong_3_0 5 rfl rfl)
theorem dJ22_toUnsignedLong_3_6 : decode cJ22_toUnsignedLong_3 6 = .ok (.lreturn, 1) := dk_173 (dk_at dksJ22_toUnsignedLong_3_0 6 rfl rfl)
abbrev cJ22_getIntUnaligned : ByteArray := prog_44_method_336_code
def yJ22_getIntUnaligned : MethodName := ⟨RJ22, "getIntUnaligned", "(Ljava/lang/Object;J)I"⟩
def dkwJ22_getIntUnaligned_3 : List UInt8 := [43, 32, 20, 1, 93, 97, 182, 0, 39, 184, 2, 211, 172]
abbrev dktJ22_getIntUnaligned_3 : List UInt8 := dkwJ22_getIntUnaligned_3 ++ []
def dkwJ22_getIntUnaligned_2 : List UInt8 := [43, 32, 182, 0, 39, 42, 43, 32, 10, 97, 182, 0, 39, 42, 43, 32, 20, 0, 203, 97, 182, 0, 39, 42]
abbrev dktJ22_getIntUnaligned_2 : List UInt8 := dkwJ22_getIntUnaligned_2 ++ dktJ22_getIntUnaligned_3
def dkwJ22_getIntUnaligned_1 : List UInt8 := [154, 0, 23, 42, 43, 32, 182, 0, 47, 42, 43, 32, 20, 0, 203, 97, 182, 0, 47, 184, 2, 207, 172, 42]
abbrev dktJ22_getIntUnaligned_1 : List UInt8 := dkwJ22_getIntUnaligned_1 ++ dktJ22_getIntUnaligned_2
def dkwJ22_getIntUnaligned_0 : List UInt8 := [32, 20, 1, 93, 127, 9, 148, 154, 0, 10, 42, 43, 32, 182, 0, 17, 172, 32, 10, 127, 9, 148]
abbrev dktJ22_getIntUnaligned_0 : List UInt8 := dkwJ22_getIntUnaligned_0 ++ dktJ22_getIntUnaligned_1
theorem dksJ22_getIntUnaligned_0 : cJ22_getIntUnaligned.data.toList.drop 0 = dktJ22_getIntUnaligned_0 := by decide +kernel
theorem dksJ22_getIntUnaligned_1 : cJ22_getIntUnaligned.data.toList.drop 22 = dktJ22_getIntUnaligned_1 := dk_seg dksJ22_getIntUnaligned_0 22 rfl rfl
theorem dksJ22_getIntUnaligned_2 : cJ22_getIntUnaligned.data.toList.drop 46 = dktJ22_getIntUnaligned_2 := dk_seg dksJ22_getIntUnaligned_1 24 rfl rfl
theorem dksJ22_getIntUnaligned_3 : cJ22_getIntUnaligned.data.toList.drop 70 = dktJ22_getIntUnaligned_3 := dk_seg dksJ22_getIntUnaligned_2 24 rfl rfl
theorem dJ22_getIntUnaligned_0 : decode cJ22_getIntUnaligned 0 = .ok (.lload_n 2, 1) := dk_32 (dk_at dksJ22_getIntUnaligned_0 0 rfl rfl)
theorem dJ22_getIntUnaligned_1 : decode cJ22_getIntUnaligned 1 = .ok (.ldc2_w 349, 3) := dk_20 1 93 (dk_at dksJ22_getIntUnaligned_0 1 rfl rfl)
theorem dJ22_getIntUnaligned_4 : decode cJ22_getIntUnaligned 4 = .ok (.land, 1) := dk_127 (dk_at dksJ22_getIntUnaligned_0 4 rfl rfl)
theorem dJ22_getIntUnaligned_5 : decode cJ22_getIntUnaligned 5 = .ok (.lconst 0, 1) := dk_9 (dk_at dksJ22_getIntUnaligned_0 5 rfl rfl)
theorem dJ22_getIntUnaligned_6 : decode cJ22_getIntUnaligned 6 = .ok (.lcmp, 1) := dk_148 (dk_at dksJ22_getIntUnaligned_0 6 rfl rfl)
theorem dJ22_getIntUnaligned_7 : decode cJ22_getIntUnaligned 7 = .ok (.ifCond .ne 10, 3) := dk_154 0 10 (dk_at dksJ22_getIntUnaligned_0 7 rfl rfl)
theorem dJ22_getIntUnaligned_10 : decode cJ22_getIntUnaligned 10 = .ok (.aload_n 0, 1) := dk_42 (dk_at dksJ22_getIntUnaligned_0 10 rfl rfl)
theorem dJ22_getIntUnaligned_11 : decode cJ22_getIntUnaligned 11 = .ok (.aload_n 1, 1) := dk_43 (dk_at dksJ22_getIntUnaligned_0 11 rfl rfl)
theorem dJ22_getIntUnaligned_12 : decode cJ22_getIntUnaligned 12 = .ok (.lload_n 2, 1) := dk_32 (dk_at dksJ22_getIntUnaligned_0 12 rfl rfl)
theorem dJ22_getIntUnaligned_13 : decode cJ22_getIntUnaligned 13 = .ok (.invokevirtual 17, 3) := dk_182 0 17 (dk_at dksJ22_getIntUnaligned_0 13 rfl rfl)
theorem dJ22_getIntUnaligned_16 : decode cJ22_getIntUnaligned 16 = .ok (.ireturn, 1) := dk_172 (dk_at dksJ22_getIntUnaligned_0 16 rfl rfl)
theorem dJ22_getIntUnaligned_17 : decode cJ22_getIntUnaligned 17 = .ok (.lload_n 2, 1) := dk_32 (dk_at dksJ22_getIntUnaligned_0 17 rfl rfl)
theorem dJ22_getIntUnaligned_18 : decode cJ22_getIntUnaligned 18 = .ok (.lconst 1, 1) := dk_10 (dk_at dksJ22_getIntUnaligned_0 18 rfl rfl)
theorem dJ22_getIntUnaligned_19 : decode cJ22_getIntUnaligned 19 = .ok (.land, 1) := dk_127 (dk_at dksJ22_getIntUnaligned_0 19 rfl rfl)
theorem dJ22_getIntUnaligned_20 : decode cJ22_getIntUnaligned 20 = .ok (.lconst 0, 1) := dk_9 (dk_at dksJ22_getIntUnaligned_0 20 rfl rfl)
theorem dJ22_getIntUnaligned_21 : decode cJ22_getIntUnaligned 21 = .ok (.lcmp, 1) := dk_148 (dk_at dksJ22_getIntUnaligned_0 21 rfl rfl)
theorem dJ22_getIntUnaligned_22 : decode cJ22_getIntUnaligned 22 = .ok (.ifCond .ne 23, 3) := dk_154 0 23 (dk_at dksJ22_getIntUnaligned_1 0 rfl rfl)
theorem dJ22_getIntUnaligned_25 : decode cJ22_getIntUnaligned 25 = .ok (.aload_n 0, 1) := dk_42 (dk_at dksJ22_getIntUnaligned_1 3 rfl rfl)
theorem dJ22_getIntUnaligned_26 : decode cJ22_getIntUnaligned 26 = .ok (.aload_n 1, 1) := dk_43 (dk_at dksJ22_getIntUnaligned_1 4 rfl rfl)
theorem dJ22_getIntUnaligned_27 : decode cJ22_getIntUnaligned 27 = .ok (.lload_n 2, 1) := dk_32 (dk_at dksJ22_getIntUnaligned_1 5 rfl rfl)
theorem dJ22_getIntUnaligned_28 : decode cJ22_getIntUnaligned 28 = .ok (.invokevirtual 47, 3) := dk_182 0 47 (dk_at dksJ22_getIntUnaligned_1 6 rfl rfl)
theorem dJ22_getIntUnaligned_31 : decode cJ22_getIntUnaligned 31 = .ok (.aload_n 0, 1) := dk_42 (dk_at dksJ22_getIntUnaligned_1 9 rfl rfl)
theorem dJ22_getIntUnaligned_32 : decode cJ22_getIntUnaligned 32 = .ok (.aload_n 1, 1) := dk_43 (dk_at dksJ22_getIntUnaligned_1 10 rfl rfl)
theorem dJ22_getIntUnaligned_33 : decode cJ22_getIntUnaligned 33 = .ok (.lload_n 2, 1) := dk_32 (dk_at dksJ22_getIntUnaligned_1 11 rfl rfl)
theorem dJ22_getIntUnaligned_34 : decode cJ22_getIntUnaligned 34 = .ok (.ldc2_w 203, 3) := dk_20 0 203 (dk_at dksJ22_getIntUnaligned_1 12 rfl rfl)
theorem dJ22_getIntUnaligned_37 : decode cJ22_getIntUnaligned 37 = .ok (.ladd, 1) := dk_97 (dk_at dksJ22_getIntUnaligned_1 15 rfl rfl)
theorem dJ22_getIntUnaligned_38 : decode cJ22_getIntUnaligned 38 = .ok (.invokevirtual 47, 3) := dk_182 0 47 (dk_at dksJ22_getIntUnaligned_1 16 rfl rfl)
theorem dJ22_getIntUnaligned_41 : decode cJ22_getIntUnaligned 41 = .ok (.invokestatic 719, 3) := dk_184 2 207 (dk_at dksJ22_getIntUnaligned_1 19 rfl rfl)
theorem dJ22_getIntUnaligned_44 : decode cJ22_getIntUnaligned 44 = .ok (.ireturn, 1) := dk_172 (dk_at dksJ22_getIntUnaligned_1 22 rfl rfl)
theorem dJ22_getIntUnaligned_45 : decode cJ22_getIntUnaligned 45 = .ok (.aload_n 0, 1) := dk_42 (dk_at dksJ22_getIntUnaligned_1 23 rfl rfl)
theorem dJ22_getIntUnaligned_46 : decode cJ22_getIntUnaligned 46 = .ok (.aload_n 1, 1) := dk_43 (dk_at dksJ22_getIntUnaligned_2 0 rfl rfl)
theorem dJ22_getIntUnaligned_47 : decode cJ22_getIntUnaligned 47 = .ok (.lload_n 2, 1) := dk_32 (dk_at dksJ22_getIntUnaligned_2 1 rfl rfl)
theorem dJ22_getIntUnaligned_48 : decode cJ22_getIntUnaligned 48 = .ok (.invokevirtual 39, 3) := dk_182 0 39 (dk_at dksJ22_getIntUnaligned_2 2 rfl rfl)
theorem dJ22_getIntUnaligned_51 : decode cJ22_getIntUnaligned 51 = .ok (.aload_n 0, 1) := dk_42 (dk_at dksJ22_getIntUnaligned_2 5 rfl rfl)
theorem dJ22_getIntUnaligned_52 : decode cJ22_getIntUnaligned 52 = .ok (.aload_n 1, 1) := dk_43 (dk_at dksJ22_getIntUnaligned_2 6 rfl rfl)
theorem dJ22_getIntUnaligned_53 : decode cJ22_getIntUnaligned 53 = .ok (.lload_n 2, 1) := dk_32 (dk_at dksJ22_getIntUnaligned_2 7 rfl rfl)
theorem dJ22_getIntUnaligned_54 : decode cJ22_getIntUnaligned 54 = .ok (.lconst 1, 1) := dk_10 (dk_at dksJ22_getIntUnaligned_2 8 rfl rfl)
theorem dJ22_getIntUnaligned_55 : decode cJ22_getIntUnaligned 55 = .ok (.ladd, 1) := dk_97 (dk_at dksJ22_getIntUnaligned_2 9 rfl rfl)
theorem dJ22_getIntUnaligned_56 : decode cJ22_getIntUnaligned 56 = .ok (.invokevirtual 39, 3) := dk_182 0 39 (dk_at dksJ22_getIntUnaligned_2 10 rfl rfl)
theorem dJ22_getIntUnaligned_59 : decode cJ22_getIntUnaligned 59 = .ok (.aload_n 0, 1) := dk_42 (dk_at dksJ22_getIntUnaligned_2 13 rfl rfl)
theorem dJ22_getIntUnaligned_60 : decode cJ22_getIntUnaligned 60 = .ok (.aload_n 1, 1) := dk_43 (dk_at dksJ22_getIntUnaligned_2 14 rfl rfl)
theorem dJ22_getIntUnaligned_61 : decode cJ22_getIntUnaligned 61 = .ok (.lload_n 2, 1) := dk_32 (dk_at dksJ22_getIntUnaligned_2 15 rfl rfl)
theorem dJ22_getIntUnaligned_62 : decode cJ22_getIntUnaligned 62 = .ok (.ldc2_w 203, 3) := dk_20 0 203 (dk_at dksJ22_getIntUnaligned_2 16 rfl rfl)
theorem dJ22_getIntUnaligned_65 : decode cJ22_getIntUnaligned 65 = .ok (.ladd, 1) := dk_97 (dk_at dksJ22_getIntUnaligned_2 19 rfl rfl)
theorem dJ22_getIntUnaligned_66 : decode cJ22_getIntUnaligned 66 = .ok (.invokevirtual 39, 3) := dk_182 0 39 (dk_at dksJ22_getIntUnaligned_2 20 rfl rfl)
theorem dJ22_getIntUnaligned_69 : decode cJ22_getIntUnaligned 69 = .ok (.aload_n 0, 1) := dk_42 (dk_at dksJ22_getIntUnaligned_2 23 rfl rfl)
theorem dJ22_getIntUnaligned_70 : decode cJ22_getIntUnaligned 70 = .ok (.aload_n 1, 1) := dk_43 (dk_at dksJ22_getIntUnaligned_3 0 rfl rfl)
theorem dJ22_getIntUnaligned_71 : decode cJ22_getIntUnaligned 71 = .ok (.lload_n 2, 1) := dk_32 (dk_at dksJ22_getIntUnaligned_3 1 rfl rfl)
theorem dJ22_getIntUnaligned_72 : decode cJ22_getIntUnaligned 72 = .ok (.ldc2_w 349, 3) := dk_20 1 93 (dk_at dksJ22_getIntUnaligned_3 2 rfl rfl)
theorem dJ22_getIntUnaligned_75 : decode cJ22_getIntUnaligned 75 = .ok (.ladd, 1) := dk_97 (dk_at dksJ22_getIntUnaligned_3 5 rfl rfl)
theorem dJ22_getIntUnaligned_76 : decode cJ22_getIntUnaligned 76 = .ok (.invokevirtual 39, 3) := dk_182 0 39 (dk_at dksJ22_getIntUnaligned_3 6 rfl rfl)
theorem dJ22_getIntUnaligned_79 : decode cJ22_getIntUnaligned 79 = .ok (.invokestatic 723, 3) := dk_184 2 211 (dk_at dksJ22_getIntUnaligned_3 9 rfl rfl)
theorem dJ22_getIntUnaligned_82 : decode cJ22_getIntUnaligned 82 = .ok (.ireturn, 1) := dk_172 (dk_at dksJ22_getIntUnaligned_3 12 rfl rfl)
abbrev cJ22_makeInt : ByteArray := prog_44_method_354_code
def yJ22_makeInt : MethodName := ⟨RJ22, "makeInt", "(SS)I"⟩
def dkwJ22_makeInt_1 : List UInt8 := [172]
abbrev dktJ22_makeInt_1 : List UInt8 := dkwJ22_makeInt_1 ++ []
def dkwJ22_makeInt_0 : List UInt8 := [26, 184, 3, 24, 16, 16, 3, 184, 3, 16, 120, 27, 184, 3, 24, 16, 16, 16, 16, 184, 3, 16, 120, 128]
abbrev dktJ22_makeInt_0 : List UInt8 := dkwJ22_makeInt_0 ++ dktJ22_makeInt_1
theorem dksJ22_makeInt_0 : cJ22_makeInt.data.toList.drop 0 = dktJ22_makeInt_0 := by decide +kernel
theorem dksJ22_makeInt_1 : cJ22_makeInt.data.toList.drop 24 = dktJ22_makeInt_1 := dk_seg dksJ22_makeInt_0 24 rfl rfl
theorem dJ22_makeInt_0 : decode cJ22_makeInt 0 = .ok (.iload_n 0, 1) := dk_26 (dk_at dksJ22_makeInt_0 0 rfl rfl)
theorem dJ22_makeInt_1 : decode cJ22_makeInt 1 = .ok (.invokestatic 792, 3) := dk_184 3 24 (dk_at dksJ22_makeInt_0 1 rfl rfl)
theorem dJ22_makeInt_4 : decode cJ22_makeInt 4 = .ok (.bipush 16, 2) := dk_16 16 (dk_at dksJ22_makeInt_0 4 rfl rfl)
theorem dJ22_makeInt_6 : decode cJ22_makeInt 6 = .ok (.iconst 0, 1) := dk_3 (dk_at dksJ22_makeInt_0 6 rfl rfl)
theorem dJ22_makeInt_7 : decode cJ22_makeInt 7 = .ok (.invokestatic 784, 3) := dk_184 3 16 (dk_at dksJ22_makeInt_0 7 rfl rfl)
theorem dJ22_makeInt_10 : decode cJ22_makeInt 10 = .ok (.ishl, 1) := dk_120 (dk_at dksJ22_makeInt_0 10 rfl rfl)
theorem dJ22_makeInt_11 : decode cJ22_makeInt 11 = .ok (.iload_n 1, 1) := dk_27 (dk_at dksJ22_makeInt_0 11 rfl rfl)
theorem dJ22_makeInt_12 : decode cJ22_makeInt 12 = .ok (.invokestatic 792, 3) := dk_184 3 24 (dk_at dksJ22_makeInt_0 12 rfl rfl)
theorem dJ22_makeInt_15 : decode cJ22_makeInt 15 = .ok (.bipush 16, 2) := dk_16 16 (dk_at dksJ22_makeInt_0 15 rfl rfl)
theorem dJ22_makeInt_17 : decode cJ22_makeInt 17 = .ok (.bipush 16, 2) := dk_16 16 (dk_at dksJ22_makeInt_0 17 rfl rfl)
theorem dJ22_makeInt_19 : decode cJ22_makeInt 19 = .ok (.invokestatic 784, 3) := dk_184 3 16 (dk_at dksJ22_makeInt_0 19 rfl rfl)
theorem dJ22_makeInt_22 : decode cJ22_makeInt 22 = .ok (.ishl, 1) := dk_120 (dk_at dksJ22_makeInt_0 22 rfl rfl)
theorem dJ22_makeInt_23 : decode cJ22_makeInt 23 = .ok (.ior, 1) := dk_128 (dk_at dksJ22_makeInt_0 23 rfl rfl)
theorem dJ22_makeInt_24 : decode cJ22_makeInt 24 = .ok (.ireturn, 1) := dk_172 (dk_at dksJ22_makeInt_1 0 rfl rfl)
abbrev cJ22_toUnsignedInt : ByteArray := prog_44_method_367_code
def yJ22_toUnsignedInt : MethodName := ⟨RJ22, "toUnsignedInt", "(S)I"⟩
def dkwJ22_toUnsignedInt_0 : List UInt8 := [26, 19, 1, 118, 126, 172]
abbrev dktJ22_toUnsignedInt_0 : List UInt8 := dkwJ22_toUnsignedInt_0 ++ []
theorem dksJ22_toUnsignedInt_0 : cJ22_toUnsignedInt.data.toList.drop 0 = dktJ22_toUnsignedInt_0 := by decide +kernel
theorem dJ22_toUnsignedInt_0 : decode cJ22_toUnsignedInt 0 = .ok (.iload_n 0, 1) := dk_26 (dk_at dksJ22_toUnsignedInt_0 0 rfl rfl)
theorem dJ22_toUnsignedInt_1 : decode cJ22_toUnsignedInt 1 = .ok (.ldc_w 374, 3) := dk_19 1 118 (dk_at dksJ22_toUnsignedInt_0 1 rfl rfl)
theorem dJ22_toUnsignedInt_4 : decode cJ22_toUnsignedInt 4 = .ok (.iand, 1) := dk_126 (dk_at dksJ22_toUnsignedInt_0 4 rfl rfl)
theorem dJ22_toUnsignedInt_5 : decode cJ22_toUnsignedInt 5 = .ok (.ireturn, 1) := dk_172 (dk_at dksJ22_toUnsignedInt_0 5 rfl rfl)
abbrev cJ22_makeInt_2 : ByteArray := prog_44_method_355_code
def yJ22_makeInt_2 : MethodName := ⟨RJ22, "makeInt", "(BBBB)I"⟩
def dkwJ22_makeInt_2_2 : List UInt8 := [120, 128, 172]
abbrev dktJ22_makeInt_2_2 : List UInt8 := dkwJ22_makeInt_2_2 ++ []
def dkwJ22_makeInt_2_1 : List UInt8 := [28, 184, 3, 28, 16, 24, 16, 16, 184, 3, 16, 120, 128, 29, 184, 3, 28, 16, 24, 16, 24, 184, 3, 16]
abbrev dktJ22_makeInt_2_1 : List UInt8 := dkwJ22_makeInt_2_1 ++ dktJ22_makeInt_2_2
def dkwJ22_makeInt_2_0 : List UInt8 := [26, 184, 3, 28, 16, 24, 3, 184, 3, 16, 120, 27, 184, 3, 28, 16, 24, 16, 8, 184, 3, 16, 120, 128]
abbrev dktJ22_makeInt_2_0 : List UInt8 := dkwJ22_makeInt_2_0 ++ dktJ22_makeInt_2_1
theorem dksJ22_makeInt_2_0 : cJ22_makeInt_2.data.toList.drop 0 = dktJ22_makeInt_2_0 := by decide +kernel
theorem dksJ22_makeInt_2_1 : cJ22_makeInt_2.data.toList.drop 24 = dktJ22_makeInt_2_1 := dk_seg dksJ22_makeInt_2_0 24 rfl rfl
theorem dksJ22_makeInt_2_2 : cJ22_makeInt_2.data.toList.drop 48 = dktJ22_makeInt_2_2 := dk_seg dksJ22_makeInt_2_1 24 rfl rfl
theorem dJ22_makeInt_2_0 : decode cJ22_makeInt_2 0 = .ok (.iload_n 0, 1) := dk_26 (dk_at dksJ22_makeInt_2_0 0 rfl rfl)
theorem dJ22_makeInt_2_1 : decode cJ22_makeInt_2 1 = .ok (.invokestatic 796, 3) := dk_184 3 28 (dk_at dksJ22_makeInt_2_0 1 rfl rfl)
theorem dJ22_makeInt_2_4 : decode cJ22_makeInt_2 4 = .ok (.bipush 24, 2) := dk_16 24 (dk_at dksJ22_makeInt_2_0 4 rfl rfl)
theorem dJ22_makeInt_2_6 : decode cJ22_makeInt_2 6 = .ok (.iconst 0, 1) := dk_3 (dk_at dksJ22_makeInt_2_0 6 rfl rfl)
theorem dJ22_makeInt_2_7 : decode cJ22_makeInt_2 7 = .ok (.invokestatic 784, 3) := dk_184 3 16 (dk_at dksJ22_makeInt_2_0 7 rfl rfl)
theorem dJ22_makeInt_2_10 : decode cJ22_makeInt_2 10 = .ok (.ishl, 1) := dk_120 (dk_at dksJ22_makeInt_2_0 10 rfl rfl)
theorem dJ22_makeInt_2_11 : decode cJ22_makeInt_2 11 = .ok (.iload_n 1, 1) := dk_27 (dk_at dksJ22_makeInt_2_0 11 rfl rfl)
theorem dJ22_makeInt_2_12 : decode cJ22_makeInt_2 12 = .ok (.invokestatic 796, 3) := dk_184 3 28 (dk_at dksJ22_makeInt_2_0 12 rfl rfl)
theorem dJ22_makeInt_2_15 : decode cJ22_makeInt_2 15 = .ok (.bipush 24, 2) := dk_16 24 (dk_at dksJ22_makeInt_2_0 15 rfl rfl)
theorem dJ22_makeInt_2_17 : decode cJ22_makeInt_2 17 = .ok (.bipush 8, 2) := dk_16 8 (dk_at dksJ22_makeInt_2_0 17 rfl rfl)
theorem dJ22_makeInt_2_19 : decode cJ22_makeInt_2 19 = .ok (.invokestatic 784, 3) := dk_184 3 16 (dk_at dksJ22_makeInt_2_0 19 rfl rfl)
theorem dJ22_makeInt_2_22 : decode cJ22_makeInt_2 22 = .ok (.ishl, 1) := dk_120 (dk_at dksJ22_makeInt_2_0 22 rfl rfl)
theorem dJ22_makeInt_2_23 : decode cJ22_makeInt_2 23 = .ok (.ior, 1) := dk_128 (dk_at dksJ22_makeInt_2_0 23 rfl rfl)
theorem dJ22_makeInt_2_24 : decode cJ22_makeInt_2 24 = .ok (.iload_n 2, 1) := dk_28 (dk_at dksJ22_makeInt_2_1 0 rfl rfl)
theorem dJ22_makeInt_2_25 : decode cJ22_makeInt_2 25 = .ok (.invokestatic 796, 3) := dk_184 3 28 (dk_at dksJ22_makeInt_2_1 1 rfl rfl)
theorem dJ22_makeInt_2_28 : decode cJ22_makeInt_2 28 = .ok (.bipush 24, 2) := dk_16 24 (dk_at dksJ22_makeInt_2_1 4 rfl rfl)
theorem dJ22_makeInt_2_30 : decode cJ22_makeInt_2 30 = .ok (.bipush 16, 2) := dk_16 16 (dk_at dksJ22_makeInt_2_1 6 rfl rfl)
theorem dJ22_makeInt_2_32 : decode cJ22_makeInt_2 32 = .ok (.invokestatic 784, 3) := dk_184 3 16 (dk_at dksJ22_makeInt_2_1 8 rfl rfl)
theorem dJ22_makeInt_2_35 : decode cJ22_makeInt_2 35 = .ok (.ishl, 1) := dk_120 (dk_at dksJ22_makeInt_2_1 11 rfl rfl)
theorem dJ22_makeInt_2_36 : decode cJ22_makeInt_2 36 = .ok (.ior, 1) := dk_128 (dk_at dksJ22_makeInt_2_1 12 rfl rfl)
theorem dJ22_makeInt_2_37 : decode cJ22_makeInt_2 37 = .ok (.iload_n 3, 1) := dk_29 (dk_at dksJ22_makeInt_2_1 13 rfl rfl)
theorem dJ22_makeInt_2_38 : decode cJ22_makeInt_2 38 = .ok (.invokestatic 796, 3) := dk_184 3 28 (dk_at dksJ22_makeInt_2_1 14 rfl rfl)
theorem dJ22_makeInt_2_41 : decode cJ22_makeInt_2 41 = .ok (.bipush 24, 2) := dk_16 24 (dk_at dksJ22_makeInt_2_1 17 rfl rfl)
theorem dJ22_makeInt_2_43 : decode cJ22_makeInt_2 43 = .ok (.bipush 24, 2) := dk_16 24 (dk_at dksJ22_makeInt_2_1 19 rfl rfl)
theorem dJ22_makeInt_2_45 : decode cJ22_makeInt_2 45 = .ok (.invokestatic 784, 3) := dk_184 3 16 (dk_at dksJ22_makeInt_2_1 21 rfl rfl)
theorem dJ22_makeInt_2_48 : decode cJ22_makeInt_2 48 = .ok (.ishl, 1) := dk_120 (dk_at dksJ22_makeInt_2_2 0 rfl rfl)
theorem dJ22_makeInt_2_49 : decode cJ22_makeInt_2 49 = .ok (.ior, 1) := dk_128 (dk_at dksJ22_makeInt_2_2 1 rfl rfl)
theorem dJ22_makeInt_2_50 : decode cJ22_makeInt_2 50 = .ok (.ireturn, 1) := dk_172 (dk_at dksJ22_makeInt_2_2 2 rfl rfl)
abbrev cJ22_toUnsignedInt_2 : ByteArray := prog_44_method_366_code
def yJ22_toUnsignedInt_2 : MethodName := ⟨RJ22, "toUnsignedInt", "(B)I"⟩
def dkwJ22_toUnsignedInt_2_0 : List UInt8 := [26, 17, 0, 255, 126, 172]
abbrev dktJ22_toUnsignedInt_2_0 : List UInt8 := dkwJ22_toUnsignedInt_2_0 ++ []
theorem dksJ22_toUnsignedInt_2_0 : cJ22_toUnsignedInt_2.data.toList.drop 0 = dktJ22_toUnsignedInt_2_0 := by decide +kernel
theorem dJ22_toUnsignedInt_2_0 : decode cJ22_toUnsignedInt_2 0 = .ok (.iload_n 0, 1) := dk_26 (dk_at dksJ22_toUnsignedInt_2_0 0 rfl rfl)
theorem dJ22_toUnsignedInt_2_1 : decode cJ22_toUnsignedInt_2 1 = .ok (.sipush 255, 3) := dk_17 0 255 (dk_at dksJ22_toUnsignedInt_2_0 1 rfl rfl)
theorem dJ22_toUnsignedInt_2_4 : decode cJ22_toUnsignedInt_2 4 = .ok (.iand, 1) := dk_126 (dk_at dksJ22_toUnsignedInt_2_0 4 rfl rfl)
theorem dJ22_toUnsignedInt_2_5 : decode cJ22_toUnsignedInt_2 5 = .ok (.ireturn, 1) := dk_172 (dk_at dksJ22_toUnsignedInt_2_0 5 rfl rfl)
theorem q64 : (Jvm.Cond.initialized "jdk/internal/misc/Unsafe") ∈ lw_all := lw_g (lw_at lw_m1 29 rfl) rfl
theorem q240 : (Jvm.Cond.selects "jdk/internal/misc/Unsafe" ({ cls := "java/lang/Object", name := "getClass", desc := "()Ljava/lang/Class;" } : Jvm.MethodName) ({ cls := "java/lang/Object", name := "getClass", desc := "()Ljava/lang/Class;" } : Jvm.MethodName)) ∈ lw_all := lw_g (lw_at lw_m1 205 rfl) rfl
theorem q660 : (Jvm.Cond.laysStatic "jdk/internal/misc/Unsafe" "ARRAY_BYTE_BASE_OFFSET" "I") ∈ lw_tbl := lw_at lw_m3 145 rfl
theorem q671 : (Jvm.Cond.instanceMethod ({ cls := "jdk/internal/misc/Unsafe", name := "getLongUnaligned", desc := "(Ljava/lang/Object;J)J" } : Jvm.MethodName)) ∈ lw_all := lw_g (lw_at lw_m3 156 rfl) rfl
theorem q672 : (Jvm.Cond.selects "jdk/internal/misc/Unsafe" ({ cls := "jdk/internal/misc/Unsafe", name := "getLongUnaligned", desc := "(Ljava/lang/Object;J)J" } : Jvm.MethodName) ({ cls := "jdk/internal/misc/Unsafe", name := "getLongUnaligned", desc := "(Ljava/lang/Object;J)J" } : Jvm.MethodName)) ∈ lw_all := lw_g (lw_at lw_m3 157 rfl) rfl
theorem q673 : (Jvm.Cond.code ({ cls := "jdk/internal/misc/Unsafe", name := "getLongUnaligned", desc := "(Ljava/lang/Object;J)J" } : Jvm.MethodName) prog_44_method_334_code (4 : Nat) (Option.some Jvm.ClassFile.FieldType.long)) ∈ lw_all := lw_g (lw_at lw_m3 158 rfl) rfl
theorem q674 : (Jvm.Cond.constantLong "jdk/internal/misc/Unsafe" (696 : Nat) (7 : Int64)) ∈ lw_all := lw_g (lw_at lw_m3 159 rfl) rfl
theorem q675 : (Jvm.Cond.methodLink "jdk/internal/misc/Unsafe" (27 : Nat) ({ cls := "jdk/internal/misc/Unsafe", name := "getLong", desc := "(Ljava/lang/Object;J)J" } : Jvm.MethodName)) ∈ lw_all := lw_g (lw_at lw_m3 160 rfl) rfl
theorem q676 : (Jvm.Cond.instanceMethod ({ cls := "jdk/internal/misc/Unsafe", name := "getLong", desc := "(Ljava/lang/Object;J)J" } : Jvm.MethodName)) ∈ lw_all := lw_g (lw_at lw_m3 161 rfl) rfl
theorem q677 : (Jvm.Cond.selects "jdk/internal/misc/Unsafe" ({ cls := "jdk/internal/misc/Unsafe", name := "getLong", desc := "(Ljava/lang/Object;J)J" } : Jvm.MethodName) ({ cls := "jdk/internal/misc/Unsafe", name := "getLong", desc := "(Ljava/lang/Object;J)J" } : Jvm.MethodName)) ∈ lw_all := lw_g (lw_at lw_m3 162 rfl) rfl
theorem q678 : (Jvm.Cond.native ({ cls := "jdk/internal/misc/Unsafe", name := "getLong", desc := "(Ljava/lang/Object;J)J" } : Jvm.MethodName)) ∈ lw_all := lw_g (lw_at lw_m3 163 rfl) rfl
theorem q679 : (Jvm.Cond.constantLong "jdk/internal/misc/Unsafe" (349 : Nat) (3 : Int64)) ∈ lw_all := lw_g (lw_at lw_m3 164 rfl) rfl
theorem q680 : (Jvm.Cond.methodLink "jdk/internal/misc/Unsafe" (17 : Nat) ({ cls := "jdk/internal/misc/Unsafe", name := "getInt", desc := "(Ljava/lang/Object;J)I" } : Jvm.MethodName)) ∈ lw_all := lw_g (lw_at lw_m3 165 rfl) rfl
theorem q681 : (Jvm.Cond.instanceMethod ({ cls := "jdk/internal/misc/Unsafe", name := "getInt", desc := "(Ljava/lang/Object;J)I" } : Jvm.MethodName)) ∈ lw_all := lw_g (lw_at lw_m3 166 rfl) rfl
theorem q682 : (Jvm.Cond.selects "jdk/internal/misc/Unsafe" ({ cls := "jdk/internal/misc/Unsafe", name := "getInt", desc := "(Ljava/lang/Object;J)I" } : Jvm.MethodName) ({ cls := "jdk/internal/misc/Unsafe", name := "getInt", desc := "(Ljava/lang/Object;J)I" } : Jvm.MethodName)) ∈ lw_all := lw_g (lw_at lw_m3 167 rfl) rfl
theorem q683 : (Jvm.Cond.native ({ cls := "jdk/internal/misc/Unsafe", name := "getInt", desc := "(Ljava/lang/Object;J)I" } : Jvm.MethodName)) ∈ lw_all := lw_g (lw_at lw_m3 168 rfl) rfl
theorem q684 : (Jvm.Cond.constantLong "jdk/internal/misc/Unsafe" (205 : Nat) (4 : Int64)) ∈ lw_all := lw_g (lw_at lw_m3 169 rfl) rfl
theorem q685 : (Jvm.Cond.methodLink "jdk/internal/misc/Unsafe" (698 : Nat) ({ cls := "jdk/internal/misc/Unsafe", name := "makeLong", desc := "(II)J" } : Jvm.MethodName)) ∈ lw_all := lw_g (lw_at lw_m3 170 rfl) rfl
theorem q686 : (Jvm.Cond.static ({ cls := "jdk/internal/misc/Unsafe", name := "makeLong", desc := "(II)J" } : Jvm.MethodName)) ∈ lw_all := lw_g (lw_at lw_m3 171 rfl) rfl
theorem q687 : (Jvm.Cond.code ({ cls := "jdk/internal/misc/Unsafe", name := "makeLong", desc := "(II)J" } : Jvm.MethodName) prog_44_method_353_code (2 : Nat) (Option.some Jvm.ClassFile.FieldType.long)) ∈ lw_all := lw_g (lw_at lw_m3 172 rfl) rfl
theorem q688 : (Jvm.Cond.methodLink "jdk/internal/misc/Unsafe" (791 : Nat) ({ cls := "jdk/internal/misc/Unsafe", name := "toUnsignedLong", desc := "(I)J" } : Jvm.MethodName)) ∈ lw_all := lw_g (lw_at lw_m3 173 rfl) rfl
theorem q689 : (Jvm.Cond.static ({ cls := "jdk/internal/misc/Unsafe", name := "toUnsignedLong", desc := "(I)J" } : Jvm.MethodName)) ∈ lw_all := lw_g (lw_at lw_m3 174 rfl) rfl
theorem q690 : (Jvm.Cond.code ({ cls := "jdk/internal/misc/Unsafe", name := "toUnsignedLong", desc := "(I)J" } : Jvm.MethodName) prog_44_method_370_code (1 : Nat) (Option.some Jvm.ClassFile.FieldType.long)) ∈ lw_all := lw_g (lw_at lw_m3 175 rfl) rfl
theorem q691 : (Jvm.Cond.constantLong "jdk/internal/misc/Unsafe" (812 : Nat) (4294967295 : Int64)) ∈ lw_all := lw_g (lw_at lw_m3 176 rfl) rfl
theorem q692 : (Jvm.Cond.methodLink "jdk/internal/misc/Unsafe" (784 : Nat) ({ cls := "jdk/internal/misc/Unsafe", name := "pickPos", desc := "(II)I" } : Jvm.MethodName)) ∈ lw_all := lw_g (lw_at lw_m3 177 rfl) rfl
theorem q693 : (Jvm.Cond.static ({ cls := "jdk/internal/misc/Unsafe", name := "pickPos", desc := "(II)I" } : Jvm.MethodName)) ∈ lw_all := lw_g (lw_at lw_m3 178 rfl) rfl
theorem q694 : (Jvm.Cond.code ({ cls := "jdk/internal/misc/Unsafe", name := "pickPos", desc := "(II)I" } : Jvm.MethodName) prog_44_method_350_code (2 : Nat) (Option.some Jvm.ClassFile.FieldType.int)) ∈ lw_all := lw_g (lw_at lw_m3 179 rfl) rfl
theorem q695 : (Jvm.Cond.fieldLink "jdk/internal/misc/Unsafe" (351 : Nat) "jdk/internal/misc/UnsafeConstants" "BIG_ENDIAN" "Z") ∈ lw_all := lw_g (lw_at lw_m3 180 rfl) rfl
theorem q697 : (Jvm.Cond.methodLink "jdk/internal/misc/Unsafe" (47 : Nat) ({ cls := "jdk/internal/misc/Unsafe", name := "getShort", desc := "(Ljava/lang/Object;J)S" } : Jvm.MethodName)) ∈ lw_all := lw_g (lw_at lw_m3 182 rfl) rfl
theorem q698 : (Jvm.Cond.instanceMethod ({ cls := "jdk/internal/misc/Unsafe", name := "getShort", desc := "(Ljava/lang/Object;J)S" } : Jvm.MethodName)) ∈ lw_all := lw_g (lw_at lw_m3 183 rfl) rfl
theorem q699 : (Jvm.Cond.selects "jdk/internal/misc/Unsafe" ({ cls := "jdk/internal/misc/Unsafe", name := "getShort", desc := "(Ljava/lang/Object;J)S" } : Jvm.MethodName) ({ cls := "jdk/internal/misc/Unsafe", name := "getShort", desc := "(Ljava/lang/Object;J)S" } : Jvm.MethodName)) ∈ lw_all := lw_g (lw_at lw_m3 184 rfl) rfl
theorem q700 : (Jvm.Cond.native ({ cls := "jdk/internal/misc/Unsafe", name := "getShort", desc := "(Ljava/lang/Object;J)S" } : Jvm.MethodName)) ∈ lw_all := lw_g (lw_at lw_m3 185 rfl) rfl
theorem q701 : (Jvm.Cond.constantLong "jdk/internal/misc/Unsafe" (203 : Nat) (2 : Int64)) ∈ lw_all := lw_g (lw_at lw_m3 186 rfl) rfl
theorem q702 : (Jvm.Cond.constantLong "jdk/internal/misc/Unsafe" (702 : Nat) (6 : Int64)) ∈ lw_all := lw_g (lw_at lw_m3 187 rfl) rfl
theorem q703 : (Jvm.Cond.methodLink "jdk/internal/misc/Unsafe" (704 : Nat) ({ cls := "jdk/internal/misc/Unsafe", name := "makeLong", desc := "(SSSS)J" } : Jvm.MethodName)) ∈ lw_all := lw_g (lw_at lw_m3 188 rfl) rfl
theorem q704 : (Jvm.Cond.static ({ cls := "jdk/internal/misc/Unsafe", name := "makeLong", desc := "(SSSS)J" } : Jvm.MethodName)) ∈ lw_all := lw_g (lw_at lw_m3 189 rfl) rfl
theorem q705 : (Jvm.Cond.code ({ cls := "jdk/internal/misc/Unsafe", name := "makeLong", desc := "(SSSS)J" } : Jvm.MethodName) prog_44_method_352_code (4 : Nat) (Option.some Jvm.ClassFile.FieldType.long)) ∈ lw_all := lw_g (lw_at lw_m3 190 rfl) rfl
theorem q706 : (Jvm.Cond.methodLink "jdk/internal/misc/Unsafe" (788 : Nat) ({ cls := "jdk/internal/misc/Unsafe", name := "toUnsignedLong", desc := "(S)J" } : Jvm.MethodName)) ∈ lw_all := lw_g (lw_at lw_m3 191 rfl) rfl
theorem q707 : (Jvm.Cond.static ({ cls := "jdk/internal/misc/Unsafe", name := "toUnsignedLong", desc := "(S)J" } : Jvm.MethodName)) ∈ lw_all := lw_g (lw_at lw_m3 192 rfl) rfl
theorem q708 : (Jvm.Cond.code ({ cls := "jdk/internal/misc/Unsafe", name := "toUnsignedLong", desc := "(S)J" } : Jvm.MethodName) prog_44_method_369_code (1 : Nat) (Option.some Jvm.ClassFile.FieldType.long)) ∈ lw_all := lw_g (lw_at lw_m3 193 rfl) rfl
theorem q709 : (Jvm.Cond.constantLong "jdk/internal/misc/Unsafe" (810 : Nat) (65535 : Int64)) ∈ lw_all := lw_g (lw_at lw_m3 194 rfl) rfl
theorem q710 : (Jvm.Cond.methodLink "jdk/internal/misc/Unsafe" (39 : Nat) ({ cls := "jdk/internal/misc/Unsafe", name := "getByte", desc := "(Ljava/lang/Object;J)B" } : Jvm.MethodName)) ∈ lw_all := lw_g (lw_at lw_m3 195 rfl) rfl
theorem q711 : (Jvm.Cond.instanceMethod ({ cls := "jdk/internal/misc/Unsafe", name := "getByte", desc := "(Ljava/lang/Object;J)B" } : Jvm.MethodName)) ∈ lw_all := lw_g (lw_at lw_m3 196 rfl) rfl
theorem q712 : (Jvm.Cond.selects "jdk/internal/misc/Unsafe" ({ cls := "jdk/internal/misc/Unsafe", name := "getByte", desc := "(Ljava/lang/Object;J)B" } : Jvm.MethodName) ({ cls := "jdk/internal/misc/Unsafe", name := "getByte", desc := "(Ljava/lang/Object;J)B" } : Jvm.MethodName)) ∈ lw_all := lw_g (lw_at lw_m3 197 rfl) rfl
theorem q713 : (Jvm.Cond.native ({ cls := "jdk/internal/misc/Unsafe", name := "getByte", desc := "(Ljava/lang/Object;J)B" } : Jvm.MethodName)) ∈ lw_all := lw_g (lw_at lw_m3 198 rfl) rfl
theorem q714 : (Jvm.Cond.constantLong "jdk/internal/misc/Unsafe" (707 : Nat) (5 : Int64)) ∈ lw_all := lw_g (lw_at lw_m3 199 rfl) rfl
theorem q715 : (Jvm.Cond.methodLink "jdk/internal/misc/Unsafe" (709 : Nat) ({ cls := "jdk/internal/misc/Unsafe", name := "makeLong", desc := "(BBBBBBBB)J" } : Jvm.MethodName)) ∈ lw_all := lw_g (lw_at lw_m3 200 rfl) rfl
theorem q716 : (Jvm.Cond.static ({ cls := "jdk/internal/misc/Unsafe", name := "makeLong", desc := "(BBBBBBBB)J" } : Jvm.MethodName)) ∈ lw_all := lw_g (lw_at lw_m3 201 rfl) rfl
theorem q717 : (Jvm.Cond.code ({ cls := "jdk/internal/misc/Unsafe", name := "makeLong", desc := "(BBBBBBBB)J" } : Jvm.MethodName) prog_44_method_351_code (8 : Nat) (Option.some Jvm.ClassFile.FieldType.long)) ∈ lw_all := lw_g (lw_at lw_m3 202 rfl) rfl
theorem q718 : (Jvm.Cond.methodLink "jdk/internal/misc/Unsafe" (781 : Nat) ({ cls := "jdk/internal/misc/Unsafe", name := "toUnsignedLong", desc := "(B)J" } : Jvm.MethodName)) ∈ lw_all := lw_g (lw_at lw_m3 203 rfl) rfl
theorem q719 : (Jvm.Cond.static ({ cls := "jdk/internal/misc/Unsafe", name := "toUnsignedLong", desc := "(B)J" } : Jvm.MethodName)) ∈ lw_all := lw_g (lw_at lw_m3 204 rfl) rfl
theorem q720 : (Jvm.Cond.code ({ cls := "jdk/internal/misc/Unsafe", name := "toUnsignedLong", desc := "(B)J" } : Jvm.MethodName) prog_44_method_368_code (1 : Nat) (Option.some Jvm.ClassFile.FieldType.long)) ∈ lw_all := lw_g (lw_at lw_m3 205 rfl) rfl
theorem q721 : (Jvm.Cond.constantLong "jdk/internal/misc/Unsafe" (808 : Nat) (255 : Int64)) ∈ lw_all := lw_g (lw_at lw_m3 206 rfl) rfl
theorem q742 : (Jvm.Cond.instanceMethod ({ cls := "jdk/internal/misc/Unsafe", name := "getIntUnaligned", desc := "(Ljava/lang/Object;J)I" } : Jvm.MethodName)) ∈ lw_all := lw_g (lw_at lw_m3 227 rfl) rfl
theorem q743 : (Jvm.Cond.selects "jdk/internal/misc/Unsafe" ({ cls := "jdk/internal/misc/Unsafe", name := "getIntUnaligned", desc := "(Ljava/lang/Object;J)I" } : Jvm.MethodName) ({ cls := "jdk/internal/misc/Unsafe", name := "getIntUnaligned", desc := "(Ljava/lang/Object;J)I" } : Jvm.MethodName)) ∈ lw_all := lw_g (lw_at lw_m3 228 rfl) rfl
theorem q744 : (Jvm.Cond.code ({ cls := "jdk/internal/misc/Unsafe", name := "getIntUnaligned", desc := "(Ljava/lang/Object;J)I" } : Jvm.MethodName) prog_44_method_336_code (4 : Nat) (Option.some Jvm.ClassFile.FieldType.int)) ∈ lw_all := lw_g (lw_at lw_m3 229 rfl) rfl
theorem q745 : (Jvm.Cond.methodLink "jdk/internal/misc/Unsafe" (719 : Nat) ({ cls := "jdk/internal/misc/Unsafe", name := "makeInt", desc := "(SS)I" } : Jvm.MethodName)) ∈ lw_all := lw_g (lw_at lw_m3 230 rfl) rfl
theorem q746 : (Jvm.Cond.static ({ cls := "jdk/internal/misc/Unsafe", name := "makeInt", desc := "(SS)I" } : Jvm.MethodName)) ∈ lw_all := lw_g (lw_at lw_m3 231 rfl) rfl
theorem q747 : (Jvm.Cond.code ({ cls := "jdk/internal/misc/Unsafe", name := "makeInt", desc := "(SS)I" } : Jvm.MethodName) prog_44_method_354_code (2 : Nat) (Option.some Jvm.ClassFile.FieldType.int)) ∈ lw_all := lw_g (lw_at lw_m3 232 rfl) rfl
theorem q748 : (Jvm.Cond.methodLink "jdk/internal/misc/Unsafe" (792 : Nat) ({ cls := "jdk/internal/misc/Unsafe", name := "toUnsignedInt", desc := "(S)I" } : Jvm.MethodName)) ∈ lw_all := lw_g (lw_at lw_m3 233 rfl) rfl
theorem q749 : (Jvm.Cond.static ({ cls := "jdk/internal/misc/Unsafe", name := "toUnsignedInt", desc := "(S)I" } : Jvm.MethodName)) ∈ lw_all := lw_g (lw_at lw_m3 234 rfl) rfl
theorem q750 : (Jvm.Cond.code ({ cls := "jdk/internal/misc/Unsafe", name := "toUnsignedInt", desc := "(S)I" } : Jvm.MethodName) prog_44_method_367_code (1 : Nat) (Option.some Jvm.ClassFile.FieldType.int)) ∈ lw_all := lw_g (lw_at lw_m3 235 rfl) rfl
theorem q751 : (Jvm.Cond.constant "jdk/internal/misc/Unsafe" (374 : Nat) (65535 : Int32)) ∈ lw_all := lw_g (lw_at lw_m3 236 rfl) rfl
theorem q752 : (Jvm.Cond.methodLink "jdk/internal/misc/Unsafe" (723 : Nat) ({ cls := "jdk/internal/misc/Unsafe", name := "makeInt", desc := "(BBBB)I" } : Jvm.MethodName)) ∈ lw_all := lw_g (lw_at lw_m3 237 rfl) rfl
theorem q753 : (Jvm.Cond.static ({ cls := "jdk/internal/misc/Unsafe", name := "makeInt", desc := "(BBBB)I" } : Jvm.MethodName)) ∈ lw_all := lw_g (lw_at lw_m3 238 rfl) rfl
theorem q754 : (Jvm.Cond.code ({ cls := "jdk/internal/misc/Unsafe", name := "makeInt", desc := "(BBBB)I" } : Jvm.MethodName) prog_44_method_355_code (4 : Nat) (Option.some Jvm.ClassFile.FieldType.int)) ∈ lw_all := lw_g (lw_at lw_m3 239 rfl) rfl
theorem q755 : (Jvm.Cond.methodLink "jdk/internal/misc/Unsafe" (796 : Nat) ({ cls := "jdk/internal/misc/Unsafe", name := "toUnsignedInt", desc := "(B)I" } : Jvm.MethodName)) ∈ lw_all := lw_g (lw_at lw_m4 0 rfl) rfl
theorem q756 : (Jvm.Cond.static ({ cls := "jdk/internal/misc/Unsafe", name := "toUnsignedInt", desc := "(B)I" } : Jvm.MethodName)) ∈ lw_all := lw_g (lw_at lw_m4 1 rfl) rfl
theorem q757 : (Jvm.Cond.code ({ cls := "jdk/internal/misc/Unsafe", name := "toUnsignedInt", desc := "(B)I" } : Jvm.MethodName) prog_44_method_366_code (1 : Nat) (Option.some Jvm.ClassFile.FieldType.int)) ∈ lw_all := lw_g (lw_at lw_m4 2 rfl) rfl
theorem q1572 : (Jvm.Cond.castable "jdk/internal/misc/Unsafe" "java/lang/Object") ∈ lw_tbl := lw_at lw_m7 97 rfl

/-! java/lang/Long -/
set_option maxRecDepth 100000
def RJ23 : String := "java/lang/Long"
abbrev cJ23_numberOfLeadingZeros : ByteArray := prog_21_method_48_code
def yJ23_numberOfLeadingZeros : MethodName := ⟨RJ23, "numberOfLeadingZeros", "(J)I"⟩
def dkwJ23_numberOfLeadingZeros_1 : List UInt8 := [184, 1, 52, 172]
abbrev dktJ23_numberOfLeadingZeros_1 : List UInt8 := dkwJ23_numberOfLeadingZeros_1 ++ []
def dkwJ23_numberOfLeadingZeros_0 : List UInt8 := [30, 16, 32, 125, 136, 61, 28, 154, 0, 14, 16, 32, 30, 136, 184, 1, 52, 96, 167, 0, 7, 28]
abbrev dktJ23_numberOfLeadingZeros_0 : List UInt8 := dkwJ23_numberOfLeadingZeros_0 ++ dktJ23_numberOfLeadingZeros_1
theorem dksJ23_numberOfLeadingZeros_0 : cJ23_numberOfLeadingZeros.data.toList.drop 0 = dktJ23_numberOfLeadingZeros_0 := by decide +kernel
theorem dksJ23_numberOfLeadingZeros_1 : cJ23_numberOfLeadingZeros.data.toList.drop 22 = dktJ23_numberOfLeadingZeros_1 := dk_seg dksJ23_numberOfLeadingZeros_0 22 rfl rfl
theorem dJ23_numberOfLeadingZeros_0 : decode cJ23_numberOfLeadingZeros 0 = .ok (.lload_n 0, 1) := dk_30 (dk_at dksJ23_numberOfLeadingZeros_0 0 rfl rfl)
theorem dJ23_numberOfLeadingZeros_1 : decode cJ23_numberOfLeadingZeros 1 = .ok (.bipush 32, 2) := dk_16 32 (dk_at dksJ23_numberOfLeadingZeros_0 1 rfl rfl)
theorem dJ23_numberOfLeadingZeros_3 : decode cJ23_numberOfLeadingZeros 3 = .ok (.lushr, 1) := dk_125 (dk_at dksJ23_numberOfLeadingZeros_0 3 rfl rfl)
theorem dJ23_numberOfLeadingZeros_4 : decode cJ23_numberOfLeadingZeros 4 = .ok (.l2i, 1) := dk_136 (dk_at dksJ23_numberOfLeadingZeros_0 4 rfl rfl)
theorem dJ23_numberOfLeadingZeros_5 : decode cJ23_numberOfLeadingZeros 5 = .ok (.istore_n 2, 1) := dk_61 (dk_at dksJ23_numberOfLeadingZeros_0 5 rfl rfl)
theorem dJ23_numberOfLeadingZeros_6 : decode cJ23_numberOfLeadingZeros 6 = .ok (.iload_n 2, 1) := dk_28 (dk_at dksJ23_numberOfLeadingZeros_0 6 rfl rfl)
theorem dJ23_numberOfLeadingZeros_7 : decode cJ23_numberOfLeadingZeros 7 = .ok (.ifCond .ne 14, 3) := dk_154 0 14 (dk_at dksJ23_numberOfLeadingZeros_0 7 rfl rfl)
theorem dJ23_numberOfLeadingZeros_10 : decode cJ23_numberOfLeadingZeros 10 = .ok (.bipush 32, 2) := dk_16 32 (dk_at dksJ23_numberOfLeadingZeros_0 10 rfl rfl)
theorem dJ23_numberOfLeadingZeros_12 : decode cJ23_numberOfLeadingZeros 12 = .ok (.lload_n 0, 1) := dk_30 (dk_at dksJ23_numberOfLeadingZeros_0 12 rfl rfl)
theorem dJ23_numberOfLeadingZeros_13 : decode cJ23_numberOfLeadingZeros 13 = .ok (.l2i, 1) := dk_136 (dk_at dksJ23_numberOfLeadingZeros_0 13 rfl rfl)
theorem dJ23_numberOfLeadingZeros_14 : decode cJ23_numberOfLeadingZeros 14 = .ok (.invokestatic 308, 3) := dk_184 1 52 (dk_at dksJ23_numberOfLeadingZeros_0 14 rfl rfl)
theorem dJ23_numberOfLeadingZeros_17 : decode cJ23_numberOfLeadingZeros 17 = .ok (.iadd, 1) := dk_96 (dk_at dksJ23_numberOfLeadingZeros_0 17 rfl rfl)
theorem dJ23_numberOfLeadingZeros_18 : decode cJ23_numberOfLeadingZeros 18 = .ok (.goto 7, 3) := dk_167 0 7 (dk_at dksJ23_numberOfLeadingZeros_0 18 rfl rfl)
theorem dJ23_numberOfLeadingZeros_21 : decode cJ23_numberOfLeadingZeros 21 = .ok (.iload_n 2, 1) := dk_28 (dk_at dksJ23_numberOfLeadingZeros_0 21 rfl rfl)
theorem dJ23_numberOfLeadingZeros_22 : decode cJ23_numberOfLeadingZeros 22 = .ok (.invokestatic 308, 3) := dk_184 1 52 (dk_at dksJ23_numberOfLeadingZeros_1 0 rfl rfl)
theorem dJ23_numberOfLeadingZeros_25 : decode cJ23_numberOfLeadingZeros 25 = .ok (.ireturn, 1) := dk_172 (dk_at dksJ23_numberOfLeadingZeros_1 3 rfl rfl)
abbrev cJ23_numberOfTrailingZeros : ByteArray := prog_21_method_49_code
def yJ23_numberOfTrailingZeros : MethodName := ⟨RJ23, "numberOfTrailingZeros", "(J)I"⟩
def dkwJ23_numberOfTrailingZeros_1 : List UInt8 := [184, 1, 55, 172]
abbrev dktJ23_numberOfTrailingZeros_1 : List UInt8 := dkwJ23_numberOfTrailingZeros_1 ++ []
def dkwJ23_numberOfTrailingZeros_0 : List UInt8 := [30, 136, 61, 28, 154, 0, 17, 16, 32, 30, 16, 32, 125, 136, 184, 1, 55, 96, 167, 0, 7, 28]
abbrev dktJ23_numberOfTrailingZeros_0 : List UInt8 := dkwJ23_numberOfTrailingZeros_0 ++ dktJ23_numberOfTrailingZeros_1
theorem dksJ23_numberOfTrailingZeros_0 : cJ23_numberOfTrailingZeros.data.toList.drop 0 = dktJ23_numberOfTrailingZeros_0 := by decide +kernel
theorem dksJ23_numberOfTrailingZeros_1 : cJ23_numberOfTrailingZeros.data.toList.drop 22 = dktJ23_numberOfTrailingZeros_1 := dk_seg dksJ23_numberOfTrailingZeros_0 22 rfl rfl
theorem dJ23_numberOfTrailingZeros_0 : decode cJ23_numberOfTrailingZeros 0 = .ok (.lload_n 0, 1) := dk_30 (dk_at dksJ23_numberOfTrailingZeros_0 0 rfl rfl)
theorem dJ23_numberOfTrailingZeros_1 : decode cJ23_numberOfTrailingZeros 1 = .ok (.l2i, 1) := dk_136 (dk_at dksJ23_numberOfTrailingZeros_0 1 rfl rfl)
theorem dJ23_numberOfTrailingZeros_2 : decode cJ23_numberOfTrailingZeros 2 = .ok (.istore_n 2, 1) := dk_61 (dk_at dksJ23_numberOfTrailingZeros_0 2 rfl rfl)
theorem dJ23_numberOfTrailingZeros_3 : decode cJ23_numberOfTrailingZeros 3 = .ok (.iload_n 2, 1) := dk_28 (dk_at dksJ23_numberOfTrailingZeros_0 3 rfl rfl)
theorem dJ23_numberOfTrailingZeros_4 : decode cJ23_numberOfTrailingZeros 4 = .ok (.ifCond .ne 17, 3) := dk_154 0 17 (dk_at dksJ23_numberOfTrailingZeros_0 4 rfl rfl)
theorem dJ23_numberOfTrailingZeros_7 : decode cJ23_numberOfTrailingZeros 7 = .ok (.bipush 32, 2) := dk_16 32 (dk_at dksJ23_numberOfTrailingZeros_0 7 rfl rfl)
theorem dJ23_numberOfTrailingZeros_9 : decode cJ23_numberOfTrailingZeros 9 = .ok (.lload_n 0, 1) := dk_30 (dk_at dksJ23_numberOfTrailingZeros_0 9 rfl rfl)
theorem dJ23_numberOfTrailingZeros_10 : decode cJ23_numberOfTrailingZeros 10 = .ok (.bipush 32, 2) := dk_16 32 (dk_at dksJ23_numberOfTrailingZeros_0 10 rfl rfl)
theorem dJ23_numberOfTrailingZeros_12 : decode cJ23_numberOfTrailingZeros 12 = .ok (.lushr, 1) := dk_125 (dk_at dksJ23_numberOfTrailingZeros_0 12 rfl rfl)
theorem dJ23_numberOfTrailingZeros_13 : decode cJ23_numberOfTrailingZeros 13 = .ok (.l2i, 1) := dk_136 (dk_at dksJ23_numberOfTrailingZeros_0 13 rfl rfl)
theorem dJ23_numberOfTrailingZeros_14 : decode cJ23_numberOfTrailingZeros 14 = .ok (.invokestatic 311, 3) := dk_184 1 55 (dk_at dksJ23_numberOfTrailingZeros_0 14 rfl rfl)
theorem dJ23_numberOfTrailingZeros_17 : decode cJ23_numberOfTrailingZeros 17 = .ok (.iadd, 1) := dk_96 (dk_at dksJ23_numberOfTrailingZeros_0 17 rfl rfl)
theorem dJ23_numberOfTrailingZeros_18 : decode cJ23_numberOfTrailingZeros 18 = .ok (.goto 7, 3) := dk_167 0 7 (dk_at dksJ23_numberOfTrailingZeros_0 18 rfl rfl)
theorem dJ23_numberOfTrailingZeros_21 : decode cJ23_numberOfTrailingZeros 21 = .ok (.iload_n 2, 1) := dk_28 (dk_at dksJ23_numberOfTrailingZeros_0 21 rfl rfl)
theorem dJ23_numberOfTrailingZeros_22 : decode cJ23_numberOfTrailingZeros 22 = .ok (.invokestatic 311, 3) := dk_184 1 55 (dk_at dksJ23_numberOfTrailingZeros_1 0 rfl rfl)
theorem dJ23_numberOfTrailingZeros_25 : decode cJ23_numberOfTrailingZeros 25 = .ok (.ireturn, 1) := dk_172 (dk_at dksJ23_numberOfTrailingZeros_1 3 rfl rfl)
theorem q66 : (Jvm.Cond.initialized "java/lang/Long") ∈ lw_all := lw_g (lw_at lw_m1 31 rfl) rfl
theorem q725 : (Jvm.Cond.static ({ cls := "java/lang/Long", name := "numberOfLeadingZeros", desc := "(J)I" } : Jvm.MethodName)) ∈ lw_all := lw_g (lw_at lw_m3 210 rfl) rfl
theorem q726 : (Jvm.Cond.code ({ cls := "java/lang/Long", name := "numberOfLeadingZeros", desc := "(J)I" } : Jvm.MethodName) prog_21_method_48_code (3 : Nat) (Option.some Jvm.ClassFile.FieldType.int)) ∈ lw_all := lw_g (lw_at lw_m3 211 rfl) rfl
theorem q727 : (Jvm.Cond.methodLink "java/lang/Long" (308 : Nat) ({ cls := "java/lang/Integer", name := "numberOfLeadingZeros", desc := "(I)I" } : Jvm.MethodName)) ∈ lw_all := lw_g (lw_at lw_m3 212 rfl) rfl
theorem q734 : (Jvm.Cond.static ({ cls := "java/lang/Long", name := "numberOfTrailingZeros", desc := "(J)I" } : Jvm.MethodName)) ∈ lw_all := lw_g (lw_at lw_m3 219 rfl) rfl
theorem q735 : (Jvm.Cond.code ({ cls := "java/lang/Long", name := "numberOfTrailingZeros", desc := "(J)I" } : Jvm.MethodName) prog_21_method_49_code (3 : Nat) (Option.some Jvm.ClassFile.FieldType.int)) ∈ lw_all := lw_g (lw_at lw_m3 220 rfl) rfl
theorem q736 : (Jvm.Cond.methodLink "java/lang/Long" (311 : Nat) ({ cls := "java/lang/Integer", name := "numberOfTrailingZeros", desc := "(I)I" } : Jvm.MethodName)) ∈ lw_all := lw_g (lw_at lw_m3 221 rfl) rfl

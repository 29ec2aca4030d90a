/-! AllotmentLedgerModel -/
set_option maxRecDepth 100000
def RX4 : String := "AllotmentLedgerModel"
def TX4 : u_T := fun k => match k with
  | 0 => ("AllotmentLedgerModel", "refusal", "I", false)
  | 1 => ("AllotmentLedgerModel", "clock", "I", false)
  | 2 => ("AllotmentLedgerModel", "buffer", "[C", true)
  | 3 => ("AllotmentLedgerModel", "typed", "I", false)
  | 4 => ("AllotmentLedgerModel", "old", "[C", true)
  | 5 => ("AllotmentLedgerModel", "projects", "I", false)
  | 6 => ("AllotmentLedgerModel", "letters", "[C", true)
  | 7 => ("AllotmentLedgerModel", "lengths", "[I", true)
  | 8 => ("AllotmentLedgerModel", "files", "I", false)
  | 9 => ("AllotmentLedgerModel", "owners", "[I", true)
  | 10 => ("AllotmentLedgerModel", "places", "[I", true)
  | 11 => ("AllotmentLedgerModel", "blocksOf", "[I", true)
  | 12 => ("AllotmentLedgerModel", "isGone", "[Z", true)
  | 13 => ("AllotmentLedgerModel", "reservations", "I", false)
  | 14 => ("AllotmentLedgerModel", "fileOf", "[I", true)
  | 15 => ("AllotmentLedgerModel", "held", "[I", true)
  | 16 => ("AllotmentLedgerModel", "isOpen", "[Z", true)
  | 17 => ("AllotmentLedgerModel", "softs", "[I", true)
  | 18 => ("AllotmentLedgerModel", "hards", "[I", true)
  | 19 => ("AllotmentLedgerModel", "fileLimits", "[I", true)
  | 20 => ("AllotmentLedgerModel", "since", "[I", true)
  | 21 => ("AllotmentLedgerModel", "isCounting", "Z", false)
  | _ => ("AllotmentLedgerModel", "taken", "I", false)
def tyX4 : Nat → FieldType := fun k => match k with
  | 0 => .int
  | 1 => .int
  | 2 => .array .char
  | 3 => .int
  | 4 => .array .char
  | 5 => .int
  | 6 => .array .char
  | 7 => .array .int
  | 8 => .int
  | 9 => .array .int
  | 10 => .array .int
  | 11 => .array .int
  | 12 => .array .boolean
  | 13 => .int
  | 14 => .array .int
  | 15 => .array .int
  | 16 => .array .boolean
  | 17 => .array .int
  | 18 => .array .int
  | 19 => .array .int
  | 20 => .array .int
  | 21 => .boolean
  | _ => .int
abbrev wsX40 : List Cond := u_ws RX4 TX4 23
set_option maxRecDepth 100000 in
theorem nmX4 : ∀ a, a < 23 → ∀ b, b < 23 → a ≠ b → (TX4 a).2.1 ≠ (TX4 b).2.1 := by decide +kernel
set_option maxRecDepth 100000 in
theorem tyX4_ok : ∀ k, k < 23 → parseFieldDescriptor (TX4 k).2.2.1 = some (tyX4 k) := by decide +kernel
abbrev cX4_init : ByteArray := prog_7_method_1_code
def yX4_init : MethodName := ⟨RX4, "<init>", "()V"⟩
def dkwX4_init_7 : List UInt8 := [27, 2, 79, 132, 1, 1, 167, 255, 219, 177]
abbrev dktX4_init_7 : List UInt8 := dkwX4_init_7 ++ []
def dkwX4_init_6 : List UInt8 := [180, 0, 49, 27, 2, 79, 42, 180, 0, 52, 27, 2, 79, 42, 180, 0, 55, 27, 2, 79, 42, 180, 0, 58]
abbrev dktX4_init_6 : List UInt8 := dkwX4_init_6 ++ dktX4_init_7
def dkwX4_init_5 : List UInt8 := [188, 10, 181, 0, 55, 42, 16, 30, 188, 10, 181, 0, 58, 3, 60, 27, 16, 30, 162, 0, 37, 42]
abbrev dktX4_init_5 : List UInt8 := dkwX4_init_5 ++ dktX4_init_6
def dkwX4_init_4 : List UInt8 := [188, 4, 181, 0, 46, 42, 16, 30, 188, 10, 181, 0, 49, 42, 16, 30, 188, 10, 181, 0, 52, 42, 16, 30]
abbrev dktX4_init_4 : List UInt8 := dkwX4_init_4 ++ dktX4_init_5
def dkwX4_init_3 : List UInt8 := [188, 4, 181, 0, 36, 42, 16, 30, 188, 10, 181, 0, 40, 42, 16, 30, 188, 10, 181, 0, 43, 42, 16, 30]
abbrev dktX4_init_3 : List UInt8 := dkwX4_init_3 ++ dktX4_init_4
def dkwX4_init_2 : List UInt8 := [188, 10, 181, 0, 27, 42, 16, 40, 188, 10, 181, 0, 30, 42, 16, 40, 188, 10, 181, 0, 33, 42, 16, 40]
abbrev dktX4_init_2 : List UInt8 := dkwX4_init_2 ++ dktX4_init_3
def dkwX4_init_1 : List UInt8 := [181, 0, 16, 42, 17, 0, 168, 188, 5, 181, 0, 20, 42, 16, 21, 188, 10, 181, 0, 23, 42, 16, 40]
abbrev dktX4_init_1 : List UInt8 := dkwX4_init_1 ++ dktX4_init_2
def dkwX4_init_0 : List UInt8 := [42, 183, 0, 1, 42, 16, 8, 188, 5, 181, 0, 7, 42, 16, 8, 188, 5, 181, 0, 13, 42, 4]
abbrev dktX4_init_0 : List UInt8 := dkwX4_init_0 ++ dktX4_init_1
theorem dksX4_init_0 : cX4_init.data.toList.drop 0 = dktX4_init_0 := by decide +kernel
theorem dksX4_init_1 : cX4_init.data.toList.drop 22 = dktX4_init_1 := dk_seg dksX4_init_0 22 rfl rfl
theorem dksX4_init_2 : cX4_init.data.toList.drop 45 = dktX4_init_2 := dk_seg dksX4_init_1 23 rfl rfl
theorem dksX4_init_3 : cX4_init.data.toList.drop 69 = dktX4_init_3 := dk_seg dksX4_init_2 24 rfl rfl
theorem dksX4_init_4 : cX4_init.data.toList.drop 93 = dktX4_init_4 := dk_seg dksX4_init_3 24 rfl rfl
theorem dksX4_init_5 : cX4_init.data.toList.drop 117 = dktX4_init_5 := dk_seg dksX4_init_4 24 rfl rfl
theorem dksX4_init_6 : cX4_init.data.toList.drop 139 = dktX4_init_6 := dk_seg dksX4_init_5 22 rfl rfl
theorem dksX4_init_7 : cX4_init.data.toList.drop 163 = dktX4_init_7 := dk_seg dksX4_init_6 24 rfl rfl
theorem dX4_init_0 : decode cX4_init 0 = .ok (.aload_n 0, 1) := dk_42 (dk_at dksX4_init_0 0 rfl rfl)
theorem dX4_init_1 : decode cX4_init 1 = .ok (.invokespecial 1, 3) := dk_183 0 1 (dk_at dksX4_init_0 1 rfl rfl)
theorem dX4_init_4 : decode cX4_init 4 = .ok (.aload_n 0, 1) := dk_42 (dk_at dksX4_init_0 4 rfl rfl)
theorem dX4_init_5 : decode cX4_init 5 = .ok (.bipush 8, 2) := dk_16 8 (dk_at dksX4_init_0 5 rfl rfl)
theorem dX4_init_7 : decode cX4_init 7 = .ok (.newarray .char, 2) := dk_188_5 (dk_at dksX4_init_0 7 rfl rfl)
theorem dX4_init_9 : decode cX4_init 9 = .ok (.putfield 7, 3) := dk_181 0 7 (dk_at dksX4_init_0 9 rfl rfl)
theorem dX4_init_12 : decode cX4_init 12 = .ok (.aload_n 0, 1) := dk_42 (dk_at dksX4_init_0 12 rfl rfl)
theorem dX4_init_13 : decode cX4_init 13 = .ok (.bipush 8, 2) := dk_16 8 (dk_at dksX4_init_0 13 rfl rfl)
theorem dX4_init_15 : decode cX4_init 15 = .ok (.newarray .char, 2) := dk_188_5 (dk_at dksX4_init_0 15 rfl rfl)
theorem dX4_init_17 : decode cX4_init 17 = .ok (.putfield 13, 3) := dk_181 0 13 (dk_at dksX4_init_0 17 rfl rfl)
theorem dX4_init_20 : decode cX4_init 20 = .ok (.aload_n 0, 1) := dk_42 (dk_at dksX4_init_0 20 rfl rfl)
theorem dX4_init_21 : decode cX4_init 21 = .ok (.iconst 1, 1) := dk_4 (dk_at dksX4_init_0 21 rfl rfl)
theorem dX4_init_22 : decode cX4_init 22 = .ok (.putfield 16, 3) := dk_181 0 16 (dk_at dksX4_init_1 0 rfl rfl)
theorem dX4_init_25 : decode cX4_init 25 = .ok (.aload_n 0, 1) := dk_42 (dk_at dksX4_init_1 3 rfl rfl)
theorem dX4_init_26 : decode cX4_init 26 = .ok (.sipush 168, 3) := dk_17 0 168 (dk_at dksX4_init_1 4 rfl rfl)
theorem dX4_init_29 : decode cX4_init 29 = .ok (.newarray .char, 2) := dk_188_5 (dk_at dksX4_init_1 7 rfl rfl)
theorem dX4_init_31 : decode cX4_init 31 = .ok (.putfield 20, 3) := dk_181 0 20 (dk_at dksX4_init_1 9 rfl rfl)
theorem dX4_init_34 : decode cX4_init 34 = .ok (.aload_n 0, 1) := dk_42 (dk_at dksX4_init_1 12 rfl rfl)
theorem dX4_init_35 : decode cX4_init 35 = .ok (.bipush 21, 2) := dk_16 21 (dk_at dksX4_init_1 13 rfl rfl)
theorem dX4_init_37 : decode cX4_init 37 = .ok (.newarray .int, 2) := dk_188_10 (dk_at dksX4_init_1 15 rfl rfl)
theorem dX4_init_39 : decode cX4_init 39 = .ok (.putfield 23, 3) := dk_181 0 23 (dk_at dksX4_init_1 17 rfl rfl)
theorem dX4_init_42 : decode cX4_init 42 = .ok (.aload_n 0, 1) := dk_42 (dk_at dksX4_init_1 20 rfl rfl)
theorem dX4_init_43 : decode cX4_init 43 = .ok (.bipush 40, 2) := dk_16 40 (dk_at dksX4_init_1 21 rfl rfl)
theorem dX4_init_45 : decode cX4_init 45 = .ok (.newarray .int, 2) := dk_188_10 (dk_at dksX4_init_2 0 rfl rfl)
theorem dX4_init_47 : decode cX4_init 47 = .ok (.putfield 27, 3) := dk_181 0 27 (dk_at dksX4_init_2 2 rfl rfl)
theorem dX4_init_50 : decode cX4_init 50 = .ok (.aload_n 0, 1) := dk_42 (dk_at dksX4_init_2 5 rfl rfl)
theorem dX4_init_51 : decode cX4_init 51 = .ok (.bipush 40, 2) := dk_16 40 (dk_at dksX4_init_2 6 rfl rfl)
theorem dX4_init_53 : decode cX4_init 53 = .ok (.newarray .int, 2) := dk_188_10 (dk_at dksX4_init_2 8 rfl rfl)
theorem dX4_init_55 : decode cX4_init 55 = .ok (.putfield 30, 3) := dk_181 0 30 (dk_at dksX4_init_2 10 rfl rfl)
theorem dX4_init_58 : decode cX4_init 58 = .ok (.aload_n 0, 1) := dk_42 (dk_at dksX4_init_2 13 rfl rfl)
theorem dX4_init_59 : decode cX4_init 59 = .ok (.bipush 40, 2) := dk_16 40 (dk_at dksX4_init_2 14 rfl rfl)
theorem dX4_init_61 : decode cX4_init 61 = .ok (.newarray .int, 2) := dk_188_10 (dk_at dksX4_init_2 16 rfl rfl)
theorem dX4_init_63 : decode cX4_init 63 = .ok (.putfield 33, 3) := dk_181 0 33 (dk_at dksX4_init_2 18 rfl rfl)
theorem dX4_init_66 : decode cX4_init 66 = .ok (.aload_n 0, 1) := dk_42 (dk_at dksX4_init_2 21 rfl rfl)
theorem dX4_init_67 : decode cX4_init 67 = .ok (.bipush 40, 2) := dk_16 40 (dk_at dksX4_init_2 22 rfl rfl)
theorem dX4_init_69 : decode cX4_init 69 = .ok (.newarray .boolean, 2) := dk_188_4 (dk_at dksX4_init_3 0 rfl rfl)
theorem dX4_init_71 : decode cX4_init 71 = .ok (.putfield 36, 3) := dk_181 0 36 (dk_at dksX4_init_3 2 rfl rfl)
theorem dX4_init_74 : decode cX4_init 74 = .ok (.aload_n 0, 1) := dk_42 (dk_at dksX4_init_3 5 rfl rfl)
theorem dX4_init_75 : decode cX4_init 75 = .ok (.bipush 30, 2) := dk_16 30 (dk_at dksX4_init_3 6 rfl rfl)
theorem dX4_init_77 : decode cX4_init 77 = .ok (.newarray .int, 2) := dk_188_10 (dk_at dksX4_init_3 8 rfl rfl)
theorem dX4_init_79 : decode cX4_init 79 = .ok (.putfield 40, 3) := dk_181 0 40 (dk_at dksX4_init_3 10 rfl rfl)
theorem dX4_init_82 : decode cX4_init 82 = .ok (.aload_n 0, 1) := dk_42 (dk_at dksX4_init_3 13 rfl rfl)
theorem dX4_init_83 : decode cX4_init 83 = .ok (.bipush 30, 2) := dk_16 30 (dk_at dksX4_init_3 14 rfl rfl)
theorem dX4_init_85 : decode cX4_init 85 = .ok (.newarray .int, 2) := dk_188_10 (dk_at dksX4_init_3 16 rfl rfl)
theorem dX4_init_87 : decode cX4_init 87 = .ok (.putfield 43, 3) := dk_181 0 43 (dk_at dksX4_init_3 18 rfl rfl)
theorem dX4_init_90 : decode cX4_init 90 = .ok (.aload_n 0, 1) := dk_42 (dk_at dksX4_init_3 21 rfl rfl)
theorem dX4_init_91 : decode cX4_init 91 = .ok (.bipush 30, 2) := dk_16 30 (dk_at dksX4_init_3 22 rfl rfl)
theorem dX4_init_93 : decode cX4_init 93 = .ok (.newarray .boolean, 2) := dk_188_4 (dk_at dksX4_init_4 0 rfl rfl)
theorem dX4_init_95 : decode cX4_init 95 = .ok (.putfield 46, 3) := dk_181 0 46 (dk_at dksX4_init_4 2 rfl rfl)
theorem dX4_init_98 : decode cX4_init 98 = .ok (.aload_n 0, 1) := dk_42 (dk_at dksX4_init_4 5 rfl rfl)
theorem dX4_init_99 : decode cX4_init 99 = .ok (.bipush 30, 2) := dk_16 30 (dk_at dksX4_init_4 6 rfl rfl)
theorem dX4_init_101 : decode cX4_init 101 = .ok (.newarray .int, 2) := dk_188_10 (dk_at dksX4_init_4 8 rfl rfl)
theorem dX4_init_103 : decode cX4_init 103 = .ok (.putfield 49, 3) := dk_181 0 49 (dk_at dksX4_init_4 10 rfl rfl)
theorem dX4_init_106 : decode cX4_init 106 = .ok (.aload_n 0, 1) := dk_42 (dk_at dksX4_init_4 13 rfl rfl)
theorem dX4_init_107 : decode cX4_init 107 = .ok (.bipush 30, 2) := dk_16 30 (dk_at dksX4_init_4 14 rfl rfl)
theorem dX4_init_109 : decode cX4_init 109 = .ok (.newarray .int, 2) := dk_188_10 (dk_at dksX4_init_4 16 rfl rfl)
theorem dX4_init_111 : decode cX4_init 111 = .ok (.putfield 52, 3) := dk_181 0 52 (dk_at dksX4_init_4 18 rfl rfl)
theorem dX4_init_114 : decode cX4_init 114 = .ok (.aload_n 0, 1) := dk_42 (dk_at dksX4_init_4 21 rfl rfl)
theorem dX4_init_115 : decode cX4_init 115 = .ok (.bipush 30, 2) := dk_16 30 (dk_at dksX4_init_4 22 rfl rfl)
theorem dX4_init_117 : decode cX4_init 117 = .ok (.newarray .int, 2) := dk_188_10 (dk_at dksX4_init_5 0 rfl rfl)
theorem dX4_init_119 : decode cX4_init 119 = .ok (.putfield 55, 3) := dk_181 0 55 (dk_at dksX4_init_5 2 rfl rfl)
theorem dX4_init_122 : decode cX4_init 122 = .ok (.aload_n 0, 1) := dk_42 (dk_at dksX4_init_5 5 rfl rfl)
theorem dX4_init_123 : decode cX4_init 123 = .ok (.bipush 30, 2) := dk_16 30 (dk_at dksX4_init_5 6 rfl rfl)
theorem dX4_init_125 : decode cX4_init 125 = .ok (.newarray .int, 2) := dk_188_10 (dk_at dksX4_init_5 8 rfl rfl)
theorem dX4_init_127 : decode cX4_init 127 = .ok (.putfield 58, 3) := dk_181 0 58 (dk_at dksX4_init_5 10 rfl rfl)
theorem dX4_init_130 : decode cX4_init 130 = .ok (.iconst 0, 1) := dk_3 (dk_at dksX4_init_5 13 rfl rfl)
theorem dX4_init_131 : decode cX4_init 131 = .ok (.istore_n 1, 1) := dk_60 (dk_at dksX4_init_5 14 rfl rfl)
theorem dX4_init_132 : decode cX4_init 132 = .ok (.iload_n 1, 1) := dk_27 (dk_at dksX4_init_5 15 rfl rfl)
theorem dX4_init_133 : decode cX4_init 133 = .ok (.bipush 30, 2) := dk_16 30 (dk_at dksX4_init_5 16 rfl rfl)
theorem dX4_init_135 : decode cX4_init 135 = .ok (.if_icmp .ge 37, 3) := dk_162 0 37 (dk_at dksX4_init_5 18 rfl rfl)
theorem dX4_init_138 : decode cX4_init 138 = .ok (.aload_n 0, 1) := dk_42 (dk_at dksX4_init_5 21 rfl rfl)
theorem dX4_init_139 : decode cX4_init 139 = .ok (.getfield 49, 3) := dk_180 0 49 (dk_at dksX4_init_6 0 rfl rfl)
theorem dX4_init_142 : decode cX4_init 142 = .ok (.iload_n 1, 1) := dk_27 (dk_at dksX4_init_6 3 rfl rfl)
theorem dX4_init_143 : decode cX4_init 143 = .ok (.iconst (-1), 1) := dk_2 (dk_at dksX4_init_6 4 rfl rfl)
theorem dX4_init_144 : decode cX4_init 144 = .ok (.iastore, 1) := dk_79 (dk_at dksX4_init_6 5 rfl rfl)
theorem dX4_init_145 : decode cX4_init 145 = .ok (.aload_n 0, 1) := dk_42 (dk_at dksX4_init_6 6 rfl rfl)
theorem dX4_init_146 : decode cX4_init 146 = .ok (.getfield 52, 3) := dk_180 0 52 (dk_at dksX4_init_6 7 rfl rfl)
theorem dX4_init_149 : decode cX4_init 149 = .ok (.iload_n 1, 1) := dk_27 (dk_at dksX4_init_6 10 rfl rfl)
theorem dX4_init_150 : decode cX4_init 150 = .ok (.iconst (-1), 1) := dk_2 (dk_at dksX4_init_6 11 rfl rfl)
theorem dX4_init_151 : decode cX4_init 151 = .ok (.iastore, 1) := dk_79 (dk_at dksX4_init_6 12 rfl rfl)
theorem dX4_init_152 : decode cX4_init 152 = .ok (.aload_n 0, 1) := dk_42 (dk_at dksX4_init_6 13 rfl rfl)
theorem dX4_init_153 : decode cX4_init 153 = .ok (.getfield 55, 3) := dk_180 0 55 (dk_at dksX4_init_6 14 rfl rfl)
theorem dX4_init_156 : decode cX4_init 156 = .ok (.iload_n 1, 1) := dk_27 (dk_at dksX4_init_6 17 rfl rfl)
theorem dX4_init_157 : decode cX4_init 157 = .ok (.iconst (-1), 1) := dk_2 (dk_at dksX4_init_6 18 rfl rfl)
theorem dX4_init_158 : decode cX4_init 158 = .ok (.iastore, 1) := dk_79 (dk_at dksX4_init_6 19 rfl rfl)
theorem dX4_init_159 : decode cX4_init 159 = .ok (.aload_n 0, 1) := dk_42 (dk_at dksX4_init_6 20 rfl rfl)
theorem dX4_init_160 : decode cX4_init 160 = .ok (.getfield 58, 3) := dk_180 0 58 (dk_at dksX4_init_6 21 rfl rfl)
theorem dX4_init_163 : decode cX4_init 163 = .ok (.iload_n 1, 1) := dk_27 (dk_at dksX4_init_7 0 rfl rfl)
theorem dX4_init_164 : decode cX4_init 164 = .ok (.iconst (-1), 1) := dk_2 (dk_at dksX4_init_7 1 rfl rfl)
theorem dX4_init_165 : decode cX4_init 165 = .ok (.iastore, 1) := dk_79 (dk_at dksX4_init_7 2 rfl rfl)
theorem dX4_init_166 : decode cX4_init 166 = .ok (.iinc 1 1, 3) := dk_132 1 1 (dk_at dksX4_init_7 3 rfl rfl)
theorem dX4_init_169 : decode cX4_init 169 = .ok (.goto (-37), 3) := dk_167 255 219 (dk_at dksX4_init_7 6 rfl rfl)
theorem dX4_init_172 : decode cX4_init 172 = .ok (.return_, 1) := dk_177 (dk_at dksX4_init_7 9 rfl rfl)
abbrev cX4_thrown : ByteArray := prog_7_method_2_code
def yX4_thrown : MethodName := ⟨RX4, "thrown", "()I"⟩
theorem dX4_thrown_0 : decode cX4_thrown 0 = .ok (.aload_n 0, 1) := by decide +kernel
theorem dX4_thrown_1 : decode cX4_thrown 1 = .ok (.getfield 61, 3) := by decide +kernel
theorem dX4_thrown_4 : decode cX4_thrown 4 = .ok (.ireturn, 1) := by decide +kernel
abbrev cX4_type : ByteArray := prog_7_method_6_code
def yX4_type : MethodName := ⟨RX4, "type", "(C)I"⟩
def dkwX4_type_2 : List UInt8 := [27, 85, 42, 89, 180, 0, 64, 4, 96, 181, 0, 64, 42, 180, 0, 64, 172]
abbrev dktX4_type_2 : List UInt8 := dkwX4_type_2 ++ []
def dkwX4_type_1 : List UInt8 := [160, 0, 7, 5, 167, 0, 4, 3, 182, 0, 67, 153, 0, 5, 3, 172, 42, 180, 0, 7, 42, 180, 0, 64]
abbrev dktX4_type_1 : List UInt8 := dkwX4_type_1 ++ dktX4_type_2
def dkwX4_type_0 : List UInt8 := [42, 27, 16, 97, 161, 0, 9, 27, 16, 122, 164, 0, 7, 4, 167, 0, 17, 42, 180, 0, 64, 16, 8]
abbrev dktX4_type_0 : List UInt8 := dkwX4_type_0 ++ dktX4_type_1
theorem dksX4_type_0 : cX4_type.data.toList.drop 0 = dktX4_type_0 := by decide +kernel
theorem dksX4_type_1 : cX4_type.data.toList.drop 23 = dktX4_type_1 := dk_seg dksX4_type_0 23 rfl rfl
theorem dksX4_type_2 : cX4_type.data.toList.drop 47 = dktX4_type_2 := dk_seg dksX4_type_1 24 rfl rfl
theorem dX4_type_0 : decode cX4_type 0 = .ok (.aload_n 0, 1) := dk_42 (dk_at dksX4_type_0 0 rfl rfl)
theorem dX4_type_1 : decode cX4_type 1 = .ok (.iload_n 1, 1) := dk_27 (dk_at dksX4_type_0 1 rfl rfl)
theorem dX4_type_2 : decode cX4_type 2 = .ok (.bipush 97, 2) := dk_16 97 (dk_at dksX4_type_0 2 rfl rfl)
theorem dX4_type_4 : decode cX4_type 4 = .ok (.if_icmp .lt 9, 3) := dk_161 0 9 (dk_at dksX4_type_0 4 rfl rfl)
theorem dX4_type_7 : decode cX4_type 7 = .ok (.iload_n 1, 1) := dk_27 (dk_at dksX4_type_0 7 rfl rfl)
theorem dX4_type_8 : decode cX4_type 8 = .ok (.bipush 122, 2) := dk_16 122 (dk_at dksX4_type_0 8 rfl rfl)
theorem dX4_type_10 : decode cX4_type 10 = .ok (.if_icmp .le 7, 3) := dk_164 0 7 (dk_at dksX4_type_0 10 rfl rfl)
theorem dX4_type_13 : decode cX4_type 13 = .ok (.iconst 1, 1) := dk_4 (dk_at dksX4_type_0 13 rfl rfl)
theorem dX4_type_14 : decode cX4_type 14 = .ok (.goto 17, 3) := dk_167 0 17 (dk_at dksX4_type_0 14 rfl rfl)
theorem dX4_type_17 : decode cX4_type 17 = .ok (.aload_n 0, 1) := dk_42 (dk_at dksX4_type_0 17 rfl rfl)
theorem dX4_type_18 : decode cX4_type 18 = .ok (.getfield 64, 3) := dk_180 0 64 (dk_at dksX4_type_0 18 rfl rfl)
theorem dX4_type_21 : decode cX4_type 21 = .ok (.bipush 8, 2) := dk_16 8 (dk_at dksX4_type_0 21 rfl rfl)
theorem dX4_type_23 : decode cX4_type 23 = .ok (.if_icmp .ne 7, 3) := dk_160 0 7 (dk_at dksX4_type_1 0 rfl rfl)
theorem dX4_type_26 : decode cX4_type 26 = .ok (.iconst 2, 1) := dk_5 (dk_at dksX4_type_1 3 rfl rfl)
theorem dX4_type_27 : decode cX4_type 27 = .ok (.goto 4, 3) := dk_167 0 4 (dk_at dksX4_type_1 4 rfl rfl)
theorem dX4_type_30 : decode cX4_type 30 = .ok (.iconst 0, 1) := dk_3 (dk_at dksX4_type_1 7 rfl rfl)
theorem dX4_type_31 : decode cX4_type 31 = .ok (.invokevirtual 67, 3) := dk_182 0 67 (dk_at dksX4_type_1 8 rfl rfl)
theorem dX4_type_34 : decode cX4_type 34 = .ok (.ifCond .eq 5, 3) := dk_153 0 5 (dk_at dksX4_type_1 11 rfl rfl)
theorem dX4_type_37 : decode cX4_type 37 = .ok (.iconst 0, 1) := dk_3 (dk_at dksX4_type_1 14 rfl rfl)
theorem dX4_type_38 : decode cX4_type 38 = .ok (.ireturn, 1) := dk_172 (dk_at dksX4_type_1 15 rfl rfl)
theorem dX4_type_39 : decode cX4_type 39 = .ok (.aload_n 0, 1) := dk_42 (dk_at dksX4_type_1 16 rfl rfl)
theorem dX4_type_40 : decode cX4_type 40 = .ok (.getfield 7, 3) := dk_180 0 7 (dk_at dksX4_type_1 17 rfl rfl)
theorem dX4_type_43 : decode cX4_type 43 = .ok (.aload_n 0, 1) := dk_42 (dk_at dksX4_type_1 20 rfl rfl)
theorem dX4_type_44 : decode cX4_type 44 = .ok (.getfield 64, 3) := dk_180 0 64 (dk_at dksX4_type_1 21 rfl rfl)
theorem dX4_type_47 : decode cX4_type 47 = .ok (.iload_n 1, 1) := dk_27 (dk_at dksX4_type_2 0 rfl rfl)
theorem dX4_type_48 : decode cX4_type 48 = .ok (.castore, 1) := dk_85 (dk_at dksX4_type_2 1 rfl rfl)
theorem dX4_type_49 : decode cX4_type 49 = .ok (.aload_n 0, 1) := dk_42 (dk_at dksX4_type_2 2 rfl rfl)
theorem dX4_type_50 : decode cX4_type 50 = .ok (.dup, 1) := dk_89 (dk_at dksX4_type_2 3 rfl rfl)
theorem dX4_type_51 : decode cX4_type 51 = .ok (.getfield 64, 3) := dk_180 0 64 (dk_at dksX4_type_2 4 rfl rfl)
theorem dX4_type_54 : decode cX4_type 54 = .ok (.iconst 1, 1) := dk_4 (dk_at dksX4_type_2 7 rfl rfl)
theorem dX4_type_55 : decode cX4_type 55 = .ok (.iadd, 1) := dk_96 (dk_at dksX4_type_2 8 rfl rfl)
theorem dX4_type_56 : decode cX4_type 56 = .ok (.putfield 64, 3) := dk_181 0 64 (dk_at dksX4_type_2 9 rfl rfl)
theorem dX4_type_59 : decode cX4_type 59 = .ok (.aload_n 0, 1) := dk_42 (dk_at dksX4_type_2 12 rfl rfl)
theorem dX4_type_60 : decode cX4_type 60 = .ok (.getfield 64, 3) := dk_180 0 64 (dk_at dksX4_type_2 13 rfl rfl)
theorem dX4_type_63 : decode cX4_type 63 = .ok (.ireturn, 1) := dk_172 (dk_at dksX4_type_2 16 rfl rfl)
abbrev cX4_refused : ByteArray := prog_7_method_3_code
def yX4_refused : MethodName := ⟨RX4, "refused", "(I)Z"⟩
def dkwX4_refused_0 : List UInt8 := [42, 27, 181, 0, 61, 27, 153, 0, 7, 4, 167, 0, 4, 3, 172]
abbrev dktX4_refused_0 : List UInt8 := dkwX4_refused_0 ++ []
theorem dksX4_refused_0 : cX4_refused.data.toList.drop 0 = dktX4_refused_0 := by decide +kernel
theorem dX4_refused_0 : decode cX4_refused 0 = .ok (.aload_n 0, 1) := dk_42 (dk_at dksX4_refused_0 0 rfl rfl)
theorem dX4_refused_1 : decode cX4_refused 1 = .ok (.iload_n 1, 1) := dk_27 (dk_at dksX4_refused_0 1 rfl rfl)
theorem dX4_refused_2 : decode cX4_refused 2 = .ok (.putfield 61, 3) := dk_181 0 61 (dk_at dksX4_refused_0 2 rfl rfl)
theorem dX4_refused_5 : decode cX4_refused 5 = .ok (.iload_n 1, 1) := dk_27 (dk_at dksX4_refused_0 5 rfl rfl)
theorem dX4_refused_6 : decode cX4_refused 6 = .ok (.ifCond .eq 7, 3) := dk_153 0 7 (dk_at dksX4_refused_0 6 rfl rfl)
theorem dX4_refused_9 : decode cX4_refused 9 = .ok (.iconst 1, 1) := dk_4 (dk_at dksX4_refused_0 9 rfl rfl)
theorem dX4_refused_10 : decode cX4_refused 10 = .ok (.goto 4, 3) := dk_167 0 4 (dk_at dksX4_refused_0 10 rfl rfl)
theorem dX4_refused_13 : decode cX4_refused 13 = .ok (.iconst 0, 1) := dk_3 (dk_at dksX4_refused_0 13 rfl rfl)
theorem dX4_refused_14 : decode cX4_refused 14 = .ok (.ireturn, 1) := dk_172 (dk_at dksX4_refused_0 14 rfl rfl)
abbrev cX4_back : ByteArray := prog_7_method_7_code
def yX4_back : MethodName := ⟨RX4, "back", "()I"⟩
def dkwX4_back_1 : List UInt8 := [180, 0, 64, 4, 100, 181, 0, 64, 42, 180, 0, 64, 172]
abbrev dktX4_back_1 : List UInt8 := dkwX4_back_1 ++ []
def dkwX4_back_0 : List UInt8 := [42, 42, 180, 0, 64, 154, 0, 7, 4, 167, 0, 4, 3, 182, 0, 67, 153, 0, 5, 3, 172, 42, 89]
abbrev dktX4_back_0 : List UInt8 := dkwX4_back_0 ++ dktX4_back_1
theorem dksX4_back_0 : cX4_back.data.toList.drop 0 = dktX4_back_0 := by decide +kernel
theorem dksX4_back_1 : cX4_back.data.toList.drop 23 = dktX4_back_1 := dk_seg dksX4_back_0 23 rfl rfl
theorem dX4_back_0 : decode cX4_back 0 = .ok (.aload_n 0, 1) := dk_42 (dk_at dksX4_back_0 0 rfl rfl)
theorem dX4_back_1 : decode cX4_back 1 = .ok (.aload_n 0, 1) := dk_42 (dk_at dksX4_back_0 1 rfl rfl)
theorem dX4_back_2 : decode cX4_back 2 = .ok (.getfield 64, 3) := dk_180 0 64 (dk_at dksX4_back_0 2 rfl rfl)
theorem dX4_back_5 : decode cX4_back 5 = .ok (.ifCond .ne 7, 3) := dk_154 0 7 (dk_at dksX4_back_0 5 rfl rfl)
theorem dX4_back_8 : decode cX4_back 8 = .ok (.iconst 1, 1) := dk_4 (dk_at dksX4_back_0 8 rfl rfl)
theorem dX4_back_9 : decode cX4_back 9 = .ok (.goto 4, 3) := dk_167 0 4 (dk_at dksX4_back_0 9 rfl rfl)
theorem dX4_back_12 : decode cX4_back 12 = .ok (.iconst 0, 1) := dk_3 (dk_at dksX4_back_0 12 rfl rfl)
theorem dX4_back_13 : decode cX4_back 13 = .ok (.invokevirtual 67, 3) := dk_182 0 67 (dk_at dksX4_back_0 13 rfl rfl)
theorem dX4_back_16 : decode cX4_back 16 = .ok (.ifCond .eq 5, 3) := dk_153 0 5 (dk_at dksX4_back_0 16 rfl rfl)
theorem dX4_back_19 : decode cX4_back 19 = .ok (.iconst 0, 1) := dk_3 (dk_at dksX4_back_0 19 rfl rfl)
theorem dX4_back_20 : decode cX4_back 20 = .ok (.ireturn, 1) := dk_172 (dk_at dksX4_back_0 20 rfl rfl)
theorem dX4_back_21 : decode cX4_back 21 = .ok (.aload_n 0, 1) := dk_42 (dk_at dksX4_back_0 21 rfl rfl)
theorem dX4_back_22 : decode cX4_back 22 = .ok (.dup, 1) := dk_89 (dk_at dksX4_back_0 22 rfl rfl)
theorem dX4_back_23 : decode cX4_back 23 = .ok (.getfield 64, 3) := dk_180 0 64 (dk_at dksX4_back_1 0 rfl rfl)
theorem dX4_back_26 : decode cX4_back 26 = .ok (.iconst 1, 1) := dk_4 (dk_at dksX4_back_1 3 rfl rfl)
theorem dX4_back_27 : decode cX4_back 27 = .ok (.isub, 1) := dk_100 (dk_at dksX4_back_1 4 rfl rfl)
theorem dX4_back_28 : decode cX4_back 28 = .ok (.putfield 64, 3) := dk_181 0 64 (dk_at dksX4_back_1 5 rfl rfl)
theorem dX4_back_31 : decode cX4_back 31 = .ok (.aload_n 0, 1) := dk_42 (dk_at dksX4_back_1 8 rfl rfl)
theorem dX4_back_32 : decode cX4_back 32 = .ok (.getfield 64, 3) := dk_180 0 64 (dk_at dksX4_back_1 9 rfl rfl)
theorem dX4_back_35 : decode cX4_back 35 = .ok (.ireturn, 1) := dk_172 (dk_at dksX4_back_1 12 rfl rfl)
abbrev cX4_clearPath : ByteArray := prog_7_method_8_code
def yX4_clearPath : MethodName := ⟨RX4, "clearPath", "()I"⟩
def dkwX4_clearPath_0 : List UInt8 := [42, 180, 0, 64, 60, 42, 3, 181, 0, 64, 42, 27, 182, 0, 71, 172]
abbrev dktX4_clearPath_0 : List UInt8 := dkwX4_clearPath_0 ++ []
theorem dksX4_clearPath_0 : cX4_clearPath.data.toList.drop 0 = dktX4_clearPath_0 := by decide +kernel
theorem dX4_clearPath_0 : decode cX4_clearPath 0 = .ok (.aload_n 0, 1) := dk_42 (dk_at dksX4_clearPath_0 0 rfl rfl)
theorem dX4_clearPath_1 : decode cX4_clearPath 1 = .ok (.getfield 64, 3) := dk_180 0 64 (dk_at dksX4_clearPath_0 1 rfl rfl)
theorem dX4_clearPath_4 : decode cX4_clearPath 4 = .ok (.istore_n 1, 1) := dk_60 (dk_at dksX4_clearPath_0 4 rfl rfl)
theorem dX4_clearPath_5 : decode cX4_clearPath 5 = .ok (.aload_n 0, 1) := dk_42 (dk_at dksX4_clearPath_0 5 rfl rfl)
theorem dX4_clearPath_6 : decode cX4_clearPath 6 = .ok (.iconst 0, 1) := dk_3 (dk_at dksX4_clearPath_0 6 rfl rfl)
theorem dX4_clearPath_7 : decode cX4_clearPath 7 = .ok (.putfield 64, 3) := dk_181 0 64 (dk_at dksX4_clearPath_0 7 rfl rfl)
theorem dX4_clearPath_10 : decode cX4_clearPath 10 = .ok (.aload_n 0, 1) := dk_42 (dk_at dksX4_clearPath_0 10 rfl rfl)
theorem dX4_clearPath_11 : decode cX4_clearPath 11 = .ok (.iload_n 1, 1) := dk_27 (dk_at dksX4_clearPath_0 11 rfl rfl)
theorem dX4_clearPath_12 : decode cX4_clearPath 12 = .ok (.invokevirtual 71, 3) := dk_182 0 71 (dk_at dksX4_clearPath_0 12 rfl rfl)
theorem dX4_clearPath_15 : decode cX4_clearPath 15 = .ok (.ireturn, 1) := dk_172 (dk_at dksX4_clearPath_0 15 rfl rfl)
abbrev cX4_fine : ByteArray := prog_7_method_4_code
def yX4_fine : MethodName := ⟨RX4, "fine", "(I)I"⟩
def dkwX4_fine_0 : List UInt8 := [42, 3, 181, 0, 61, 27, 172]
abbrev dktX4_fine_0 : List UInt8 := dkwX4_fine_0 ++ []
theorem dksX4_fine_0 : cX4_fine.data.toList.drop 0 = dktX4_fine_0 := by decide +kernel
theorem dX4_fine_0 : decode cX4_fine 0 = .ok (.aload_n 0, 1) := dk_42 (dk_at dksX4_fine_0 0 rfl rfl)
theorem dX4_fine_1 : decode cX4_fine 1 = .ok (.iconst 0, 1) := dk_3 (dk_at dksX4_fine_0 1 rfl rfl)
theorem dX4_fine_2 : decode cX4_fine 2 = .ok (.putfield 61, 3) := dk_181 0 61 (dk_at dksX4_fine_0 2 rfl rfl)
theorem dX4_fine_5 : decode cX4_fine 5 = .ok (.iload_n 1, 1) := dk_27 (dk_at dksX4_fine_0 5 rfl rfl)
theorem dX4_fine_6 : decode cX4_fine 6 = .ok (.ireturn, 1) := dk_172 (dk_at dksX4_fine_0 6 rfl rfl)
abbrev cX4_makeProject : ByteArray := prog_7_method_10_code
def yX4_makeProject : MethodName := ⟨RX4, "makeProject", "()I"⟩
def dkwX4_makeProject_4 : List UInt8 := [180, 0, 64, 79, 42, 89, 180, 0, 16, 4, 96, 181, 0, 16, 42, 180, 0, 16, 4, 100, 172]
abbrev dktX4_makeProject_4 : List UInt8 := dkwX4_makeProject_4 ++ []
def dkwX4_makeProject_3 : List UInt8 := [42, 180, 0, 7, 27, 52, 85, 132, 1, 1, 167, 255, 225, 42, 180, 0, 23, 42, 180, 0, 16, 42]
abbrev dktX4_makeProject_3 : List UInt8 := dkwX4_makeProject_3 ++ dktX4_makeProject_4
def dkwX4_makeProject_2 : List UInt8 := [172, 3, 60, 27, 42, 180, 0, 64, 162, 0, 29, 42, 180, 0, 20, 16, 8, 42, 180, 0, 16, 104, 27, 96]
abbrev dktX4_makeProject_2 : List UInt8 := dkwX4_makeProject_2 ++ dktX4_makeProject_3
def dkwX4_makeProject_1 : List UInt8 := [159, 0, 12, 42, 180, 0, 16, 16, 21, 160, 0, 7, 4, 167, 0, 4, 3, 182, 0, 67, 153, 0, 5, 3]
abbrev dktX4_makeProject_1 : List UInt8 := dkwX4_makeProject_1 ++ dktX4_makeProject_2
def dkwX4_makeProject_0 : List UInt8 := [42, 42, 42, 180, 0, 64, 182, 0, 75, 2, 160, 0, 26, 42, 42, 180, 0, 64, 4, 100, 182, 0, 75, 2]
abbrev dktX4_makeProject_0 : List UInt8 := dkwX4_makeProject_0 ++ dktX4_makeProject_1
theorem dksX4_makeProject_0 : cX4_makeProject.data.toList.drop 0 = dktX4_makeProject_0 := by decide +kernel
theorem dksX4_makeProject_1 : cX4_makeProject.data.toList.drop 24 = dktX4_makeProject_1 := dk_seg dksX4_makeProject_0 24 rfl rfl
theorem dksX4_makeProject_2 : cX4_makeProject.data.toList.drop 48 = dktX4_makeProject_2 := dk_seg dksX4_makeProject_1 24 rfl rfl
theorem dksX4_makeProject_3 : cX4_makeProject.data.toList.drop 72 = dktX4_makeProject_3 := dk_seg dksX4_makeProject_2 24 rfl rfl
theorem dksX4_makeProject_4 : cX4_makeProject.data.toList.drop 94 = dktX4_makeProject_4 := dk_seg dksX4_makeProject_3 22 rfl rfl
theorem dX4_makeProject_0 : decode cX4_makeProject 0 = .ok (.aload_n 0, 1) := dk_42 (dk_at dksX4_makeProject_0 0 rfl rfl)
theorem dX4_makeProject_1 : decode cX4_makeProject 1 = .ok (.aload_n 0, 1) := dk_42 (dk_at dksX4_makeProject_0 1 rfl rfl)
theorem dX4_makeProject_2 : decode cX4_makeProject 2 = .ok (.aload_n 0, 1) := dk_42 (dk_at dksX4_makeProject_0 2 rfl rfl)
theorem dX4_makeProject_3 : decode cX4_makeProject 3 = .ok (.getfield 64, 3) := dk_180 0 64 (dk_at dksX4_makeProject_0 3 rfl rfl)
theorem dX4_makeProject_6 : decode cX4_makeProject 6 = .ok (.invokevirtual 75, 3) := dk_182 0 75 (dk_at dksX4_makeProject_0 6 rfl rfl)
theorem dX4_makeProject_9 : decode cX4_makeProject 9 = .ok (.iconst (-1), 1) := dk_2 (dk_at dksX4_makeProject_0 9 rfl rfl)
theorem dX4_makeProject_10 : decode cX4_makeProject 10 = .ok (.if_icmp .ne 26, 3) := dk_160 0 26 (dk_at dksX4_makeProject_0 10 rfl rfl)
theorem dX4_makeProject_13 : decode cX4_makeProject 13 = .ok (.aload_n 0, 1) := dk_42 (dk_at dksX4_makeProject_0 13 rfl rfl)
theorem dX4_makeProject_14 : decode cX4_makeProject 14 = .ok (.aload_n 0, 1) := dk_42 (dk_at dksX4_makeProject_0 14 rfl rfl)
theorem dX4_makeProject_15 : decode cX4_makeProject 15 = .ok (.getfield 64, 3) := dk_180 0 64 (dk_at dksX4_makeProject_0 15 rfl rfl)
theorem dX4_makeProject_18 : decode cX4_makeProject 18 = .ok (.iconst 1, 1) := dk_4 (dk_at dksX4_makeProject_0 18 rfl rfl)
theorem dX4_makeProject_19 : decode cX4_makeProject 19 = .ok (.isub, 1) := dk_100 (dk_at dksX4_makeProject_0 19 rfl rfl)
theorem dX4_makeProject_20 : decode cX4_makeProject 20 = .ok (.invokevirtual 75, 3) := dk_182 0 75 (dk_at dksX4_makeProject_0 20 rfl rfl)
theorem dX4_makeProject_23 : decode cX4_makeProject 23 = .ok (.iconst (-1), 1) := dk_2 (dk_at dksX4_makeProject_0 23 rfl rfl)
theorem dX4_makeProject_24 : decode cX4_makeProject 24 = .ok (.if_icmp .eq 12, 3) := dk_159 0 12 (dk_at dksX4_makeProject_1 0 rfl rfl)
theorem dX4_makeProject_27 : decode cX4_makeProject 27 = .ok (.aload_n 0, 1) := dk_42 (dk_at dksX4_makeProject_1 3 rfl rfl)
theorem dX4_makeProject_28 : decode cX4_makeProject 28 = .ok (.getfield 16, 3) := dk_180 0 16 (dk_at dksX4_makeProject_1 4 rfl rfl)
theorem dX4_makeProject_31 : decode cX4_makeProject 31 = .ok (.bipush 21, 2) := dk_16 21 (dk_at dksX4_makeProject_1 7 rfl rfl)
theorem dX4_makeProject_33 : decode cX4_makeProject 33 = .ok (.if_icmp .ne 7, 3) := dk_160 0 7 (dk_at dksX4_makeProject_1 9 rfl rfl)
theorem dX4_makeProject_36 : decode cX4_makeProject 36 = .ok (.iconst 1, 1) := dk_4 (dk_at dksX4_makeProject_1 12 rfl rfl)
theorem dX4_makeProject_37 : decode cX4_makeProject 37 = .ok (.goto 4, 3) := dk_167 0 4 (dk_at dksX4_makeProject_1 13 rfl rfl)
theorem dX4_makeProject_40 : decode cX4_makeProject 40 = .ok (.iconst 0, 1) := dk_3 (dk_at dksX4_makeProject_1 16 rfl rfl)
theorem dX4_makeProject_41 : decode cX4_makeProject 41 = .ok (.invokevirtual 67, 3) := dk_182 0 67 (dk_at dksX4_makeProject_1 17 rfl rfl)
theorem dX4_makeProject_44 : decode cX4_makeProject 44 = .ok (.ifCond .eq 5, 3) := dk_153 0 5 (dk_at dksX4_makeProject_1 20 rfl rfl)
theorem dX4_makeProject_47 : decode cX4_makeProject 47 = .ok (.iconst 0, 1) := dk_3 (dk_at dksX4_makeProject_1 23 rfl rfl)
theorem dX4_makeProject_48 : decode cX4_makeProject 48 = .ok (.ireturn, 1) := dk_172 (dk_at dksX4_makeProject_2 0 rfl rfl)
theorem dX4_makeProject_49 : decode cX4_makeProject 49 = .ok (.iconst 0, 1) := dk_3 (dk_at dksX4_makeProject_2 1 rfl rfl)
theorem dX4_makeProject_50 : decode cX4_makeProject 50 = .ok (.istore_n 1, 1) := dk_60 (dk_at dksX4_makeProject_2 2 rfl rfl)
theorem dX4_makeProject_51 : decode cX4_makeProject 51 = .ok (.iload_n 1, 1) := dk_27 (dk_at dksX4_makeProject_2 3 rfl rfl)
theorem dX4_makeProject_52 : decode cX4_makeProject 52 = .ok (.aload_n 0, 1) := dk_42 (dk_at dksX4_makeProject_2 4 rfl rfl)
theorem dX4_makeProject_53 : decode cX4_makeProject 53 = .ok (.getfield 64, 3) := dk_180 0 64 (dk_at dksX4_makeProject_2 5 rfl rfl)
theorem dX4_makeProject_56 : decode cX4_makeProject 56 = .ok (.if_icmp .ge 29, 3) := dk_162 0 29 (dk_at dksX4_makeProject_2 8 rfl rfl)
theorem dX4_makeProject_59 : decode cX4_makeProject 59 = .ok (.aload_n 0, 1) := dk_42 (dk_at dksX4_makeProject_2 11 rfl rfl)
theorem dX4_makeProject_60 : decode cX4_makeProject 60 = .ok (.getfield 20, 3) := dk_180 0 20 (dk_at dksX4_makeProject_2 12 rfl rfl)
theorem dX4_makeProject_63 : decode cX4_makeProject 63 = .ok (.bipush 8, 2) := dk_16 8 (dk_at dksX4_makeProject_2 15 rfl rfl)
theorem dX4_makeProject_65 : decode cX4_makeProject 65 = .ok (.aload_n 0, 1) := dk_42 (dk_at dksX4_makeProject_2 17 rfl rfl)
theorem dX4_makeProject_66 : decode cX4_makeProject 66 = .ok (.getfield 16, 3) := dk_180 0 16 (dk_at dksX4_makeProject_2 18 rfl rfl)
theorem dX4_makeProject_69 : decode cX4_makeProject 69 = .ok (.imul, 1) := dk_104 (dk_at dksX4_makeProject_2 21 rfl rfl)
theorem dX4_makeProject_70 : decode cX4_makeProject 70 = .ok (.iload_n 1, 1) := dk_27 (dk_at dksX4_makeProject_2 22 rfl rfl)
theorem dX4_makeProject_71 : decode cX4_makeProject 71 = .ok (.iadd, 1) := dk_96 (dk_at dksX4_makeProject_2 23 rfl rfl)
theorem dX4_makeProject_72 : decode cX4_makeProject 72 = .ok (.aload_n 0, 1) := dk_42 (dk_at dksX4_makeProject_3 0 rfl rfl)
theorem dX4_makeProject_73 : decode cX4_makeProject 73 = .ok (.getfield 7, 3) := dk_180 0 7 (dk_at dksX4_makeProject_3 1 rfl rfl)
theorem dX4_makeProject_76 : decode cX4_makeProject 76 = .ok (.iload_n 1, 1) := dk_27 (dk_at dksX4_makeProject_3 4 rfl rfl)
theorem dX4_makeProject_77 : decode cX4_makeProject 77 = .ok (.caload, 1) := dk_52 (dk_at dksX4_makeProject_3 5 rfl rfl)
theorem dX4_makeProject_78 : decode cX4_makeProject 78 = .ok (.castore, 1) := dk_85 (dk_at dksX4_makeProject_3 6 rfl rfl)
theorem dX4_makeProject_79 : decode cX4_makeProject 79 = .ok (.iinc 1 1, 3) := dk_132 1 1 (dk_at dksX4_makeProject_3 7 rfl rfl)
theorem dX4_makeProject_82 : decode cX4_makeProject 82 = .ok (.goto (-31), 3) := dk_167 255 225 (dk_at dksX4_makeProject_3 10 rfl rfl)
theorem dX4_makeProject_85 : decode cX4_makeProject 85 = .ok (.aload_n 0, 1) := dk_42 (dk_at dksX4_makeProject_3 13 rfl rfl)
theorem dX4_makeProject_86 : decode cX4_makeProject 86 = .ok (.getfield 23, 3) := dk_180 0 23 (dk_at dksX4_makeProject_3 14 rfl rfl)
theorem dX4_makeProject_89 : decode cX4_makeProject 89 = .ok (.aload_n 0, 1) := dk_42 (dk_at dksX4_makeProject_3 17 rfl rfl)
theorem dX4_makeProject_90 : decode cX4_makeProject 90 = .ok (.getfield 16, 3) := dk_180 0 16 (dk_at dksX4_makeProject_3 18 rfl rfl)
theorem dX4_makeProject_93 : decode cX4_makeProject 93 = .ok (.aload_n 0, 1) := dk_42 (dk_at dksX4_makeProject_3 21 rfl rfl)
theorem dX4_makeProject_94 : decode cX4_makeProject 94 = .ok (.getfield 64, 3) := dk_180 0 64 (dk_at dksX4_makeProject_4 0 rfl rfl)
theorem dX4_makeProject_97 : decode cX4_makeProject 97 = .ok (.iastore, 1) := dk_79 (dk_at dksX4_makeProject_4 3 rfl rfl)
theorem dX4_makeProject_98 : decode cX4_makeProject 98 = .ok (.aload_n 0, 1) := dk_42 (dk_at dksX4_makeProject_4 4 rfl rfl)
theorem dX4_makeProject_99 : decode cX4_makeProject 99 = .ok (.dup, 1) := dk_89 (dk_at dksX4_makeProject_4 5 rfl rfl)
theorem dX4_makeProject_100 : decode cX4_makeProject 100 = .ok (.getfield 16, 3) := dk_180 0 16 (dk_at dksX4_makeProject_4 6 rfl rfl)
theorem dX4_makeProject_103 : decode cX4_makeProject 103 = .ok (.iconst 1, 1) := dk_4 (dk_at dksX4_makeProject_4 9 rfl rfl)
theorem dX4_makeProject_104 : decode cX4_makeProject 104 = .ok (.iadd, 1) := dk_96 (dk_at dksX4_makeProject_4 10 rfl rfl)
theorem dX4_makeProject_105 : decode cX4_makeProject 105 = .ok (.putfield 16, 3) := dk_181 0 16 (dk_at dksX4_makeProject_4 11 rfl rfl)
theorem dX4_makeProject_108 : decode cX4_makeProject 108 = .ok (.aload_n 0, 1) := dk_42 (dk_at dksX4_makeProject_4 14 rfl rfl)
theorem dX4_makeProject_109 : decode cX4_makeProject 109 = .ok (.getfield 16, 3) := dk_180 0 16 (dk_at dksX4_makeProject_4 15 rfl rfl)
theorem dX4_makeProject_112 : decode cX4_makeProject 112 = .ok (.iconst 1, 1) := dk_4 (dk_at dksX4_makeProject_4 18 rfl rfl)
theorem dX4_makeProject_113 : decode cX4_makeProject 113 = .ok (.isub, 1) := dk_100 (dk_at dksX4_makeProject_4 19 rfl rfl)
theorem dX4_makeProject_114 : decode cX4_makeProject 114 = .ok (.ireturn, 1) := dk_172 (dk_at dksX4_makeProject_4 20 rfl rfl)
abbrev cX4_find : ByteArray := prog_7_method_9_code
def yX4_find : MethodName := ⟨RX4, "find", "(I)I"⟩
def dkwX4_find_4 : List UInt8 := [167, 255, 168, 28, 172]
abbrev dktX4_find_4 : List UInt8 := dkwX4_find_4 ++ []
def dkwX4_find_3 : List UInt8 := [54, 4, 132, 5, 1, 167, 255, 213, 21, 4, 153, 0, 7, 29, 167, 0, 4, 28, 61, 132, 3, 1]
abbrev dktX4_find_3 : List UInt8 := dkwX4_find_3 ++ dktX4_find_4
def dkwX4_find_2 : List UInt8 := [16, 8, 29, 104, 21, 5, 96, 52, 42, 180, 0, 7, 21, 5, 52, 160, 0, 7, 4, 167, 0, 4, 3]
abbrev dktX4_find_2 : List UInt8 := dkwX4_find_2 ++ dktX4_find_3
def dkwX4_find_1 : List UInt8 := [167, 0, 4, 3, 54, 4, 3, 54, 5, 21, 5, 27, 162, 0, 43, 21, 4, 153, 0, 38, 42, 180, 0, 20]
abbrev dktX4_find_1 : List UInt8 := dkwX4_find_1 ++ dktX4_find_2
def dkwX4_find_0 : List UInt8 := [2, 61, 3, 62, 29, 42, 180, 0, 16, 162, 0, 86, 42, 180, 0, 23, 29, 46, 27, 160, 0, 7, 4]
abbrev dktX4_find_0 : List UInt8 := dkwX4_find_0 ++ dktX4_find_1
theorem dksX4_find_0 : cX4_find.data.toList.drop 0 = dktX4_find_0 := by decide +kernel
theorem dksX4_find_1 : cX4_find.data.toList.drop 23 = dktX4_find_1 := dk_seg dksX4_find_0 23 rfl rfl
theorem dksX4_find_2 : cX4_find.data.toList.drop 47 = dktX4_find_2 := dk_seg dksX4_find_1 24 rfl rfl
theorem dksX4_find_3 : cX4_find.data.toList.drop 70 = dktX4_find_3 := dk_seg dksX4_find_2 23 rfl rfl
theorem dksX4_find_4 : cX4_find.data.toList.drop 92 = dktX4_find_4 := dk_seg dksX4_find_3 22 rfl rfl
theorem dX4_find_0 : decode cX4_find 0 = .ok (.iconst (-1), 1) := dk_2 (dk_at dksX4_find_0 0 rfl rfl)
theorem dX4_find_1 : decode cX4_find 1 = .ok (.istore_n 2, 1) := dk_61 (dk_at dksX4_find_0 1 rfl rfl)
theorem dX4_find_2 : decode cX4_find 2 = .ok (.iconst 0, 1) := dk_3 (dk_at dksX4_find_0 2 rfl rfl)
theorem dX4_find_3 : decode cX4_find 3 = .ok (.istore_n 3, 1) := dk_62 (dk_at dksX4_find_0 3 rfl rfl)
theorem dX4_find_4 : decode cX4_find 4 = .ok (.iload_n 3, 1) := dk_29 (dk_at dksX4_find_0 4 rfl rfl)
theorem dX4_find_5 : decode cX4_find 5 = .ok (.aload_n 0, 1) := dk_42 (dk_at dksX4_find_0 5 rfl rfl)
theorem dX4_find_6 : decode cX4_find 6 = .ok (.getfield 16, 3) := dk_180 0 16 (dk_at dksX4_find_0 6 rfl rfl)
theorem dX4_find_9 : decode cX4_find 9 = .ok (.if_icmp .ge 86, 3) := dk_162 0 86 (dk_at dksX4_find_0 9 rfl rfl)
theorem dX4_find_12 : decode cX4_find 12 = .ok (.aload_n 0, 1) := dk_42 (dk_at dksX4_find_0 12 rfl rfl)
theorem dX4_find_13 : decode cX4_find 13 = .ok (.getfield 23, 3) := dk_180 0 23 (dk_at dksX4_find_0 13 rfl rfl)
theorem dX4_find_16 : decode cX4_find 16 = .ok (.iload_n 3, 1) := dk_29 (dk_at dksX4_find_0 16 rfl rfl)
theorem dX4_find_17 : decode cX4_find 17 = .ok (.iaload, 1) := dk_46 (dk_at dksX4_find_0 17 rfl rfl)
theorem dX4_find_18 : decode cX4_find 18 = .ok (.iload_n 1, 1) := dk_27 (dk_at dksX4_find_0 18 rfl rfl)
theorem dX4_find_19 : decode cX4_find 19 = .ok (.if_icmp .ne 7, 3) := dk_160 0 7 (dk_at dksX4_find_0 19 rfl rfl)
theorem dX4_find_22 : decode cX4_find 22 = .ok (.iconst 1, 1) := dk_4 (dk_at dksX4_find_0 22 rfl rfl)
theorem dX4_find_23 : decode cX4_find 23 = .ok (.goto 4, 3) := dk_167 0 4 (dk_at dksX4_find_1 0 rfl rfl)
theorem dX4_find_26 : decode cX4_find 26 = .ok (.iconst 0, 1) := dk_3 (dk_at dksX4_find_1 3 rfl rfl)
theorem dX4_find_27 : decode cX4_find 27 = .ok (.istore 4, 2) := dk_54 4 (dk_at dksX4_find_1 4 rfl rfl)
theorem dX4_find_29 : decode cX4_find 29 = .ok (.iconst 0, 1) := dk_3 (dk_at dksX4_find_1 6 rfl rfl)
theorem dX4_find_30 : decode cX4_find 30 = .ok (.istore 5, 2) := dk_54 5 (dk_at dksX4_find_1 7 rfl rfl)
theorem dX4_find_32 : decode cX4_find 32 = .ok (.iload 5, 2) := dk_21 5 (dk_at dksX4_find_1 9 rfl rfl)
theorem dX4_find_34 : decode cX4_find 34 = .ok (.iload_n 1, 1) := dk_27 (dk_at dksX4_find_1 11 rfl rfl)
theorem dX4_find_35 : decode cX4_find 35 = .ok (.if_icmp .ge 43, 3) := dk_162 0 43 (dk_at dksX4_find_1 12 rfl rfl)
theorem dX4_find_38 : decode cX4_find 38 = .ok (.iload 4, 2) := dk_21 4 (dk_at dksX4_find_1 15 rfl rfl)
theorem dX4_find_40 : decode cX4_find 40 = .ok (.ifCond .eq 38, 3) := dk_153 0 38 (dk_at dksX4_find_1 17 rfl rfl)
theorem dX4_find_43 : decode cX4_find 43 = .ok (.aload_n 0, 1) := dk_42 (dk_at dksX4_find_1 20 rfl rfl)
theorem dX4_find_44 : decode cX4_find 44 = .ok (.getfield 20, 3) := dk_180 0 20 (dk_at dksX4_find_1 21 rfl rfl)
theorem dX4_find_47 : decode cX4_find 47 = .ok (.bipush 8, 2) := dk_16 8 (dk_at dksX4_find_2 0 rfl rfl)
theorem dX4_find_49 : decode cX4_find 49 = .ok (.iload_n 3, 1) := dk_29 (dk_at dksX4_find_2 2 rfl rfl)
theorem dX4_find_50 : decode cX4_find 50 = .ok (.imul, 1) := dk_104 (dk_at dksX4_find_2 3 rfl rfl)
theorem dX4_find_51 : decode cX4_find 51 = .ok (.iload 5, 2) := dk_21 5 (dk_at dksX4_find_2 4 rfl rfl)
theorem dX4_find_53 : decode cX4_find 53 = .ok (.iadd, 1) := dk_96 (dk_at dksX4_find_2 6 rfl rfl)
theorem dX4_find_54 : decode cX4_find 54 = .ok (.caload, 1) := dk_52 (dk_at dksX4_find_2 7 rfl rfl)
theorem dX4_find_55 : decode cX4_find 55 = .ok (.aload_n 0, 1) := dk_42 (dk_at dksX4_find_2 8 rfl rfl)
theorem dX4_find_56 : decode cX4_find 56 = .ok (.getfield 7, 3) := dk_180 0 7 (dk_at dksX4_find_2 9 rfl rfl)
theorem dX4_find_59 : decode cX4_find 59 = .ok (.iload 5, 2) := dk_21 5 (dk_at dksX4_find_2 12 rfl rfl)
theorem dX4_find_61 : decode cX4_find 61 = .ok (.caload, 1) := dk_52 (dk_at dksX4_find_2 14 rfl rfl)
theorem dX4_find_62 : decode cX4_find 62 = .ok (.if_icmp .ne 7, 3) := dk_160 0 7 (dk_at dksX4_find_2 15 rfl rfl)
theorem dX4_find_65 : decode cX4_find 65 = .ok (.iconst 1, 1) := dk_4 (dk_at dksX4_find_2 18 rfl rfl)
theorem dX4_find_66 : decode cX4_find 66 = .ok (.goto 4, 3) := dk_167 0 4 (dk_at dksX4_find_2 19 rfl rfl)
theorem dX4_find_69 : decode cX4_find 69 = .ok (.iconst 0, 1) := dk_3 (dk_at dksX4_find_2 22 rfl rfl)
theorem dX4_find_70 : decode cX4_find 70 = .ok (.istore 4, 2) := dk_54 4 (dk_at dksX4_find_3 0 rfl rfl)
theorem dX4_find_72 : decode cX4_find 72 = .ok (.iinc 5 1, 3) := dk_132 5 1 (dk_at dksX4_find_3 2 rfl rfl)
theorem dX4_find_75 : decode cX4_find 75 = .ok (.goto (-43), 3) := dk_167 255 213 (dk_at dksX4_find_3 5 rfl rfl)
theorem dX4_find_78 : decode cX4_find 78 = .ok (.iload 4, 2) := dk_21 4 (dk_at dksX4_find_3 8 rfl rfl)
theorem dX4_find_80 : decode cX4_find 80 = .ok (.ifCond .eq 7, 3) := dk_153 0 7 (dk_at dksX4_find_3 10 rfl rfl)
theorem dX4_find_83 : decode cX4_find 83 = .ok (.iload_n 3, 1) := dk_29 (dk_at dksX4_find_3 13 rfl rfl)
theorem dX4_find_84 : decode cX4_find 84 = .ok (.goto 4, 3) := dk_167 0 4 (dk_at dksX4_find_3 14 rfl rfl)
theorem dX4_find_87 : decode cX4_find 87 = .ok (.iload_n 2, 1) := dk_28 (dk_at dksX4_find_3 17 rfl rfl)
theorem dX4_find_88 : decode cX4_find 88 = .ok (.istore_n 2, 1) := dk_61 (dk_at dksX4_find_3 18 rfl rfl)
theorem dX4_find_89 : decode cX4_find 89 = .ok (.iinc 3 1, 3) := dk_132 3 1 (dk_at dksX4_find_3 19 rfl rfl)
theorem dX4_find_92 : decode cX4_find 92 = .ok (.goto (-88), 3) := dk_167 255 168 (dk_at dksX4_find_4 0 rfl rfl)
theorem dX4_find_95 : decode cX4_find 95 = .ok (.iload_n 2, 1) := dk_28 (dk_at dksX4_find_4 3 rfl rfl)
theorem dX4_find_96 : decode cX4_find 96 = .ok (.ireturn, 1) := dk_172 (dk_at dksX4_find_4 4 rfl rfl)
abbrev cX4_findProject : ByteArray := prog_7_method_11_code
def yX4_findProject : MethodName := ⟨RX4, "findProject", "()I"⟩
def dkwX4_findProject_0 : List UInt8 := [42, 42, 42, 180, 0, 64, 182, 0, 75, 182, 0, 71, 172]
abbrev dktX4_findProject_0 : List UInt8 := dkwX4_findProject_0 ++ []
theorem dksX4_findProject_0 : cX4_findProject.data.toList.drop 0 = dktX4_findProject_0 := by decide +kernel
theorem dX4_findProject_0 : decode cX4_findProject 0 = .ok (.aload_n 0, 1) := dk_42 (dk_at dksX4_findProject_0 0 rfl rfl)
theorem dX4_findProject_1 : decode cX4_findProject 1 = .ok (.aload_n 0, 1) := dk_42 (dk_at dksX4_findProject_0 1 rfl rfl)
theorem dX4_findProject_2 : decode cX4_findProject 2 = .ok (.aload_n 0, 1) := dk_42 (dk_at dksX4_findProject_0 2 rfl rfl)
theorem dX4_findProject_3 : decode cX4_findProject 3 = .ok (.getfield 64, 3) := dk_180 0 64 (dk_at dksX4_findProject_0 3 rfl rfl)
theorem dX4_findProject_6 : decode cX4_findProject 6 = .ok (.invokevirtual 75, 3) := dk_182 0 75 (dk_at dksX4_findProject_0 6 rfl rfl)
theorem dX4_findProject_9 : decode cX4_findProject 9 = .ok (.invokevirtual 71, 3) := dk_182 0 71 (dk_at dksX4_findProject_0 9 rfl rfl)
theorem dX4_findProject_12 : decode cX4_findProject 12 = .ok (.ireturn, 1) := dk_172 (dk_at dksX4_findProject_0 12 rfl rfl)
abbrev cX4_moveProject : ByteArray := prog_7_method_17_code
def yX4_moveProject : MethodName := ⟨RX4, "moveProject", "(I)I"⟩
def dkwX4_moveProject_7 : List UInt8 := [167, 255, 219, 42, 182, 0, 103, 21, 4, 172]
abbrev dktX4_moveProject_7 : List UInt8 := dkwX4_moveProject_7 ++ []
def dkwX4_moveProject_6 : List UInt8 := [21, 6, 122, 4, 126, 4, 160, 0, 13, 42, 21, 6, 28, 182, 0, 99, 132, 4, 1, 132, 6, 1]
abbrev dktX4_moveProject_6 : List UInt8 := dkwX4_moveProject_6 ++ dktX4_moveProject_7
def dkwX4_moveProject_5 : List UInt8 := [132, 6, 1, 167, 255, 221, 3, 54, 6, 21, 6, 42, 180, 0, 16, 162, 0, 34, 29, 154, 0, 30, 21, 5]
abbrev dktX4_moveProject_5 : List UInt8 := dkwX4_moveProject_5 ++ dktX4_moveProject_6
def dkwX4_moveProject_4 : List UInt8 := [21, 5, 42, 21, 6, 27, 182, 0, 82, 153, 0, 10, 4, 21, 6, 120, 167, 0, 4, 3, 128, 54, 5]
abbrev dktX4_moveProject_4 : List UInt8 := dkwX4_moveProject_4 ++ dktX4_moveProject_5
def dkwX4_moveProject_3 : List UInt8 := [4, 167, 0, 4, 3, 62, 3, 54, 4, 3, 54, 5, 3, 54, 6, 21, 6, 42, 180, 0, 16, 162, 0, 32]
abbrev dktX4_moveProject_3 : List UInt8 := dkwX4_moveProject_3 ++ dktX4_moveProject_4
def dkwX4_moveProject_2 : List UInt8 := [180, 0, 64, 182, 0, 75, 42, 180, 0, 20, 16, 8, 27, 104, 28, 96, 52, 182, 0, 86, 27, 160, 0, 7]
abbrev dktX4_moveProject_2 : List UInt8 := dkwX4_moveProject_2 ++ dktX4_moveProject_3
def dkwX4_moveProject_1 : List UInt8 := [167, 0, 4, 5, 182, 0, 67, 153, 0, 5, 3, 172, 42, 180, 0, 23, 27, 46, 4, 100, 61, 42, 42, 42]
abbrev dktX4_moveProject_1 : List UInt8 := dkwX4_moveProject_1 ++ dktX4_moveProject_2
def dkwX4_moveProject_0 : List UInt8 := [42, 42, 27, 182, 0, 93, 154, 0, 7, 4, 167, 0, 16, 42, 27, 182, 0, 96, 153, 0, 7, 3]
abbrev dktX4_moveProject_0 : List UInt8 := dkwX4_moveProject_0 ++ dktX4_moveProject_1
theorem dksX4_moveProject_0 : cX4_moveProject.data.toList.drop 0 = dktX4_moveProject_0 := by decide +kernel
theorem dksX4_moveProject_1 : cX4_moveProject.data.toList.drop 22 = dktX4_moveProject_1 := dk_seg dksX4_moveProject_0 22 rfl rfl
theorem dksX4_moveProject_2 : cX4_moveProject.data.toList.drop 46 = dktX4_moveProject_2 := dk_seg dksX4_moveProject_1 24 rfl rfl
theorem dksX4_moveProject_3 : cX4_moveProject.data.toList.drop 70 = dktX4_moveProject_3 := dk_seg dksX4_moveProject_2 24 rfl rfl
theorem dksX4_moveProject_4 : cX4_moveProject.data.toList.drop 94 = dktX4_moveProject_4 := dk_seg dksX4_moveProject_3 24 rfl rfl
theorem dksX4_moveProject_5 : cX4_moveProject.data.toList.drop 117 = dktX4_moveProject_5 := dk_seg dksX4_moveProject_4 23 rfl rfl
theorem dksX4_moveProject_6 : cX4_moveProject.data.toList.drop 141 = dktX4_moveProject_6 := dk_seg dksX4_moveProject_5 24 rfl rfl
theorem dksX4_moveProject_7 : cX4_moveProject.data.toList.drop 163 = dktX4_moveProject_7 := dk_seg dksX4_moveProject_6 22 rfl rfl
theorem dX4_moveProject_0 : decode cX4_moveProject 0 = .ok (.aload_n 0, 1) := dk_42 (dk_at dksX4_moveProject_0 0 rfl rfl)
theorem dX4_moveProject_1 : decode cX4_moveProject 1 = .ok (.aload_n 0, 1) := dk_42 (dk_at dksX4_moveProject_0 1 rfl rfl)
theorem dX4_moveProject_2 : decode cX4_moveProject 2 = .ok (.iload_n 1, 1) := dk_27 (dk_at dksX4_moveProject_0 2 rfl rfl)
theorem dX4_moveProject_3 : decode cX4_moveProject 3 = .ok (.invokevirtual 93, 3) := dk_182 0 93 (dk_at dksX4_moveProject_0 3 rfl rfl)
theorem dX4_moveProject_6 : decode cX4_moveProject 6 = .ok (.ifCond .ne 7, 3) := dk_154 0 7 (dk_at dksX4_moveProject_0 6 rfl rfl)
theorem dX4_moveProject_9 : decode cX4_moveProject 9 = .ok (.iconst 1, 1) := dk_4 (dk_at dksX4_moveProject_0 9 rfl rfl)
theorem dX4_moveProject_10 : decode cX4_moveProject 10 = .ok (.goto 16, 3) := dk_167 0 16 (dk_at dksX4_moveProject_0 10 rfl rfl)
theorem dX4_moveProject_13 : decode cX4_moveProject 13 = .ok (.aload_n 0, 1) := dk_42 (dk_at dksX4_moveProject_0 13 rfl rfl)
theorem dX4_moveProject_14 : decode cX4_moveProject 14 = .ok (.iload_n 1, 1) := dk_27 (dk_at dksX4_moveProject_0 14 rfl rfl)
theorem dX4_moveProject_15 : decode cX4_moveProject 15 = .ok (.invokevirtual 96, 3) := dk_182 0 96 (dk_at dksX4_moveProject_0 15 rfl rfl)
theorem dX4_moveProject_18 : decode cX4_moveProject 18 = .ok (.ifCond .eq 7, 3) := dk_153 0 7 (dk_at dksX4_moveProject_0 18 rfl rfl)
theorem dX4_moveProject_21 : decode cX4_moveProject 21 = .ok (.iconst 0, 1) := dk_3 (dk_at dksX4_moveProject_0 21 rfl rfl)
theorem dX4_moveProject_22 : decode cX4_moveProject 22 = .ok (.goto 4, 3) := dk_167 0 4 (dk_at dksX4_moveProject_1 0 rfl rfl)
theorem dX4_moveProject_25 : decode cX4_moveProject 25 = .ok (.iconst 2, 1) := dk_5 (dk_at dksX4_moveProject_1 3 rfl rfl)
theorem dX4_moveProject_26 : decode cX4_moveProject 26 = .ok (.invokevirtual 67, 3) := dk_182 0 67 (dk_at dksX4_moveProject_1 4 rfl rfl)
theorem dX4_moveProject_29 : decode cX4_moveProject 29 = .ok (.ifCond .eq 5, 3) := dk_153 0 5 (dk_at dksX4_moveProject_1 7 rfl rfl)
theorem dX4_moveProject_32 : decode cX4_moveProject 32 = .ok (.iconst 0, 1) := dk_3 (dk_at dksX4_moveProject_1 10 rfl rfl)
theorem dX4_moveProject_33 : decode cX4_moveProject 33 = .ok (.ireturn, 1) := dk_172 (dk_at dksX4_moveProject_1 11 rfl rfl)
theorem dX4_moveProject_34 : decode cX4_moveProject 34 = .ok (.aload_n 0, 1) := dk_42 (dk_at dksX4_moveProject_1 12 rfl rfl)
theorem dX4_moveProject_35 : decode cX4_moveProject 35 = .ok (.getfield 23, 3) := dk_180 0 23 (dk_at dksX4_moveProject_1 13 rfl rfl)
theorem dX4_moveProject_38 : decode cX4_moveProject 38 = .ok (.iload_n 1, 1) := dk_27 (dk_at dksX4_moveProject_1 16 rfl rfl)
theorem dX4_moveProject_39 : decode cX4_moveProject 39 = .ok (.iaload, 1) := dk_46 (dk_at dksX4_moveProject_1 17 rfl rfl)
theorem dX4_moveProject_40 : decode cX4_moveProject 40 = .ok (.iconst 1, 1) := dk_4 (dk_at dksX4_moveProject_1 18 rfl rfl)
theorem dX4_moveProject_41 : decode cX4_moveProject 41 = .ok (.isub, 1) := dk_100 (dk_at dksX4_moveProject_1 19 rfl rfl)
theorem dX4_moveProject_42 : decode cX4_moveProject 42 = .ok (.istore_n 2, 1) := dk_61 (dk_at dksX4_moveProject_1 20 rfl rfl)
theorem dX4_moveProject_43 : decode cX4_moveProject 43 = .ok (.aload_n 0, 1) := dk_42 (dk_at dksX4_moveProject_1 21 rfl rfl)
theorem dX4_moveProject_44 : decode cX4_moveProject 44 = .ok (.aload_n 0, 1) := dk_42 (dk_at dksX4_moveProject_1 22 rfl rfl)
theorem dX4_moveProject_45 : decode cX4_moveProject 45 = .ok (.aload_n 0, 1) := dk_42 (dk_at dksX4_moveProject_1 23 rfl rfl)
theorem dX4_moveProject_46 : decode cX4_moveProject 46 = .ok (.getfield 64, 3) := dk_180 0 64 (dk_at dksX4_moveProject_2 0 rfl rfl)
theorem dX4_moveProject_49 : decode cX4_moveProject 49 = .ok (.invokevirtual 75, 3) := dk_182 0 75 (dk_at dksX4_moveProject_2 3 rfl rfl)
theorem dX4_moveProject_52 : decode cX4_moveProject 52 = .ok (.aload_n 0, 1) := dk_42 (dk_at dksX4_moveProject_2 6 rfl rfl)
theorem dX4_moveProject_53 : decode cX4_moveProject 53 = .ok (.getfield 20, 3) := dk_180 0 20 (dk_at dksX4_moveProject_2 7 rfl rfl)
theorem dX4_moveProject_56 : decode cX4_moveProject 56 = .ok (.bipush 8, 2) := dk_16 8 (dk_at dksX4_moveProject_2 10 rfl rfl)
theorem dX4_moveProject_58 : decode cX4_moveProject 58 = .ok (.iload_n 1, 1) := dk_27 (dk_at dksX4_moveProject_2 12 rfl rfl)
theorem dX4_moveProject_59 : decode cX4_moveProject 59 = .ok (.imul, 1) := dk_104 (dk_at dksX4_moveProject_2 13 rfl rfl)
theorem dX4_moveProject_60 : decode cX4_moveProject 60 = .ok (.iload_n 2, 1) := dk_28 (dk_at dksX4_moveProject_2 14 rfl rfl)
theorem dX4_moveProject_61 : decode cX4_moveProject 61 = .ok (.iadd, 1) := dk_96 (dk_at dksX4_moveProject_2 15 rfl rfl)
theorem dX4_moveProject_62 : decode cX4_moveProject 62 = .ok (.caload, 1) := dk_52 (dk_at dksX4_moveProject_2 16 rfl rfl)
theorem dX4_moveProject_63 : decode cX4_moveProject 63 = .ok (.invokevirtual 86, 3) := dk_182 0 86 (dk_at dksX4_moveProject_2 17 rfl rfl)
theorem dX4_moveProject_66 : decode cX4_moveProject 66 = .ok (.iload_n 1, 1) := dk_27 (dk_at dksX4_moveProject_2 20 rfl rfl)
theorem dX4_moveProject_67 : decode cX4_moveProject 67 = .ok (.if_icmp .ne 7, 3) := dk_160 0 7 (dk_at dksX4_moveProject_2 21 rfl rfl)
theorem dX4_moveProject_70 : decode cX4_moveProject 70 = .ok (.iconst 1, 1) := dk_4 (dk_at dksX4_moveProject_3 0 rfl rfl)
theorem dX4_moveProject_71 : decode cX4_moveProject 71 = .ok (.goto 4, 3) := dk_167 0 4 (dk_at dksX4_moveProject_3 1 rfl rfl)
theorem dX4_moveProject_74 : decode cX4_moveProject 74 = .ok (.iconst 0, 1) := dk_3 (dk_at dksX4_moveProject_3 4 rfl rfl)
theorem dX4_moveProject_75 : decode cX4_moveProject 75 = .ok (.istore_n 3, 1) := dk_62 (dk_at dksX4_moveProject_3 5 rfl rfl)
theorem dX4_moveProject_76 : decode cX4_moveProject 76 = .ok (.iconst 0, 1) := dk_3 (dk_at dksX4_moveProject_3 6 rfl rfl)
theorem dX4_moveProject_77 : decode cX4_moveProject 77 = .ok (.istore 4, 2) := dk_54 4 (dk_at dksX4_moveProject_3 7 rfl rfl)
theorem dX4_moveProject_79 : decode cX4_moveProject 79 = .ok (.iconst 0, 1) := dk_3 (dk_at dksX4_moveProject_3 9 rfl rfl)
theorem dX4_moveProject_80 : decode cX4_moveProject 80 = .ok (.istore 5, 2) := dk_54 5 (dk_at dksX4_moveProject_3 10 rfl rfl)
theorem dX4_moveProject_82 : decode cX4_moveProject 82 = .ok (.iconst 0, 1) := dk_3 (dk_at dksX4_moveProject_3 12 rfl rfl)
theorem dX4_moveProject_83 : decode cX4_moveProject 83 = .ok (.istore 6, 2) := dk_54 6 (dk_at dksX4_moveProject_3 13 rfl rfl)
theorem dX4_moveProject_85 : decode cX4_moveProject 85 = .ok (.iload 6, 2) := dk_21 6 (dk_at dksX4_moveProject_3 15 rfl rfl)
theorem dX4_moveProject_87 : decode cX4_moveProject 87 = .ok (.aload_n 0, 1) := dk_42 (dk_at dksX4_moveProject_3 17 rfl rfl)
theorem dX4_moveProject_88 : decode cX4_moveProject 88 = .ok (.getfield 16, 3) := dk_180 0 16 (dk_at dksX4_moveProject_3 18 rfl rfl)
theorem dX4_moveProject_91 : decode cX4_moveProject 91 = .ok (.if_icmp .ge 32, 3) := dk_162 0 32 (dk_at dksX4_moveProject_3 21 rfl rfl)
theorem dX4_moveProject_94 : decode cX4_moveProject 94 = .ok (.iload 5, 2) := dk_21 5 (dk_at dksX4_moveProject_4 0 rfl rfl)
theorem dX4_moveProject_96 : decode cX4_moveProject 96 = .ok (.aload_n 0, 1) := dk_42 (dk_at dksX4_moveProject_4 2 rfl rfl)
theorem dX4_moveProject_97 : decode cX4_moveProject 97 = .ok (.iload 6, 2) := dk_21 6 (dk_at dksX4_moveProject_4 3 rfl rfl)
theorem dX4_moveProject_99 : decode cX4_moveProject 99 = .ok (.iload_n 1, 1) := dk_27 (dk_at dksX4_moveProject_4 5 rfl rfl)
theorem dX4_moveProject_100 : decode cX4_moveProject 100 = .ok (.invokevirtual 82, 3) := dk_182 0 82 (dk_at dksX4_moveProject_4 6 rfl rfl)
theorem dX4_moveProject_103 : decode cX4_moveProject 103 = .ok (.ifCond .eq 10, 3) := dk_153 0 10 (dk_at dksX4_moveProject_4 9 rfl rfl)
theorem dX4_moveProject_106 : decode cX4_moveProject 106 = .ok (.iconst 1, 1) := dk_4 (dk_at dksX4_moveProject_4 12 rfl rfl)
theorem dX4_moveProject_107 : decode cX4_moveProject 107 = .ok (.iload 6, 2) := dk_21 6 (dk_at dksX4_moveProject_4 13 rfl rfl)
theorem dX4_moveProject_109 : decode cX4_moveProject 109 = .ok (.ishl, 1) := dk_120 (dk_at dksX4_moveProject_4 15 rfl rfl)
theorem dX4_moveProject_110 : decode cX4_moveProject 110 = .ok (.goto 4, 3) := dk_167 0 4 (dk_at dksX4_moveProject_4 16 rfl rfl)
theorem dX4_moveProject_113 : decode cX4_moveProject 113 = .ok (.iconst 0, 1) := dk_3 (dk_at dksX4_moveProject_4 19 rfl rfl)
theorem dX4_moveProject_114 : decode cX4_moveProject 114 = .ok (.ior, 1) := dk_128 (dk_at dksX4_moveProject_4 20 rfl rfl)
theorem dX4_moveProject_115 : decode cX4_moveProject 115 = .ok (.istore 5, 2) := dk_54 5 (dk_at dksX4_moveProject_4 21 rfl rfl)
theorem dX4_moveProject_117 : decode cX4_moveProject 117 = .ok (.iinc 6 1, 3) := dk_132 6 1 (dk_at dksX4_moveProject_5 0 rfl rfl)
theorem dX4_moveProject_120 : decode cX4_moveProject 120 = .ok (.goto (-35), 3) := dk_167 255 221 (dk_at dksX4_moveProject_5 3 rfl rfl)
theorem dX4_moveProject_123 : decode cX4_moveProject 123 = .ok (.iconst 0, 1) := dk_3 (dk_at dksX4_moveProject_5 6 rfl rfl)
theorem dX4_moveProject_124 : decode cX4_moveProject 124 = .ok (.istore 6, 2) := dk_54 6 (dk_at dksX4_moveProject_5 7 rfl rfl)
theorem dX4_moveProject_126 : decode cX4_moveProject 126 = .ok (.iload 6, 2) := dk_21 6 (dk_at dksX4_moveProject_5 9 rfl rfl)
theorem dX4_moveProject_128 : decode cX4_moveProject 128 = .ok (.aload_n 0, 1) := dk_42 (dk_at dksX4_moveProject_5 11 rfl rfl)
theorem dX4_moveProject_129 : decode cX4_moveProject 129 = .ok (.getfield 16, 3) := dk_180 0 16 (dk_at dksX4_moveProject_5 12 rfl rfl)
theorem dX4_moveProject_132 : decode cX4_moveProject 132 = .ok (.if_icmp .ge 34, 3) := dk_162 0 34 (dk_at dksX4_moveProject_5 15 rfl rfl)
theorem dX4_moveProject_135 : decode cX4_moveProject 135 = .ok (.iload_n 3, 1) := dk_29 (dk_at dksX4_moveProject_5 18 rfl rfl)
theorem dX4_moveProject_136 : decode cX4_moveProject 136 = .ok (.ifCond .ne 30, 3) := dk_154 0 30 (dk_at dksX4_moveProject_5 19 rfl rfl)
theorem dX4_moveProject_139 : decode cX4_moveProject 139 = .ok (.iload 5, 2) := dk_21 5 (dk_at dksX4_moveProject_5 22 rfl rfl)
theorem dX4_moveProject_141 : decode cX4_moveProject 141 = .ok (.iload 6, 2) := dk_21 6 (dk_at dksX4_moveProject_6 0 rfl rfl)
theorem dX4_moveProject_143 : decode cX4_moveProject 143 = .ok (.ishr, 1) := dk_122 (dk_at dksX4_moveProject_6 2 rfl rfl)
theorem dX4_moveProject_144 : decode cX4_moveProject 144 = .ok (.iconst 1, 1) := dk_4 (dk_at dksX4_moveProject_6 3 rfl rfl)
theorem dX4_moveProject_145 : decode cX4_moveProject 145 = .ok (.iand, 1) := dk_126 (dk_at dksX4_moveProject_6 4 rfl rfl)
theorem dX4_moveProject_146 : decode cX4_moveProject 146 = .ok (.iconst 1, 1) := dk_4 (dk_at dksX4_moveProject_6 5 rfl rfl)
theorem dX4_moveProject_147 : decode cX4_moveProject 147 = .ok (.if_icmp .ne 13, 3) := dk_160 0 13 (dk_at dksX4_moveProject_6 6 rfl rfl)
theorem dX4_moveProject_150 : decode cX4_moveProject 150 = .ok (.aload_n 0, 1) := dk_42 (dk_at dksX4_moveProject_6 9 rfl rfl)
theorem dX4_moveProject_151 : decode cX4_moveProject 151 = .ok (.iload 6, 2) := dk_21 6 (dk_at dksX4_moveProject_6 10 rfl rfl)
theorem dX4_moveProject_153 : decode cX4_moveProject 153 = .ok (.iload_n 2, 1) := dk_28 (dk_at dksX4_moveProject_6 12 rfl rfl)
theorem dX4_moveProject_154 : decode cX4_moveProject 154 = .ok (.invokevirtual 99, 3) := dk_182 0 99 (dk_at dksX4_moveProject_6 13 rfl rfl)
theorem dX4_moveProject_157 : decode cX4_moveProject 157 = .ok (.iinc 4 1, 3) := dk_132 4 1 (dk_at dksX4_moveProject_6 16 rfl rfl)
theorem dX4_moveProject_160 : decode cX4_moveProject 160 = .ok (.iinc 6 1, 3) := dk_132 6 1 (dk_at dksX4_moveProject_6 19 rfl rfl)
theorem dX4_moveProject_163 : decode cX4_moveProject 163 = .ok (.goto (-37), 3) := dk_167 255 219 (dk_at dksX4_moveProject_7 0 rfl rfl)
theorem dX4_moveProject_166 : decode cX4_moveProject 166 = .ok (.aload_n 0, 1) := dk_42 (dk_at dksX4_moveProject_7 3 rfl rfl)
theorem dX4_moveProject_167 : decode cX4_moveProject 167 = .ok (.invokevirtual 103, 3) := dk_182 0 103 (dk_at dksX4_moveProject_7 4 rfl rfl)
theorem dX4_moveProject_170 : decode cX4_moveProject 170 = .ok (.iload 4, 2) := dk_21 4 (dk_at dksX4_moveProject_7 7 rfl rfl)
theorem dX4_moveProject_172 : decode cX4_moveProject 172 = .ok (.ireturn, 1) := dk_172 (dk_at dksX4_moveProject_7 9 rfl rfl)
abbrev cX4_isProject : ByteArray := prog_7_method_12_code
def yX4_isProject : MethodName := ⟨RX4, "isProject", "(I)Z"⟩
def dkwX4_isProject_0 : List UInt8 := [27, 3, 42, 180, 0, 16, 4, 100, 184, 0, 78, 172]
abbrev dktX4_isProject_0 : List UInt8 := dkwX4_isProject_0 ++ []
theorem dksX4_isProject_0 : cX4_isProject.data.toList.drop 0 = dktX4_isProject_0 := by decide +kernel
theorem dX4_isProject_0 : decode cX4_isProject 0 = .ok (.iload_n 1, 1) := dk_27 (dk_at dksX4_isProject_0 0 rfl rfl)
theorem dX4_isProject_1 : decode cX4_isProject 1 = .ok (.iconst 0, 1) := dk_3 (dk_at dksX4_isProject_0 1 rfl rfl)
theorem dX4_isProject_2 : decode cX4_isProject 2 = .ok (.aload_n 0, 1) := dk_42 (dk_at dksX4_isProject_0 2 rfl rfl)
theorem dX4_isProject_3 : decode cX4_isProject 3 = .ok (.getfield 16, 3) := dk_180 0 16 (dk_at dksX4_isProject_0 3 rfl rfl)
theorem dX4_isProject_6 : decode cX4_isProject 6 = .ok (.iconst 1, 1) := dk_4 (dk_at dksX4_isProject_0 6 rfl rfl)
theorem dX4_isProject_7 : decode cX4_isProject 7 = .ok (.isub, 1) := dk_100 (dk_at dksX4_isProject_0 7 rfl rfl)
theorem dX4_isProject_8 : decode cX4_isProject 8 = .ok (.invokestatic 78, 3) := dk_184 0 78 (dk_at dksX4_isProject_0 8 rfl rfl)
theorem dX4_isProject_11 : decode cX4_isProject 11 = .ok (.ireturn, 1) := dk_172 (dk_at dksX4_isProject_0 11 rfl rfl)
abbrev cX4_in : ByteArray := prog_7_method_5_code
def yX4_in : MethodName := ⟨RX4, "in", "(III)Z"⟩
def dkwX4_in_0 : List UInt8 := [26, 27, 161, 0, 12, 26, 28, 163, 0, 7, 4, 167, 0, 4, 3, 172]
abbrev dktX4_in_0 : List UInt8 := dkwX4_in_0 ++ []
theorem dksX4_in_0 : cX4_in.data.toList.drop 0 = dktX4_in_0 := by decide +kernel
theorem dX4_in_0 : decode cX4_in 0 = .ok (.iload_n 0, 1) := dk_26 (dk_at dksX4_in_0 0 rfl rfl)
theorem dX4_in_1 : decode cX4_in 1 = .ok (.iload_n 1, 1) := dk_27 (dk_at dksX4_in_0 1 rfl rfl)
theorem dX4_in_2 : decode cX4_in 2 = .ok (.if_icmp .lt 12, 3) := dk_161 0 12 (dk_at dksX4_in_0 2 rfl rfl)
theorem dX4_in_5 : decode cX4_in 5 = .ok (.iload_n 0, 1) := dk_26 (dk_at dksX4_in_0 5 rfl rfl)
theorem dX4_in_6 : decode cX4_in 6 = .ok (.iload_n 2, 1) := dk_28 (dk_at dksX4_in_0 6 rfl rfl)
theorem dX4_in_7 : decode cX4_in 7 = .ok (.if_icmp .gt 7, 3) := dk_163 0 7 (dk_at dksX4_in_0 7 rfl rfl)
theorem dX4_in_10 : decode cX4_in 10 = .ok (.iconst 1, 1) := dk_4 (dk_at dksX4_in_0 10 rfl rfl)
theorem dX4_in_11 : decode cX4_in 11 = .ok (.goto 4, 3) := dk_167 0 4 (dk_at dksX4_in_0 11 rfl rfl)
theorem dX4_in_14 : decode cX4_in 14 = .ok (.iconst 0, 1) := dk_3 (dk_at dksX4_in_0 14 rfl rfl)
theorem dX4_in_15 : decode cX4_in 15 = .ok (.ireturn, 1) := dk_172 (dk_at dksX4_in_0 15 rfl rfl)
abbrev cX4_canMove : ByteArray := prog_7_method_16_code
def yX4_canMove : MethodName := ⟨RX4, "canMove", "(I)Z"⟩
def dkwX4_canMove_4 : List UInt8 := [167, 0, 4, 3, 172]
abbrev dktX4_canMove_4 : List UInt8 := dkwX4_canMove_4 ++ []
def dkwX4_canMove_3 : List UInt8 := [182, 0, 90, 29, 96, 16, 8, 163, 0, 19, 21, 4, 2, 159, 0, 9, 21, 4, 27, 160, 0, 7, 4]
abbrev dktX4_canMove_3 : List UInt8 := dkwX4_canMove_3 ++ dktX4_canMove_4
def dkwX4_canMove_2 : List UInt8 := [180, 0, 20, 16, 8, 27, 104, 42, 180, 0, 23, 27, 46, 96, 4, 100, 52, 182, 0, 86, 54, 4, 42, 27]
abbrev dktX4_canMove_2 : List UInt8 := dkwX4_canMove_2 ++ dktX4_canMove_3
def dkwX4_canMove_1 : List UInt8 := [153, 0, 5, 3, 172, 42, 180, 0, 23, 28, 46, 4, 96, 42, 180, 0, 23, 27, 46, 100, 62, 42, 28, 42]
abbrev dktX4_canMove_1 : List UInt8 := dkwX4_canMove_1 ++ dktX4_canMove_2
def dkwX4_canMove_0 : List UInt8 := [42, 42, 180, 0, 64, 182, 0, 75, 61, 27, 153, 0, 17, 28, 2, 159, 0, 12, 42, 28, 27, 182, 0, 82]
abbrev dktX4_canMove_0 : List UInt8 := dkwX4_canMove_0 ++ dktX4_canMove_1
theorem dksX4_canMove_0 : cX4_canMove.data.toList.drop 0 = dktX4_canMove_0 := by decide +kernel
theorem dksX4_canMove_1 : cX4_canMove.data.toList.drop 24 = dktX4_canMove_1 := dk_seg dksX4_canMove_0 24 rfl rfl
theorem dksX4_canMove_2 : cX4_canMove.data.toList.drop 48 = dktX4_canMove_2 := dk_seg dksX4_canMove_1 24 rfl rfl
theorem dksX4_canMove_3 : cX4_canMove.data.toList.drop 72 = dktX4_canMove_3 := dk_seg dksX4_canMove_2 24 rfl rfl
theorem dksX4_canMove_4 : cX4_canMove.data.toList.drop 95 = dktX4_canMove_4 := dk_seg dksX4_canMove_3 23 rfl rfl
theorem dX4_canMove_0 : decode cX4_canMove 0 = .ok (.aload_n 0, 1) := dk_42 (dk_at dksX4_canMove_0 0 rfl rfl)
theorem dX4_canMove_1 : decode cX4_canMove 1 = .ok (.aload_n 0, 1) := dk_42 (dk_at dksX4_canMove_0 1 rfl rfl)
theorem dX4_canMove_2 : decode cX4_canMove 2 = .ok (.getfield 64, 3) := dk_180 0 64 (dk_at dksX4_canMove_0 2 rfl rfl)
theorem dX4_canMove_5 : decode cX4_canMove 5 = .ok (.invokevirtual 75, 3) := dk_182 0 75 (dk_at dksX4_canMove_0 5 rfl rfl)
theorem dX4_canMove_8 : decode cX4_canMove 8 = .ok (.istore_n 2, 1) := dk_61 (dk_at dksX4_canMove_0 8 rfl rfl)
theorem dX4_canMove_9 : decode cX4_canMove 9 = .ok (.iload_n 1, 1) := dk_27 (dk_at dksX4_canMove_0 9 rfl rfl)
theorem dX4_canMove_10 : decode cX4_canMove 10 = .ok (.ifCond .eq 17, 3) := dk_153 0 17 (dk_at dksX4_canMove_0 10 rfl rfl)
theorem dX4_canMove_13 : decode cX4_canMove 13 = .ok (.iload_n 2, 1) := dk_28 (dk_at dksX4_canMove_0 13 rfl rfl)
theorem dX4_canMove_14 : decode cX4_canMove 14 = .ok (.iconst (-1), 1) := dk_2 (dk_at dksX4_canMove_0 14 rfl rfl)
theorem dX4_canMove_15 : decode cX4_canMove 15 = .ok (.if_icmp .eq 12, 3) := dk_159 0 12 (dk_at dksX4_canMove_0 15 rfl rfl)
theorem dX4_canMove_18 : decode cX4_canMove 18 = .ok (.aload_n 0, 1) := dk_42 (dk_at dksX4_canMove_0 18 rfl rfl)
theorem dX4_canMove_19 : decode cX4_canMove 19 = .ok (.iload_n 2, 1) := dk_28 (dk_at dksX4_canMove_0 19 rfl rfl)
theorem dX4_canMove_20 : decode cX4_canMove 20 = .ok (.iload_n 1, 1) := dk_27 (dk_at dksX4_canMove_0 20 rfl rfl)
theorem dX4_canMove_21 : decode cX4_canMove 21 = .ok (.invokevirtual 82, 3) := dk_182 0 82 (dk_at dksX4_canMove_0 21 rfl rfl)
theorem dX4_canMove_24 : decode cX4_canMove 24 = .ok (.ifCond .eq 5, 3) := dk_153 0 5 (dk_at dksX4_canMove_1 0 rfl rfl)
theorem dX4_canMove_27 : decode cX4_canMove 27 = .ok (.iconst 0, 1) := dk_3 (dk_at dksX4_canMove_1 3 rfl rfl)
theorem dX4_canMove_28 : decode cX4_canMove 28 = .ok (.ireturn, 1) := dk_172 (dk_at dksX4_canMove_1 4 rfl rfl)
theorem dX4_canMove_29 : decode cX4_canMove 29 = .ok (.aload_n 0, 1) := dk_42 (dk_at dksX4_canMove_1 5 rfl rfl)
theorem dX4_canMove_30 : decode cX4_canMove 30 = .ok (.getfield 23, 3) := dk_180 0 23 (dk_at dksX4_canMove_1 6 rfl rfl)
theorem dX4_canMove_33 : decode cX4_canMove 33 = .ok (.iload_n 2, 1) := dk_28 (dk_at dksX4_canMove_1 9 rfl rfl)
theorem dX4_canMove_34 : decode cX4_canMove 34 = .ok (.iaload, 1) := dk_46 (dk_at dksX4_canMove_1 10 rfl rfl)
theorem dX4_canMove_35 : decode cX4_canMove 35 = .ok (.iconst 1, 1) := dk_4 (dk_at dksX4_canMove_1 11 rfl rfl)
theorem dX4_canMove_36 : decode cX4_canMove 36 = .ok (.iadd, 1) := dk_96 (dk_at dksX4_canMove_1 12 rfl rfl)
theorem dX4_canMove_37 : decode cX4_canMove 37 = .ok (.aload_n 0, 1) := dk_42 (dk_at dksX4_canMove_1 13 rfl rfl)
theorem dX4_canMove_38 : decode cX4_canMove 38 = .ok (.getfield 23, 3) := dk_180 0 23 (dk_at dksX4_canMove_1 14 rfl rfl)
theorem dX4_canMove_41 : decode cX4_canMove 41 = .ok (.iload_n 1, 1) := dk_27 (dk_at dksX4_canMove_1 17 rfl rfl)
theorem dX4_canMove_42 : decode cX4_canMove 42 = .ok (.iaload, 1) := dk_46 (dk_at dksX4_canMove_1 18 rfl rfl)
theorem dX4_canMove_43 : decode cX4_canMove 43 = .ok (.isub, 1) := dk_100 (dk_at dksX4_canMove_1 19 rfl rfl)
theorem dX4_canMove_44 : decode cX4_canMove 44 = .ok (.istore_n 3, 1) := dk_62 (dk_at dksX4_canMove_1 20 rfl rfl)
theorem dX4_canMove_45 : decode cX4_canMove 45 = .ok (.aload_n 0, 1) := dk_42 (dk_at dksX4_canMove_1 21 rfl rfl)
theorem dX4_canMove_46 : decode cX4_canMove 46 = .ok (.iload_n 2, 1) := dk_28 (dk_at dksX4_canMove_1 22 rfl rfl)
theorem dX4_canMove_47 : decode cX4_canMove 47 = .ok (.aload_n 0, 1) := dk_42 (dk_at dksX4_canMove_1 23 rfl rfl)
theorem dX4_canMove_48 : decode cX4_canMove 48 = .ok (.getfield 20, 3) := dk_180 0 20 (dk_at dksX4_canMove_2 0 rfl rfl)
theorem dX4_canMove_51 : decode cX4_canMove 51 = .ok (.bipush 8, 2) := dk_16 8 (dk_at dksX4_canMove_2 3 rfl rfl)
theorem dX4_canMove_53 : decode cX4_canMove 53 = .ok (.iload_n 1, 1) := dk_27 (dk_at dksX4_canMove_2 5 rfl rfl)
theorem dX4_canMove_54 : decode cX4_canMove 54 = .ok (.imul, 1) := dk_104 (dk_at dksX4_canMove_2 6 rfl rfl)
theorem dX4_canMove_55 : decode cX4_canMove 55 = .ok (.aload_n 0, 1) := dk_42 (dk_at dksX4_canMove_2 7 rfl rfl)
theorem dX4_canMove_56 : decode cX4_canMove 56 = .ok (.getfield 23, 3) := dk_180 0 23 (dk_at dksX4_canMove_2 8 rfl rfl)
theorem dX4_canMove_59 : decode cX4_canMove 59 = .ok (.iload_n 1, 1) := dk_27 (dk_at dksX4_canMove_2 11 rfl rfl)
theorem dX4_canMove_60 : decode cX4_canMove 60 = .ok (.iaload, 1) := dk_46 (dk_at dksX4_canMove_2 12 rfl rfl)
theorem dX4_canMove_61 : decode cX4_canMove 61 = .ok (.iadd, 1) := dk_96 (dk_at dksX4_canMove_2 13 rfl rfl)
theorem dX4_canMove_62 : decode cX4_canMove 62 = .ok (.iconst 1, 1) := dk_4 (dk_at dksX4_canMove_2 14 rfl rfl)
theorem dX4_canMove_63 : decode cX4_canMove 63 = .ok (.isub, 1) := dk_100 (dk_at dksX4_canMove_2 15 rfl rfl)
theorem dX4_canMove_64 : decode cX4_canMove 64 = .ok (.caload, 1) := dk_52 (dk_at dksX4_canMove_2 16 rfl rfl)
theorem dX4_canMove_65 : decode cX4_canMove 65 = .ok (.invokevirtual 86, 3) := dk_182 0 86 (dk_at dksX4_canMove_2 17 rfl rfl)
theorem dX4_canMove_68 : decode cX4_canMove 68 = .ok (.istore 4, 2) := dk_54 4 (dk_at dksX4_canMove_2 20 rfl rfl)
theorem dX4_canMove_70 : decode cX4_canMove 70 = .ok (.aload_n 0, 1) := dk_42 (dk_at dksX4_canMove_2 22 rfl rfl)
theorem dX4_canMove_71 : decode cX4_canMove 71 = .ok (.iload_n 1, 1) := dk_27 (dk_at dksX4_canMove_2 23 rfl rfl)
theorem dX4_canMove_72 : decode cX4_canMove 72 = .ok (.invokevirtual 90, 3) := dk_182 0 90 (dk_at dksX4_canMove_3 0 rfl rfl)
theorem dX4_canMove_75 : decode cX4_canMove 75 = .ok (.iload_n 3, 1) := dk_29 (dk_at dksX4_canMove_3 3 rfl rfl)
theorem dX4_canMove_76 : decode cX4_canMove 76 = .ok (.iadd, 1) := dk_96 (dk_at dksX4_canMove_3 4 rfl rfl)
theorem dX4_canMove_77 : decode cX4_canMove 77 = .ok (.bipush 8, 2) := dk_16 8 (dk_at dksX4_canMove_3 5 rfl rfl)
theorem dX4_canMove_79 : decode cX4_canMove 79 = .ok (.if_icmp .gt 19, 3) := dk_163 0 19 (dk_at dksX4_canMove_3 7 rfl rfl)
theorem dX4_canMove_82 : decode cX4_canMove 82 = .ok (.iload 4, 2) := dk_21 4 (dk_at dksX4_canMove_3 10 rfl rfl)
theorem dX4_canMove_84 : decode cX4_canMove 84 = .ok (.iconst (-1), 1) := dk_2 (dk_at dksX4_canMove_3 12 rfl rfl)
theorem dX4_canMove_85 : decode cX4_canMove 85 = .ok (.if_icmp .eq 9, 3) := dk_159 0 9 (dk_at dksX4_canMove_3 13 rfl rfl)
theorem dX4_canMove_88 : decode cX4_canMove 88 = .ok (.iload 4, 2) := dk_21 4 (dk_at dksX4_canMove_3 16 rfl rfl)
theorem dX4_canMove_90 : decode cX4_canMove 90 = .ok (.iload_n 1, 1) := dk_27 (dk_at dksX4_canMove_3 18 rfl rfl)
theorem dX4_canMove_91 : decode cX4_canMove 91 = .ok (.if_icmp .ne 7, 3) := dk_160 0 7 (dk_at dksX4_canMove_3 19 rfl rfl)
theorem dX4_canMove_94 : decode cX4_canMove 94 = .ok (.iconst 1, 1) := dk_4 (dk_at dksX4_canMove_3 22 rfl rfl)
theorem dX4_canMove_95 : decode cX4_canMove 95 = .ok (.goto 4, 3) := dk_167 0 4 (dk_at dksX4_canMove_4 0 rfl rfl)
theorem dX4_canMove_98 : decode cX4_canMove 98 = .ok (.iconst 0, 1) := dk_3 (dk_at dksX4_canMove_4 3 rfl rfl)
theorem dX4_canMove_99 : decode cX4_canMove 99 = .ok (.ireturn, 1) := dk_172 (dk_at dksX4_canMove_4 4 rfl rfl)
abbrev cX4_isWithin : ByteArray := prog_7_method_13_code
def yX4_isWithin : MethodName := ⟨RX4, "isWithin", "(II)Z"⟩
def dkwX4_isWithin_3 : List UInt8 := [62, 132, 4, 1, 167, 255, 205, 29, 172]
abbrev dktX4_isWithin_3 : List UInt8 := dkwX4_isWithin_3 ++ []
def dkwX4_isWithin_2 : List UInt8 := [21, 4, 96, 52, 42, 180, 0, 20, 16, 8, 28, 104, 21, 4, 96, 52, 160, 0, 7, 4, 167, 0, 4, 3]
abbrev dktX4_isWithin_2 : List UInt8 := dkwX4_isWithin_2 ++ dktX4_isWithin_3
def dkwX4_isWithin_1 : List UInt8 := [21, 4, 42, 180, 0, 23, 28, 46, 162, 0, 46, 29, 153, 0, 42, 42, 180, 0, 20, 16, 8, 27, 104]
abbrev dktX4_isWithin_1 : List UInt8 := dkwX4_isWithin_1 ++ dktX4_isWithin_2
def dkwX4_isWithin_0 : List UInt8 := [42, 180, 0, 23, 27, 46, 42, 180, 0, 23, 28, 46, 161, 0, 7, 4, 167, 0, 4, 3, 62, 3, 54, 4]
abbrev dktX4_isWithin_0 : List UInt8 := dkwX4_isWithin_0 ++ dktX4_isWithin_1
theorem dksX4_isWithin_0 : cX4_isWithin.data.toList.drop 0 = dktX4_isWithin_0 := by decide +kernel
theorem dksX4_isWithin_1 : cX4_isWithin.data.toList.drop 24 = dktX4_isWithin_1 := dk_seg dksX4_isWithin_0 24 rfl rfl
theorem dksX4_isWithin_2 : cX4_isWithin.data.toList.drop 47 = dktX4_isWithin_2 := dk_seg dksX4_isWithin_1 23 rfl rfl
theorem dksX4_isWithin_3 : cX4_isWithin.data.toList.drop 71 = dktX4_isWithin_3 := dk_seg dksX4_isWithin_2 24 rfl rfl
theorem dX4_isWithin_0 : decode cX4_isWithin 0 = .ok (.aload_n 0, 1) := dk_42 (dk_at dksX4_isWithin_0 0 rfl rfl)
theorem dX4_isWithin_1 : decode cX4_isWithin 1 = .ok (.getfield 23, 3) := dk_180 0 23 (dk_at dksX4_isWithin_0 1 rfl rfl)
theorem dX4_isWithin_4 : decode cX4_isWithin 4 = .ok (.iload_n 1, 1) := dk_27 (dk_at dksX4_isWithin_0 4 rfl rfl)
theorem dX4_isWithin_5 : decode cX4_isWithin 5 = .ok (.iaload, 1) := dk_46 (dk_at dksX4_isWithin_0 5 rfl rfl)
theorem dX4_isWithin_6 : decode cX4_isWithin 6 = .ok (.aload_n 0, 1) := dk_42 (dk_at dksX4_isWithin_0 6 rfl rfl)
theorem dX4_isWithin_7 : decode cX4_isWithin 7 = .ok (.getfield 23, 3) := dk_180 0 23 (dk_at dksX4_isWithin_0 7 rfl rfl)
theorem dX4_isWithin_10 : decode cX4_isWithin 10 = .ok (.iload_n 2, 1) := dk_28 (dk_at dksX4_isWithin_0 10 rfl rfl)
theorem dX4_isWithin_11 : decode cX4_isWithin 11 = .ok (.iaload, 1) := dk_46 (dk_at dksX4_isWithin_0 11 rfl rfl)
theorem dX4_isWithin_12 : decode cX4_isWithin 12 = .ok (.if_icmp .lt 7, 3) := dk_161 0 7 (dk_at dksX4_isWithin_0 12 rfl rfl)
theorem dX4_isWithin_15 : decode cX4_isWithin 15 = .ok (.iconst 1, 1) := dk_4 (dk_at dksX4_isWithin_0 15 rfl rfl)
theorem dX4_isWithin_16 : decode cX4_isWithin 16 = .ok (.goto 4, 3) := dk_167 0 4 (dk_at dksX4_isWithin_0 16 rfl rfl)
theorem dX4_isWithin_19 : decode cX4_isWithin 19 = .ok (.iconst 0, 1) := dk_3 (dk_at dksX4_isWithin_0 19 rfl rfl)
theorem dX4_isWithin_20 : decode cX4_isWithin 20 = .ok (.istore_n 3, 1) := dk_62 (dk_at dksX4_isWithin_0 20 rfl rfl)
theorem dX4_isWithin_21 : decode cX4_isWithin 21 = .ok (.iconst 0, 1) := dk_3 (dk_at dksX4_isWithin_0 21 rfl rfl)
theorem dX4_isWithin_22 : decode cX4_isWithin 22 = .ok (.istore 4, 2) := dk_54 4 (dk_at dksX4_isWithin_0 22 rfl rfl)
theorem dX4_isWithin_24 : decode cX4_isWithin 24 = .ok (.iload 4, 2) := dk_21 4 (dk_at dksX4_isWithin_1 0 rfl rfl)
theorem dX4_isWithin_26 : decode cX4_isWithin 26 = .ok (.aload_n 0, 1) := dk_42 (dk_at dksX4_isWithin_1 2 rfl rfl)
theorem dX4_isWithin_27 : decode cX4_isWithin 27 = .ok (.getfield 23, 3) := dk_180 0 23 (dk_at dksX4_isWithin_1 3 rfl rfl)
theorem dX4_isWithin_30 : decode cX4_isWithin 30 = .ok (.iload_n 2, 1) := dk_28 (dk_at dksX4_isWithin_1 6 rfl rfl)
theorem dX4_isWithin_31 : decode cX4_isWithin 31 = .ok (.iaload, 1) := dk_46 (dk_at dksX4_isWithin_1 7 rfl rfl)
theorem dX4_isWithin_32 : decode cX4_isWithin 32 = .ok (.if_icmp .ge 46, 3) := dk_162 0 46 (dk_at dksX4_isWithin_1 8 rfl rfl)
theorem dX4_isWithin_35 : decode cX4_isWithin 35 = .ok (.iload_n 3, 1) := dk_29 (dk_at dksX4_isWithin_1 11 rfl rfl)
theorem dX4_isWithin_36 : decode cX4_isWithin 36 = .ok (.ifCond .eq 42, 3) := dk_153 0 42 (dk_at dksX4_isWithin_1 12 rfl rfl)
theorem dX4_isWithin_39 : decode cX4_isWithin 39 = .ok (.aload_n 0, 1) := dk_42 (dk_at dksX4_isWithin_1 15 rfl rfl)
theorem dX4_isWithin_40 : decode cX4_isWithin 40 = .ok (.getfield 20, 3) := dk_180 0 20 (dk_at dksX4_isWithin_1 16 rfl rfl)
theorem dX4_isWithin_43 : decode cX4_isWithin 43 = .ok (.bipush 8, 2) := dk_16 8 (dk_at dksX4_isWithin_1 19 rfl rfl)
theorem dX4_isWithin_45 : decode cX4_isWithin 45 = .ok (.iload_n 1, 1) := dk_27 (dk_at dksX4_isWithin_1 21 rfl rfl)
theorem dX4_isWithin_46 : decode cX4_isWithin 46 = .ok (.imul, 1) := dk_104 (dk_at dksX4_isWithin_1 22 rfl rfl)
theorem dX4_isWithin_47 : decode cX4_isWithin 47 = .ok (.iload 4, 2) := dk_21 4 (dk_at dksX4_isWithin_2 0 rfl rfl)
theorem dX4_isWithin_49 : decode cX4_isWithin 49 = .ok (.iadd, 1) := dk_96 (dk_at dksX4_isWithin_2 2 rfl rfl)
theorem dX4_isWithin_50 : decode cX4_isWithin 50 = .ok (.caload, 1) := dk_52 (dk_at dksX4_isWithin_2 3 rfl rfl)
theorem dX4_isWithin_51 : decode cX4_isWithin 51 = .ok (.aload_n 0, 1) := dk_42 (dk_at dksX4_isWithin_2 4 rfl rfl)
theorem dX4_isWithin_52 : decode cX4_isWithin 52 = .ok (.getfield 20, 3) := dk_180 0 20 (dk_at dksX4_isWithin_2 5 rfl rfl)
theorem dX4_isWithin_55 : decode cX4_isWithin 55 = .ok (.bipush 8, 2) := dk_16 8 (dk_at dksX4_isWithin_2 8 rfl rfl)
theorem dX4_isWithin_57 : decode cX4_isWithin 57 = .ok (.iload_n 2, 1) := dk_28 (dk_at dksX4_isWithin_2 10 rfl rfl)
theorem dX4_isWithin_58 : decode cX4_isWithin 58 = .ok (.imul, 1) := dk_104 (dk_at dksX4_isWithin_2 11 rfl rfl)
theorem dX4_isWithin_59 : decode cX4_isWithin 59 = .ok (.iload 4, 2) := dk_21 4 (dk_at dksX4_isWithin_2 12 rfl rfl)
theorem dX4_isWithin_61 : decode cX4_isWithin 61 = .ok (.iadd, 1) := dk_96 (dk_at dksX4_isWithin_2 14 rfl rfl)
theorem dX4_isWithin_62 : decode cX4_isWithin 62 = .ok (.caload, 1) := dk_52 (dk_at dksX4_isWithin_2 15 rfl rfl)
theorem dX4_isWithin_63 : decode cX4_isWithin 63 = .ok (.if_icmp .ne 7, 3) := dk_160 0 7 (dk_at dksX4_isWithin_2 16 rfl rfl)
theorem dX4_isWithin_66 : decode cX4_isWithin 66 = .ok (.iconst 1, 1) := dk_4 (dk_at dksX4_isWithin_2 19 rfl rfl)
theorem dX4_isWithin_67 : decode cX4_isWithin 67 = .ok (.goto 4, 3) := dk_167 0 4 (dk_at dksX4_isWithin_2 20 rfl rfl)
theorem dX4_isWithin_70 : decode cX4_isWithin 70 = .ok (.iconst 0, 1) := dk_3 (dk_at dksX4_isWithin_2 23 rfl rfl)
theorem dX4_isWithin_71 : decode cX4_isWithin 71 = .ok (.istore_n 3, 1) := dk_62 (dk_at dksX4_isWithin_3 0 rfl rfl)
theorem dX4_isWithin_72 : decode cX4_isWithin 72 = .ok (.iinc 4 1, 3) := dk_132 4 1 (dk_at dksX4_isWithin_3 1 rfl rfl)
theorem dX4_isWithin_75 : decode cX4_isWithin 75 = .ok (.goto (-51), 3) := dk_167 255 205 (dk_at dksX4_isWithin_3 4 rfl rfl)
theorem dX4_isWithin_78 : decode cX4_isWithin 78 = .ok (.iload_n 3, 1) := dk_29 (dk_at dksX4_isWithin_3 7 rfl rfl)
theorem dX4_isWithin_79 : decode cX4_isWithin 79 = .ok (.ireturn, 1) := dk_172 (dk_at dksX4_isWithin_3 8 rfl rfl)
abbrev cX4_child : ByteArray := prog_7_method_15_code
def yX4_child : MethodName := ⟨RX4, "child", "(IC)I"⟩
def dkwX4_child_3 : List UInt8 := [52, 28, 160, 0, 8, 21, 4, 167, 0, 4, 29, 62, 132, 4, 1, 167, 255, 176, 29, 172]
abbrev dktX4_child_3 : List UInt8 := dkwX4_child_3 ++ []
def dkwX4_child_2 : List UInt8 := [3, 54, 5, 21, 5, 153, 0, 29, 42, 180, 0, 20, 16, 8, 21, 4, 104, 42, 180, 0, 23, 27, 46, 96]
abbrev dktX4_child_2 : List UInt8 := dkwX4_child_2 ++ dktX4_child_3
def dkwX4_child_1 : List UInt8 := [180, 0, 23, 27, 46, 4, 96, 160, 0, 17, 42, 21, 4, 27, 182, 0, 82, 153, 0, 7, 4, 167, 0, 4]
abbrev dktX4_child_1 : List UInt8 := dkwX4_child_1 ++ dktX4_child_2
def dkwX4_child_0 : List UInt8 := [2, 62, 3, 54, 4, 21, 4, 42, 180, 0, 16, 162, 0, 77, 42, 180, 0, 23, 21, 4, 46, 42]
abbrev dktX4_child_0 : List UInt8 := dkwX4_child_0 ++ dktX4_child_1
theorem dksX4_child_0 : cX4_child.data.toList.drop 0 = dktX4_child_0 := by decide +kernel
theorem dksX4_child_1 : cX4_child.data.toList.drop 22 = dktX4_child_1 := dk_seg dksX4_child_0 22 rfl rfl
theorem dksX4_child_2 : cX4_child.data.toList.drop 46 = dktX4_child_2 := dk_seg dksX4_child_1 24 rfl rfl
theorem dksX4_child_3 : cX4_child.data.toList.drop 70 = dktX4_child_3 := dk_seg dksX4_child_2 24 rfl rfl
theorem dX4_child_0 : decode cX4_child 0 = .ok (.iconst (-1), 1) := dk_2 (dk_at dksX4_child_0 0 rfl rfl)
theorem dX4_child_1 : decode cX4_child 1 = .ok (.istore_n 3, 1) := dk_62 (dk_at dksX4_child_0 1 rfl rfl)
theorem dX4_child_2 : decode cX4_child 2 = .ok (.iconst 0, 1) := dk_3 (dk_at dksX4_child_0 2 rfl rfl)
theorem dX4_child_3 : decode cX4_child 3 = .ok (.istore 4, 2) := dk_54 4 (dk_at dksX4_child_0 3 rfl rfl)
theorem dX4_child_5 : decode cX4_child 5 = .ok (.iload 4, 2) := dk_21 4 (dk_at dksX4_child_0 5 rfl rfl)
theorem dX4_child_7 : decode cX4_child 7 = .ok (.aload_n 0, 1) := dk_42 (dk_at dksX4_child_0 7 rfl rfl)
theorem dX4_child_8 : decode cX4_child 8 = .ok (.getfield 16, 3) := dk_180 0 16 (dk_at dksX4_child_0 8 rfl rfl)
theorem dX4_child_11 : decode cX4_child 11 = .ok (.if_icmp .ge 77, 3) := dk_162 0 77 (dk_at dksX4_child_0 11 rfl rfl)
theorem dX4_child_14 : decode cX4_child 14 = .ok (.aload_n 0, 1) := dk_42 (dk_at dksX4_child_0 14 rfl rfl)
theorem dX4_child_15 : decode cX4_child 15 = .ok (.getfield 23, 3) := dk_180 0 23 (dk_at dksX4_child_0 15 rfl rfl)
theorem dX4_child_18 : decode cX4_child 18 = .ok (.iload 4, 2) := dk_21 4 (dk_at dksX4_child_0 18 rfl rfl)
theorem dX4_child_20 : decode cX4_child 20 = .ok (.iaload, 1) := dk_46 (dk_at dksX4_child_0 20 rfl rfl)
theorem dX4_child_21 : decode cX4_child 21 = .ok (.aload_n 0, 1) := dk_42 (dk_at dksX4_child_0 21 rfl rfl)
theorem dX4_child_22 : decode cX4_child 22 = .ok (.getfield 23, 3) := dk_180 0 23 (dk_at dksX4_child_1 0 rfl rfl)
theorem dX4_child_25 : decode cX4_child 25 = .ok (.iload_n 1, 1) := dk_27 (dk_at dksX4_child_1 3 rfl rfl)
theorem dX4_child_26 : decode cX4_child 26 = .ok (.iaload, 1) := dk_46 (dk_at dksX4_child_1 4 rfl rfl)
theorem dX4_child_27 : decode cX4_child 27 = .ok (.iconst 1, 1) := dk_4 (dk_at dksX4_child_1 5 rfl rfl)
theorem dX4_child_28 : decode cX4_child 28 = .ok (.iadd, 1) := dk_96 (dk_at dksX4_child_1 6 rfl rfl)
theorem dX4_child_29 : decode cX4_child 29 = .ok (.if_icmp .ne 17, 3) := dk_160 0 17 (dk_at dksX4_child_1 7 rfl rfl)
theorem dX4_child_32 : decode cX4_child 32 = .ok (.aload_n 0, 1) := dk_42 (dk_at dksX4_child_1 10 rfl rfl)
theorem dX4_child_33 : decode cX4_child 33 = .ok (.iload 4, 2) := dk_21 4 (dk_at dksX4_child_1 11 rfl rfl)
theorem dX4_child_35 : decode cX4_child 35 = .ok (.iload_n 1, 1) := dk_27 (dk_at dksX4_child_1 13 rfl rfl)
theorem dX4_child_36 : decode cX4_child 36 = .ok (.invokevirtual 82, 3) := dk_182 0 82 (dk_at dksX4_child_1 14 rfl rfl)
theorem dX4_child_39 : decode cX4_child 39 = .ok (.ifCond .eq 7, 3) := dk_153 0 7 (dk_at dksX4_child_1 17 rfl rfl)
theorem dX4_child_42 : decode cX4_child 42 = .ok (.iconst 1, 1) := dk_4 (dk_at dksX4_child_1 20 rfl rfl)
theorem dX4_child_43 : decode cX4_child 43 = .ok (.goto 4, 3) := dk_167 0 4 (dk_at dksX4_child_1 21 rfl rfl)
theorem dX4_child_46 : decode cX4_child 46 = .ok (.iconst 0, 1) := dk_3 (dk_at dksX4_child_2 0 rfl rfl)
theorem dX4_child_47 : decode cX4_child 47 = .ok (.istore 5, 2) := dk_54 5 (dk_at dksX4_child_2 1 rfl rfl)
theorem dX4_child_49 : decode cX4_child 49 = .ok (.iload 5, 2) := dk_21 5 (dk_at dksX4_child_2 3 rfl rfl)
theorem dX4_child_51 : decode cX4_child 51 = .ok (.ifCond .eq 29, 3) := dk_153 0 29 (dk_at dksX4_child_2 5 rfl rfl)
theorem dX4_child_54 : decode cX4_child 54 = .ok (.aload_n 0, 1) := dk_42 (dk_at dksX4_child_2 8 rfl rfl)
theorem dX4_child_55 : decode cX4_child 55 = .ok (.getfield 20, 3) := dk_180 0 20 (dk_at dksX4_child_2 9 rfl rfl)
theorem dX4_child_58 : decode cX4_child 58 = .ok (.bipush 8, 2) := dk_16 8 (dk_at dksX4_child_2 12 rfl rfl)
theorem dX4_child_60 : decode cX4_child 60 = .ok (.iload 4, 2) := dk_21 4 (dk_at dksX4_child_2 14 rfl rfl)
theorem dX4_child_62 : decode cX4_child 62 = .ok (.imul, 1) := dk_104 (dk_at dksX4_child_2 16 rfl rfl)
theorem dX4_child_63 : decode cX4_child 63 = .ok (.aload_n 0, 1) := dk_42 (dk_at dksX4_child_2 17 rfl rfl)
theorem dX4_child_64 : decode cX4_child 64 = .ok (.getfield 23, 3) := dk_180 0 23 (dk_at dksX4_child_2 18 rfl rfl)
theorem dX4_child_67 : decode cX4_child 67 = .ok (.iload_n 1, 1) := dk_27 (dk_at dksX4_child_2 21 rfl rfl)
theorem dX4_child_68 : decode cX4_child 68 = .ok (.iaload, 1) := dk_46 (dk_at dksX4_child_2 22 rfl rfl)
theorem dX4_child_69 : decode cX4_child 69 = .ok (.iadd, 1) := dk_96 (dk_at dksX4_child_2 23 rfl rfl)
theorem dX4_child_70 : decode cX4_child 70 = .ok (.caload, 1) := dk_52 (dk_at dksX4_child_3 0 rfl rfl)
theorem dX4_child_71 : decode cX4_child 71 = .ok (.iload_n 2, 1) := dk_28 (dk_at dksX4_child_3 1 rfl rfl)
theorem dX4_child_72 : decode cX4_child 72 = .ok (.if_icmp .ne 8, 3) := dk_160 0 8 (dk_at dksX4_child_3 2 rfl rfl)
theorem dX4_child_75 : decode cX4_child 75 = .ok (.iload 4, 2) := dk_21 4 (dk_at dksX4_child_3 5 rfl rfl)
theorem dX4_child_77 : decode cX4_child 77 = .ok (.goto 4, 3) := dk_167 0 4 (dk_at dksX4_child_3 7 rfl rfl)
theorem dX4_child_80 : decode cX4_child 80 = .ok (.iload_n 3, 1) := dk_29 (dk_at dksX4_child_3 10 rfl rfl)
theorem dX4_child_81 : decode cX4_child 81 = .ok (.istore_n 3, 1) := dk_62 (dk_at dksX4_child_3 11 rfl rfl)
theorem dX4_child_82 : decode cX4_child 82 = .ok (.iinc 4 1, 3) := dk_132 4 1 (dk_at dksX4_child_3 12 rfl rfl)
theorem dX4_child_85 : decode cX4_child 85 = .ok (.goto (-80), 3) := dk_167 255 176 (dk_at dksX4_child_3 15 rfl rfl)
theorem dX4_child_88 : decode cX4_child 88 = .ok (.iload_n 3, 1) := dk_29 (dk_at dksX4_child_3 18 rfl rfl)
theorem dX4_child_89 : decode cX4_child 89 = .ok (.ireturn, 1) := dk_172 (dk_at dksX4_child_3 19 rfl rfl)
abbrev cX4_deepest : ByteArray := prog_7_method_14_code
def yX4_deepest : MethodName := ⟨RX4, "deepest", "(I)I"⟩
def dkwX4_deepest_2 : List UInt8 := [167, 255, 215, 28, 172]
abbrev dktX4_deepest_2 : List UInt8 := dkwX4_deepest_2 ++ []
def dkwX4_deepest_1 : List UInt8 := [180, 0, 23, 29, 46, 28, 164, 0, 12, 42, 180, 0, 23, 29, 46, 167, 0, 4, 28, 61, 132, 3, 1]
abbrev dktX4_deepest_1 : List UInt8 := dkwX4_deepest_1 ++ dktX4_deepest_2
def dkwX4_deepest_0 : List UInt8 := [3, 61, 3, 62, 29, 42, 180, 0, 16, 162, 0, 39, 42, 29, 27, 182, 0, 82, 153, 0, 22, 42]
abbrev dktX4_deepest_0 : List UInt8 := dkwX4_deepest_0 ++ dktX4_deepest_1
theorem dksX4_deepest_0 : cX4_deepest.data.toList.drop 0 = dktX4_deepest_0 := by decide +kernel
theorem dksX4_deepest_1 : cX4_deepest.data.toList.drop 22 = dktX4_deepest_1 := dk_seg dksX4_deepest_0 22 rfl rfl
theorem dksX4_deepest_2 : cX4_deepest.data.toList.drop 45 = dktX4_deepest_2 := dk_seg dksX4_deepest_1 23 rfl rfl
theorem dX4_deepest_0 : decode cX4_deepest 0 = .ok (.iconst 0, 1) := dk_3 (dk_at dksX4_deepest_0 0 rfl rfl)
theorem dX4_deepest_1 : decode cX4_deepest 1 = .ok (.istore_n 2, 1) := dk_61 (dk_at dksX4_deepest_0 1 rfl rfl)
theorem dX4_deepest_2 : decode cX4_deepest 2 = .ok (.iconst 0, 1) := dk_3 (dk_at dksX4_deepest_0 2 rfl rfl)
theorem dX4_deepest_3 : decode cX4_deepest 3 = .ok (.istore_n 3, 1) := dk_62 (dk_at dksX4_deepest_0 3 rfl rfl)
theorem dX4_deepest_4 : decode cX4_deepest 4 = .ok (.iload_n 3, 1) := dk_29 (dk_at dksX4_deepest_0 4 rfl rfl)
theorem dX4_deepest_5 : decode cX4_deepest 5 = .ok (.aload_n 0, 1) := dk_42 (dk_at dksX4_deepest_0 5 rfl rfl)
theorem dX4_deepest_6 : decode cX4_deepest 6 = .ok (.getfield 16, 3) := dk_180 0 16 (dk_at dksX4_deepest_0 6 rfl rfl)
theorem dX4_deepest_9 : decode cX4_deepest 9 = .ok (.if_icmp .ge 39, 3) := dk_162 0 39 (dk_at dksX4_deepest_0 9 rfl rfl)
theorem dX4_deepest_12 : decode cX4_deepest 12 = .ok (.aload_n 0, 1) := dk_42 (dk_at dksX4_deepest_0 12 rfl rfl)
theorem dX4_deepest_13 : decode cX4_deepest 13 = .ok (.iload_n 3, 1) := dk_29 (dk_at dksX4_deepest_0 13 rfl rfl)
theorem dX4_deepest_14 : decode cX4_deepest 14 = .ok (.iload_n 1, 1) := dk_27 (dk_at dksX4_deepest_0 14 rfl rfl)
theorem dX4_deepest_15 : decode cX4_deepest 15 = .ok (.invokevirtual 82, 3) := dk_182 0 82 (dk_at dksX4_deepest_0 15 rfl rfl)
theorem dX4_deepest_18 : decode cX4_deepest 18 = .ok (.ifCond .eq 22, 3) := dk_153 0 22 (dk_at dksX4_deepest_0 18 rfl rfl)
theorem dX4_deepest_21 : decode cX4_deepest 21 = .ok (.aload_n 0, 1) := dk_42 (dk_at dksX4_deepest_0 21 rfl rfl)
theorem dX4_deepest_22 : decode cX4_deepest 22 = .ok (.getfield 23, 3) := dk_180 0 23 (dk_at dksX4_deepest_1 0 rfl rfl)
theorem dX4_deepest_25 : decode cX4_deepest 25 = .ok (.iload_n 3, 1) := dk_29 (dk_at dksX4_deepest_1 3 rfl rfl)
theorem dX4_deepest_26 : decode cX4_deepest 26 = .ok (.iaload, 1) := dk_46 (dk_at dksX4_deepest_1 4 rfl rfl)
theorem dX4_deepest_27 : decode cX4_deepest 27 = .ok (.iload_n 2, 1) := dk_28 (dk_at dksX4_deepest_1 5 rfl rfl)
theorem dX4_deepest_28 : decode cX4_deepest 28 = .ok (.if_icmp .le 12, 3) := dk_164 0 12 (dk_at dksX4_deepest_1 6 rfl rfl)
theorem dX4_deepest_31 : decode cX4_deepest 31 = .ok (.aload_n 0, 1) := dk_42 (dk_at dksX4_deepest_1 9 rfl rfl)
theorem dX4_deepest_32 : decode cX4_deepest 32 = .ok (.getfield 23, 3) := dk_180 0 23 (dk_at dksX4_deepest_1 10 rfl rfl)
theorem dX4_deepest_35 : decode cX4_deepest 35 = .ok (.iload_n 3, 1) := dk_29 (dk_at dksX4_deepest_1 13 rfl rfl)
theorem dX4_deepest_36 : decode cX4_deepest 36 = .ok (.iaload, 1) := dk_46 (dk_at dksX4_deepest_1 14 rfl rfl)
theorem dX4_deepest_37 : decode cX4_deepest 37 = .ok (.goto 4, 3) := dk_167 0 4 (dk_at dksX4_deepest_1 15 rfl rfl)
theorem dX4_deepest_40 : decode cX4_deepest 40 = .ok (.iload_n 2, 1) := dk_28 (dk_at dksX4_deepest_1 18 rfl rfl)
theorem dX4_deepest_41 : decode cX4_deepest 41 = .ok (.istore_n 2, 1) := dk_61 (dk_at dksX4_deepest_1 19 rfl rfl)
theorem dX4_deepest_42 : decode cX4_deepest 42 = .ok (.iinc 3 1, 3) := dk_132 3 1 (dk_at dksX4_deepest_1 20 rfl rfl)
theorem dX4_deepest_45 : decode cX4_deepest 45 = .ok (.goto (-41), 3) := dk_167 255 215 (dk_at dksX4_deepest_2 0 rfl rfl)
theorem dX4_deepest_48 : decode cX4_deepest 48 = .ok (.iload_n 2, 1) := dk_28 (dk_at dksX4_deepest_2 3 rfl rfl)
theorem dX4_deepest_49 : decode cX4_deepest 49 = .ok (.ireturn, 1) := dk_172 (dk_at dksX4_deepest_2 4 rfl rfl)
abbrev cX4_lead : ByteArray := prog_7_method_18_code
def yX4_lead : MethodName := ⟨RX4, "lead", "(II)V"⟩
def dkwX4_lead_4 : List UInt8 := [180, 0, 64, 100, 28, 96, 52, 85, 132, 4, 1, 167, 255, 202, 42, 180, 0, 23, 27, 29, 79, 177]
abbrev dktX4_lead_4 : List UInt8 := dkwX4_lead_4 ++ []
def dkwX4_lead_3 : List UInt8 := [180, 0, 64, 162, 0, 13, 42, 180, 0, 7, 21, 4, 52, 167, 0, 17, 42, 180, 0, 13, 21, 4, 42]
abbrev dktX4_lead_3 : List UInt8 := dkwX4_lead_3 ++ dktX4_lead_4
def dkwX4_lead_2 : List UInt8 := [62, 3, 54, 4, 21, 4, 29, 162, 0, 54, 42, 180, 0, 20, 16, 8, 27, 104, 21, 4, 96, 21, 4, 42]
abbrev dktX4_lead_2 : List UInt8 := dkwX4_lead_2 ++ dktX4_lead_3
def dkwX4_lead_1 : List UInt8 := [104, 29, 96, 52, 85, 132, 3, 1, 167, 255, 226, 42, 180, 0, 23, 27, 46, 28, 100, 42, 180, 0, 64, 96]
abbrev dktX4_lead_1 : List UInt8 := dkwX4_lead_1 ++ dktX4_lead_2
def dkwX4_lead_0 : List UInt8 := [3, 62, 29, 42, 180, 0, 23, 27, 46, 162, 0, 26, 42, 180, 0, 13, 29, 42, 180, 0, 20, 16, 8, 27]
abbrev dktX4_lead_0 : List UInt8 := dkwX4_lead_0 ++ dktX4_lead_1
theorem dksX4_lead_0 : cX4_lead.data.toList.drop 0 = dktX4_lead_0 := by decide +kernel
theorem dksX4_lead_1 : cX4_lead.data.toList.drop 24 = dktX4_lead_1 := dk_seg dksX4_lead_0 24 rfl rfl
theorem dksX4_lead_2 : cX4_lead.data.toList.drop 48 = dktX4_lead_2 := dk_seg dksX4_lead_1 24 rfl rfl
theorem dksX4_lead_3 : cX4_lead.data.toList.drop 72 = dktX4_lead_3 := dk_seg dksX4_lead_2 24 rfl rfl
theorem dksX4_lead_4 : cX4_lead.data.toList.drop 95 = dktX4_lead_4 := dk_seg dksX4_lead_3 23 rfl rfl
theorem dX4_lead_0 : decode cX4_lead 0 = .ok (.iconst 0, 1) := dk_3 (dk_at dksX4_lead_0 0 rfl rfl)
theorem dX4_lead_1 : decode cX4_lead 1 = .ok (.istore_n 3, 1) := dk_62 (dk_at dksX4_lead_0 1 rfl rfl)
theorem dX4_lead_2 : decode cX4_lead 2 = .ok (.iload_n 3, 1) := dk_29 (dk_at dksX4_lead_0 2 rfl rfl)
theorem dX4_lead_3 : decode cX4_lead 3 = .ok (.aload_n 0, 1) := dk_42 (dk_at dksX4_lead_0 3 rfl rfl)
theorem dX4_lead_4 : decode cX4_lead 4 = .ok (.getfield 23, 3) := dk_180 0 23 (dk_at dksX4_lead_0 4 rfl rfl)
theorem dX4_lead_7 : decode cX4_lead 7 = .ok (.iload_n 1, 1) := dk_27 (dk_at dksX4_lead_0 7 rfl rfl)
theorem dX4_lead_8 : decode cX4_lead 8 = .ok (.iaload, 1) := dk_46 (dk_at dksX4_lead_0 8 rfl rfl)
theorem dX4_lead_9 : decode cX4_lead 9 = .ok (.if_icmp .ge 26, 3) := dk_162 0 26 (dk_at dksX4_lead_0 9 rfl rfl)
theorem dX4_lead_12 : decode cX4_lead 12 = .ok (.aload_n 0, 1) := dk_42 (dk_at dksX4_lead_0 12 rfl rfl)
theorem dX4_lead_13 : decode cX4_lead 13 = .ok (.getfield 13, 3) := dk_180 0 13 (dk_at dksX4_lead_0 13 rfl rfl)
theorem dX4_lead_16 : decode cX4_lead 16 = .ok (.iload_n 3, 1) := dk_29 (dk_at dksX4_lead_0 16 rfl rfl)
theorem dX4_lead_17 : decode cX4_lead 17 = .ok (.aload_n 0, 1) := dk_42 (dk_at dksX4_lead_0 17 rfl rfl)
theorem dX4_lead_18 : decode cX4_lead 18 = .ok (.getfield 20, 3) := dk_180 0 20 (dk_at dksX4_lead_0 18 rfl rfl)
theorem dX4_lead_21 : decode cX4_lead 21 = .ok (.bipush 8, 2) := dk_16 8 (dk_at dksX4_lead_0 21 rfl rfl)
theorem dX4_lead_23 : decode cX4_lead 23 = .ok (.iload_n 1, 1) := dk_27 (dk_at dksX4_lead_0 23 rfl rfl)
theorem dX4_lead_24 : decode cX4_lead 24 = .ok (.imul, 1) := dk_104 (dk_at dksX4_lead_1 0 rfl rfl)
theorem dX4_lead_25 : decode cX4_lead 25 = .ok (.iload_n 3, 1) := dk_29 (dk_at dksX4_lead_1 1 rfl rfl)
theorem dX4_lead_26 : decode cX4_lead 26 = .ok (.iadd, 1) := dk_96 (dk_at dksX4_lead_1 2 rfl rfl)
theorem dX4_lead_27 : decode cX4_lead 27 = .ok (.caload, 1) := dk_52 (dk_at dksX4_lead_1 3 rfl rfl)
theorem dX4_lead_28 : decode cX4_lead 28 = .ok (.castore, 1) := dk_85 (dk_at dksX4_lead_1 4 rfl rfl)
theorem dX4_lead_29 : decode cX4_lead 29 = .ok (.iinc 3 1, 3) := dk_132 3 1 (dk_at dksX4_lead_1 5 rfl rfl)
theorem dX4_lead_32 : decode cX4_lead 32 = .ok (.goto (-30), 3) := dk_167 255 226 (dk_at dksX4_lead_1 8 rfl rfl)
theorem dX4_lead_35 : decode cX4_lead 35 = .ok (.aload_n 0, 1) := dk_42 (dk_at dksX4_lead_1 11 rfl rfl)
theorem dX4_lead_36 : decode cX4_lead 36 = .ok (.getfield 23, 3) := dk_180 0 23 (dk_at dksX4_lead_1 12 rfl rfl)
theorem dX4_lead_39 : decode cX4_lead 39 = .ok (.iload_n 1, 1) := dk_27 (dk_at dksX4_lead_1 15 rfl rfl)
theorem dX4_lead_40 : decode cX4_lead 40 = .ok (.iaload, 1) := dk_46 (dk_at dksX4_lead_1 16 rfl rfl)
theorem dX4_lead_41 : decode cX4_lead 41 = .ok (.iload_n 2, 1) := dk_28 (dk_at dksX4_lead_1 17 rfl rfl)
theorem dX4_lead_42 : decode cX4_lead 42 = .ok (.isub, 1) := dk_100 (dk_at dksX4_lead_1 18 rfl rfl)
theorem dX4_lead_43 : decode cX4_lead 43 = .ok (.aload_n 0, 1) := dk_42 (dk_at dksX4_lead_1 19 rfl rfl)
theorem dX4_lead_44 : decode cX4_lead 44 = .ok (.getfield 64, 3) := dk_180 0 64 (dk_at dksX4_lead_1 20 rfl rfl)
theorem dX4_lead_47 : decode cX4_lead 47 = .ok (.iadd, 1) := dk_96 (dk_at dksX4_lead_1 23 rfl rfl)
theorem dX4_lead_48 : decode cX4_lead 48 = .ok (.istore_n 3, 1) := dk_62 (dk_at dksX4_lead_2 0 rfl rfl)
theorem dX4_lead_49 : decode cX4_lead 49 = .ok (.iconst 0, 1) := dk_3 (dk_at dksX4_lead_2 1 rfl rfl)
theorem dX4_lead_50 : decode cX4_lead 50 = .ok (.istore 4, 2) := dk_54 4 (dk_at dksX4_lead_2 2 rfl rfl)
theorem dX4_lead_52 : decode cX4_lead 52 = .ok (.iload 4, 2) := dk_21 4 (dk_at dksX4_lead_2 4 rfl rfl)
theorem dX4_lead_54 : decode cX4_lead 54 = .ok (.iload_n 3, 1) := dk_29 (dk_at dksX4_lead_2 6 rfl rfl)
theorem dX4_lead_55 : decode cX4_lead 55 = .ok (.if_icmp .ge 54, 3) := dk_162 0 54 (dk_at dksX4_lead_2 7 rfl rfl)
theorem dX4_lead_58 : decode cX4_lead 58 = .ok (.aload_n 0, 1) := dk_42 (dk_at dksX4_lead_2 10 rfl rfl)
theorem dX4_lead_59 : decode cX4_lead 59 = .ok (.getfield 20, 3) := dk_180 0 20 (dk_at dksX4_lead_2 11 rfl rfl)
theorem dX4_lead_62 : decode cX4_lead 62 = .ok (.bipush 8, 2) := dk_16 8 (dk_at dksX4_lead_2 14 rfl rfl)
theorem dX4_lead_64 : decode cX4_lead 64 = .ok (.iload_n 1, 1) := dk_27 (dk_at dksX4_lead_2 16 rfl rfl)
theorem dX4_lead_65 : decode cX4_lead 65 = .ok (.imul, 1) := dk_104 (dk_at dksX4_lead_2 17 rfl rfl)
theorem dX4_lead_66 : decode cX4_lead 66 = .ok (.iload 4, 2) := dk_21 4 (dk_at dksX4_lead_2 18 rfl rfl)
theorem dX4_lead_68 : decode cX4_lead 68 = .ok (.iadd, 1) := dk_96 (dk_at dksX4_lead_2 20 rfl rfl)
theorem dX4_lead_69 : decode cX4_lead 69 = .ok (.iload 4, 2) := dk_21 4 (dk_at dksX4_lead_2 21 rfl rfl)
theorem dX4_lead_71 : decode cX4_lead 71 = .ok (.aload_n 0, 1) := dk_42 (dk_at dksX4_lead_2 23 rfl rfl)
theorem dX4_lead_72 : decode cX4_lead 72 = .ok (.getfield 64, 3) := dk_180 0 64 (dk_at dksX4_lead_3 0 rfl rfl)
theorem dX4_lead_75 : decode cX4_lead 75 = .ok (.if_icmp .ge 13, 3) := dk_162 0 13 (dk_at dksX4_lead_3 3 rfl rfl)
theorem dX4_lead_78 : decode cX4_lead 78 = .ok (.aload_n 0, 1) := dk_42 (dk_at dksX4_lead_3 6 rfl rfl)
theorem dX4_lead_79 : decode cX4_lead 79 = .ok (.getfield 7, 3) := dk_180 0 7 (dk_at dksX4_lead_3 7 rfl rfl)
theorem dX4_lead_82 : decode cX4_lead 82 = .ok (.iload 4, 2) := dk_21 4 (dk_at dksX4_lead_3 10 rfl rfl)
theorem dX4_lead_84 : decode cX4_lead 84 = .ok (.caload, 1) := dk_52 (dk_at dksX4_lead_3 12 rfl rfl)
theorem dX4_lead_85 : decode cX4_lead 85 = .ok (.goto 17, 3) := dk_167 0 17 (dk_at dksX4_lead_3 13 rfl rfl)
theorem dX4_lead_88 : decode cX4_lead 88 = .ok (.aload_n 0, 1) := dk_42 (dk_at dksX4_lead_3 16 rfl rfl)
theorem dX4_lead_89 : decode cX4_lead 89 = .ok (.getfield 13, 3) := dk_180 0 13 (dk_at dksX4_lead_3 17 rfl rfl)
theorem dX4_lead_92 : decode cX4_lead 92 = .ok (.iload 4, 2) := dk_21 4 (dk_at dksX4_lead_3 20 rfl rfl)
theorem dX4_lead_94 : decode cX4_lead 94 = .ok (.aload_n 0, 1) := dk_42 (dk_at dksX4_lead_3 22 rfl rfl)
theorem dX4_lead_95 : decode cX4_lead 95 = .ok (.getfield 64, 3) := dk_180 0 64 (dk_at dksX4_lead_4 0 rfl rfl)
theorem dX4_lead_98 : decode cX4_lead 98 = .ok (.isub, 1) := dk_100 (dk_at dksX4_lead_4 3 rfl rfl)
theorem dX4_lead_99 : decode cX4_lead 99 = .ok (.iload_n 2, 1) := dk_28 (dk_at dksX4_lead_4 4 rfl rfl)
theorem dX4_lead_100 : decode cX4_lead 100 = .ok (.iadd, 1) := dk_96 (dk_at dksX4_lead_4 5 rfl rfl)
theorem dX4_lead_101 : decode cX4_lead 101 = .ok (.caload, 1) := dk_52 (dk_at dksX4_lead_4 6 rfl rfl)
theorem dX4_lead_102 : decode cX4_lead 102 = .ok (.castore, 1) := dk_85 (dk_at dksX4_lead_4 7 rfl rfl)
theorem dX4_lead_103 : decode cX4_lead 103 = .ok (.iinc 4 1, 3) := dk_132 4 1 (dk_at dksX4_lead_4 8 rfl rfl)
theorem dX4_lead_106 : decode cX4_lead 106 = .ok (.goto (-54), 3) := dk_167 255 202 (dk_at dksX4_lead_4 11 rfl rfl)
theorem dX4_lead_109 : decode cX4_lead 109 = .ok (.aload_n 0, 1) := dk_42 (dk_at dksX4_lead_4 14 rfl rfl)
theorem dX4_lead_110 : decode cX4_lead 110 = .ok (.getfield 23, 3) := dk_180 0 23 (dk_at dksX4_lead_4 15 rfl rfl)
theorem dX4_lead_113 : decode cX4_lead 113 = .ok (.iload_n 1, 1) := dk_27 (dk_at dksX4_lead_4 18 rfl rfl)
theorem dX4_lead_114 : decode cX4_lead 114 = .ok (.iload_n 3, 1) := dk_29 (dk_at dksX4_lead_4 19 rfl rfl)
theorem dX4_lead_115 : decode cX4_lead 115 = .ok (.iastore, 1) := dk_79 (dk_at dksX4_lead_4 20 rfl rfl)
theorem dX4_lead_116 : decode cX4_lead 116 = .ok (.return_, 1) := dk_177 (dk_at dksX4_lead_4 21 rfl rfl)
abbrev cX4_look : ByteArray := prog_7_method_26_code
def yX4_look : MethodName := ⟨RX4, "look", "()V"⟩
def dkwX4_look_3 : List UInt8 := [180, 0, 122, 167, 0, 9, 42, 180, 0, 58, 27, 46, 79, 132, 1, 1, 167, 255, 171, 177]
abbrev dktX4_look_3 : List UInt8 := dkwX4_look_3 ++ []
def dkwX4_look_2 : List UInt8 := [180, 0, 58, 27, 28, 154, 0, 7, 2, 167, 0, 26, 42, 180, 0, 58, 27, 46, 2, 160, 0, 10, 42]
abbrev dktX4_look_2 : List UInt8 := dkwX4_look_2 ++ dktX4_look_3
def dkwX4_look_1 : List UInt8 := [27, 42, 180, 0, 115, 182, 0, 118, 42, 180, 0, 49, 27, 46, 164, 0, 7, 4, 167, 0, 4, 3, 61, 42]
abbrev dktX4_look_1 : List UInt8 := dkwX4_look_1 ++ dktX4_look_2
def dkwX4_look_0 : List UInt8 := [3, 60, 27, 16, 9, 42, 180, 0, 16, 96, 162, 0, 80, 42, 180, 0, 49, 27, 46, 2, 159, 0, 25, 42]
abbrev dktX4_look_0 : List UInt8 := dkwX4_look_0 ++ dktX4_look_1
theorem dksX4_look_0 : cX4_look.data.toList.drop 0 = dktX4_look_0 := by decide +kernel
theorem dksX4_look_1 : cX4_look.data.toList.drop 24 = dktX4_look_1 := dk_seg dksX4_look_0 24 rfl rfl
theorem dksX4_look_2 : cX4_look.data.toList.drop 48 = dktX4_look_2 := dk_seg dksX4_look_1 24 rfl rfl
theorem dksX4_look_3 : cX4_look.data.toList.drop 71 = dktX4_look_3 := dk_seg dksX4_look_2 23 rfl rfl
theorem dX4_look_0 : decode cX4_look 0 = .ok (.iconst 0, 1) := dk_3 (dk_at dksX4_look_0 0 rfl rfl)
theorem dX4_look_1 : decode cX4_look 1 = .ok (.istore_n 1, 1) := dk_60 (dk_at dksX4_look_0 1 rfl rfl)
theorem dX4_look_2 : decode cX4_look 2 = .ok (.iload_n 1, 1) := dk_27 (dk_at dksX4_look_0 2 rfl rfl)
theorem dX4_look_3 : decode cX4_look 3 = .ok (.bipush 9, 2) := dk_16 9 (dk_at dksX4_look_0 3 rfl rfl)
theorem dX4_look_5 : decode cX4_look 5 = .ok (.aload_n 0, 1) := dk_42 (dk_at dksX4_look_0 5 rfl rfl)
theorem dX4_look_6 : decode cX4_look 6 = .ok (.getfield 16, 3) := dk_180 0 16 (dk_at dksX4_look_0 6 rfl rfl)
theorem dX4_look_9 : decode cX4_look 9 = .ok (.iadd, 1) := dk_96 (dk_at dksX4_look_0 9 rfl rfl)
theorem dX4_look_10 : decode cX4_look 10 = .ok (.if_icmp .ge 80, 3) := dk_162 0 80 (dk_at dksX4_look_0 10 rfl rfl)
theorem dX4_look_13 : decode cX4_look 13 = .ok (.aload_n 0, 1) := dk_42 (dk_at dksX4_look_0 13 rfl rfl)
theorem dX4_look_14 : decode cX4_look 14 = .ok (.getfield 49, 3) := dk_180 0 49 (dk_at dksX4_look_0 14 rfl rfl)
theorem dX4_look_17 : decode cX4_look 17 = .ok (.iload_n 1, 1) := dk_27 (dk_at dksX4_look_0 17 rfl rfl)
theorem dX4_look_18 : decode cX4_look 18 = .ok (.iaload, 1) := dk_46 (dk_at dksX4_look_0 18 rfl rfl)
theorem dX4_look_19 : decode cX4_look 19 = .ok (.iconst (-1), 1) := dk_2 (dk_at dksX4_look_0 19 rfl rfl)
theorem dX4_look_20 : decode cX4_look 20 = .ok (.if_icmp .eq 25, 3) := dk_159 0 25 (dk_at dksX4_look_0 20 rfl rfl)
theorem dX4_look_23 : decode cX4_look 23 = .ok (.aload_n 0, 1) := dk_42 (dk_at dksX4_look_0 23 rfl rfl)
theorem dX4_look_24 : decode cX4_look 24 = .ok (.iload_n 1, 1) := dk_27 (dk_at dksX4_look_1 0 rfl rfl)
theorem dX4_look_25 : decode cX4_look 25 = .ok (.aload_n 0, 1) := dk_42 (dk_at dksX4_look_1 1 rfl rfl)
theorem dX4_look_26 : decode cX4_look 26 = .ok (.getfield 115, 3) := dk_180 0 115 (dk_at dksX4_look_1 2 rfl rfl)
theorem dX4_look_29 : decode cX4_look 29 = .ok (.invokevirtual 118, 3) := dk_182 0 118 (dk_at dksX4_look_1 5 rfl rfl)
theorem dX4_look_32 : decode cX4_look 32 = .ok (.aload_n 0, 1) := dk_42 (dk_at dksX4_look_1 8 rfl rfl)
theorem dX4_look_33 : decode cX4_look 33 = .ok (.getfield 49, 3) := dk_180 0 49 (dk_at dksX4_look_1 9 rfl rfl)
theorem dX4_look_36 : decode cX4_look 36 = .ok (.iload_n 1, 1) := dk_27 (dk_at dksX4_look_1 12 rfl rfl)
theorem dX4_look_37 : decode cX4_look 37 = .ok (.iaload, 1) := dk_46 (dk_at dksX4_look_1 13 rfl rfl)
theorem dX4_look_38 : decode cX4_look 38 = .ok (.if_icmp .le 7, 3) := dk_164 0 7 (dk_at dksX4_look_1 14 rfl rfl)
theorem dX4_look_41 : decode cX4_look 41 = .ok (.iconst 1, 1) := dk_4 (dk_at dksX4_look_1 17 rfl rfl)
theorem dX4_look_42 : decode cX4_look 42 = .ok (.goto 4, 3) := dk_167 0 4 (dk_at dksX4_look_1 18 rfl rfl)
theorem dX4_look_45 : decode cX4_look 45 = .ok (.iconst 0, 1) := dk_3 (dk_at dksX4_look_1 21 rfl rfl)
theorem dX4_look_46 : decode cX4_look 46 = .ok (.istore_n 2, 1) := dk_61 (dk_at dksX4_look_1 22 rfl rfl)
theorem dX4_look_47 : decode cX4_look 47 = .ok (.aload_n 0, 1) := dk_42 (dk_at dksX4_look_1 23 rfl rfl)
theorem dX4_look_48 : decode cX4_look 48 = .ok (.getfield 58, 3) := dk_180 0 58 (dk_at dksX4_look_2 0 rfl rfl)
theorem dX4_look_51 : decode cX4_look 51 = .ok (.iload_n 1, 1) := dk_27 (dk_at dksX4_look_2 3 rfl rfl)
theorem dX4_look_52 : decode cX4_look 52 = .ok (.iload_n 2, 1) := dk_28 (dk_at dksX4_look_2 4 rfl rfl)
theorem dX4_look_53 : decode cX4_look 53 = .ok (.ifCond .ne 7, 3) := dk_154 0 7 (dk_at dksX4_look_2 5 rfl rfl)
theorem dX4_look_56 : decode cX4_look 56 = .ok (.iconst (-1), 1) := dk_2 (dk_at dksX4_look_2 8 rfl rfl)
theorem dX4_look_57 : decode cX4_look 57 = .ok (.goto 26, 3) := dk_167 0 26 (dk_at dksX4_look_2 9 rfl rfl)
theorem dX4_look_60 : decode cX4_look 60 = .ok (.aload_n 0, 1) := dk_42 (dk_at dksX4_look_2 12 rfl rfl)
theorem dX4_look_61 : decode cX4_look 61 = .ok (.getfield 58, 3) := dk_180 0 58 (dk_at dksX4_look_2 13 rfl rfl)
theorem dX4_look_64 : decode cX4_look 64 = .ok (.iload_n 1, 1) := dk_27 (dk_at dksX4_look_2 16 rfl rfl)
theorem dX4_look_65 : decode cX4_look 65 = .ok (.iaload, 1) := dk_46 (dk_at dksX4_look_2 17 rfl rfl)
theorem dX4_look_66 : decode cX4_look 66 = .ok (.iconst (-1), 1) := dk_2 (dk_at dksX4_look_2 18 rfl rfl)
theorem dX4_look_67 : decode cX4_look 67 = .ok (.if_icmp .ne 10, 3) := dk_160 0 10 (dk_at dksX4_look_2 19 rfl rfl)
theorem dX4_look_70 : decode cX4_look 70 = .ok (.aload_n 0, 1) := dk_42 (dk_at dksX4_look_2 22 rfl rfl)
theorem dX4_look_71 : decode cX4_look 71 = .ok (.getfield 122, 3) := dk_180 0 122 (dk_at dksX4_look_3 0 rfl rfl)
theorem dX4_look_74 : decode cX4_look 74 = .ok (.goto 9, 3) := dk_167 0 9 (dk_at dksX4_look_3 3 rfl rfl)
theorem dX4_look_77 : decode cX4_look 77 = .ok (.aload_n 0, 1) := dk_42 (dk_at dksX4_look_3 6 rfl rfl)
theorem dX4_look_78 : decode cX4_look 78 = .ok (.getfield 58, 3) := dk_180 0 58 (dk_at dksX4_look_3 7 rfl rfl)
theorem dX4_look_81 : decode cX4_look 81 = .ok (.iload_n 1, 1) := dk_27 (dk_at dksX4_look_3 10 rfl rfl)
theorem dX4_look_82 : decode cX4_look 82 = .ok (.iaload, 1) := dk_46 (dk_at dksX4_look_3 11 rfl rfl)
theorem dX4_look_83 : decode cX4_look 83 = .ok (.iastore, 1) := dk_79 (dk_at dksX4_look_3 12 rfl rfl)
theorem dX4_look_84 : decode cX4_look 84 = .ok (.iinc 1 1, 3) := dk_132 1 1 (dk_at dksX4_look_3 13 rfl rfl)
theorem dX4_look_87 : decode cX4_look 87 = .ok (.goto (-85), 3) := dk_167 255 171 (dk_at dksX4_look_3 16 rfl rfl)
theorem dX4_look_90 : decode cX4_look 90 = .ok (.return_, 1) := dk_177 (dk_at dksX4_look_3 19 rfl rfl)
abbrev cX4_sum : ByteArray := prog_7_method_24_code
def yX4_sum : MethodName := ⟨RX4, "sum", "(II)I"⟩
def dkwX4_sum_1 : List UInt8 := [21, 4, 182, 0, 112, 167, 0, 4, 3, 96, 62, 132, 4, 1, 167, 255, 224, 29, 172]
abbrev dktX4_sum_1 : List UInt8 := dkwX4_sum_1 ++ []
def dkwX4_sum_0 : List UInt8 := [3, 62, 3, 54, 4, 21, 4, 28, 162, 0, 32, 29, 42, 21, 4, 27, 182, 0, 109, 153, 0, 12, 42]
abbrev dktX4_sum_0 : List UInt8 := dkwX4_sum_0 ++ dktX4_sum_1
theorem dksX4_sum_0 : cX4_sum.data.toList.drop 0 = dktX4_sum_0 := by decide +kernel
theorem dksX4_sum_1 : cX4_sum.data.toList.drop 23 = dktX4_sum_1 := dk_seg dksX4_sum_0 23 rfl rfl
theorem dX4_sum_0 : decode cX4_sum 0 = .ok (.iconst 0, 1) := dk_3 (dk_at dksX4_sum_0 0 rfl rfl)
theorem dX4_sum_1 : decode cX4_sum 1 = .ok (.istore_n 3, 1) := dk_62 (dk_at dksX4_sum_0 1 rfl rfl)
theorem dX4_sum_2 : decode cX4_sum 2 = .ok (.iconst 0, 1) := dk_3 (dk_at dksX4_sum_0 2 rfl rfl)
theorem dX4_sum_3 : decode cX4_sum 3 = .ok (.istore 4, 2) := dk_54 4 (dk_at dksX4_sum_0 3 rfl rfl)
theorem dX4_sum_5 : decode cX4_sum 5 = .ok (.iload 4, 2) := dk_21 4 (dk_at dksX4_sum_0 5 rfl rfl)
theorem dX4_sum_7 : decode cX4_sum 7 = .ok (.iload_n 2, 1) := dk_28 (dk_at dksX4_sum_0 7 rfl rfl)
theorem dX4_sum_8 : decode cX4_sum 8 = .ok (.if_icmp .ge 32, 3) := dk_162 0 32 (dk_at dksX4_sum_0 8 rfl rfl)
theorem dX4_sum_11 : decode cX4_sum 11 = .ok (.iload_n 3, 1) := dk_29 (dk_at dksX4_sum_0 11 rfl rfl)
theorem dX4_sum_12 : decode cX4_sum 12 = .ok (.aload_n 0, 1) := dk_42 (dk_at dksX4_sum_0 12 rfl rfl)
theorem dX4_sum_13 : decode cX4_sum 13 = .ok (.iload 4, 2) := dk_21 4 (dk_at dksX4_sum_0 13 rfl rfl)
theorem dX4_sum_15 : decode cX4_sum 15 = .ok (.iload_n 1, 1) := dk_27 (dk_at dksX4_sum_0 15 rfl rfl)
theorem dX4_sum_16 : decode cX4_sum 16 = .ok (.invokevirtual 109, 3) := dk_182 0 109 (dk_at dksX4_sum_0 16 rfl rfl)
theorem dX4_sum_19 : decode cX4_sum 19 = .ok (.ifCond .eq 12, 3) := dk_153 0 12 (dk_at dksX4_sum_0 19 rfl rfl)
theorem dX4_sum_22 : decode cX4_sum 22 = .ok (.aload_n 0, 1) := dk_42 (dk_at dksX4_sum_0 22 rfl rfl)
theorem dX4_sum_23 : decode cX4_sum 23 = .ok (.iload 4, 2) := dk_21 4 (dk_at dksX4_sum_1 0 rfl rfl)
theorem dX4_sum_25 : decode cX4_sum 25 = .ok (.invokevirtual 112, 3) := dk_182 0 112 (dk_at dksX4_sum_1 2 rfl rfl)
theorem dX4_sum_28 : decode cX4_sum 28 = .ok (.goto 4, 3) := dk_167 0 4 (dk_at dksX4_sum_1 5 rfl rfl)
theorem dX4_sum_31 : decode cX4_sum 31 = .ok (.iconst 0, 1) := dk_3 (dk_at dksX4_sum_1 8 rfl rfl)
theorem dX4_sum_32 : decode cX4_sum 32 = .ok (.iadd, 1) := dk_96 (dk_at dksX4_sum_1 9 rfl rfl)
theorem dX4_sum_33 : decode cX4_sum 33 = .ok (.istore_n 3, 1) := dk_62 (dk_at dksX4_sum_1 10 rfl rfl)
theorem dX4_sum_34 : decode cX4_sum 34 = .ok (.iinc 4 1, 3) := dk_132 4 1 (dk_at dksX4_sum_1 11 rfl rfl)
theorem dX4_sum_37 : decode cX4_sum 37 = .ok (.goto (-32), 3) := dk_167 255 224 (dk_at dksX4_sum_1 14 rfl rfl)
theorem dX4_sum_40 : decode cX4_sum 40 = .ok (.iload_n 3, 1) := dk_29 (dk_at dksX4_sum_1 17 rfl rfl)
theorem dX4_sum_41 : decode cX4_sum 41 = .ok (.ireturn, 1) := dk_172 (dk_at dksX4_sum_1 18 rfl rfl)
abbrev cX4_counts : ByteArray := prog_7_method_22_code
def yX4_counts : MethodName := ⟨RX4, "counts", "(II)Z"⟩
def dkwX4_counts_3 : List UInt8 := [42, 180, 0, 36, 27, 51, 154, 0, 7, 4, 167, 0, 4, 3, 172]
abbrev dktX4_counts_3 : List UInt8 := dkwX4_counts_3 ++ []
def dkwX4_counts_2 : List UInt8 := [167, 0, 17, 42, 42, 180, 0, 30, 27, 46, 28, 16, 9, 100, 182, 0, 82, 54, 4, 21, 4, 153, 0, 16]
abbrev dktX4_counts_2 : List UInt8 := dkwX4_counts_2 ++ dktX4_counts_3
def dkwX4_counts_1 : List UInt8 := [167, 0, 41, 28, 16, 9, 162, 0, 21, 29, 6, 112, 28, 16, 6, 100, 160, 0, 7, 4, 167, 0, 21, 3]
abbrev dktX4_counts_1 : List UInt8 := dkwX4_counts_1 ++ dktX4_counts_2
def dkwX4_counts_0 : List UInt8 := [42, 180, 0, 27, 27, 46, 62, 28, 16, 6, 162, 0, 16, 29, 28, 160, 0, 7, 4, 167, 0, 45, 3]
abbrev dktX4_counts_0 : List UInt8 := dkwX4_counts_0 ++ dktX4_counts_1
theorem dksX4_counts_0 : cX4_counts.data.toList.drop 0 = dktX4_counts_0 := by decide +kernel
theorem dksX4_counts_1 : cX4_counts.data.toList.drop 23 = dktX4_counts_1 := dk_seg dksX4_counts_0 23 rfl rfl
theorem dksX4_counts_2 : cX4_counts.data.toList.drop 47 = dktX4_counts_2 := dk_seg dksX4_counts_1 24 rfl rfl
theorem dksX4_counts_3 : cX4_counts.data.toList.drop 71 = dktX4_counts_3 := dk_seg dksX4_counts_2 24 rfl rfl
theorem dX4_counts_0 : decode cX4_counts 0 = .ok (.aload_n 0, 1) := dk_42 (dk_at dksX4_counts_0 0 rfl rfl)
theorem dX4_counts_1 : decode cX4_counts 1 = .ok (.getfield 27, 3) := dk_180 0 27 (dk_at dksX4_counts_0 1 rfl rfl)
theorem dX4_counts_4 : decode cX4_counts 4 = .ok (.iload_n 1, 1) := dk_27 (dk_at dksX4_counts_0 4 rfl rfl)
theorem dX4_counts_5 : decode cX4_counts 5 = .ok (.iaload, 1) := dk_46 (dk_at dksX4_counts_0 5 rfl rfl)
theorem dX4_counts_6 : decode cX4_counts 6 = .ok (.istore_n 3, 1) := dk_62 (dk_at dksX4_counts_0 6 rfl rfl)
theorem dX4_counts_7 : decode cX4_counts 7 = .ok (.iload_n 2, 1) := dk_28 (dk_at dksX4_counts_0 7 rfl rfl)
theorem dX4_counts_8 : decode cX4_counts 8 = .ok (.bipush 6, 2) := dk_16 6 (dk_at dksX4_counts_0 8 rfl rfl)
theorem dX4_counts_10 : decode cX4_counts 10 = .ok (.if_icmp .ge 16, 3) := dk_162 0 16 (dk_at dksX4_counts_0 10 rfl rfl)
theorem dX4_counts_13 : decode cX4_counts 13 = .ok (.iload_n 3, 1) := dk_29 (dk_at dksX4_counts_0 13 rfl rfl)
theorem dX4_counts_14 : decode cX4_counts 14 = .ok (.iload_n 2, 1) := dk_28 (dk_at dksX4_counts_0 14 rfl rfl)
theorem dX4_counts_15 : decode cX4_counts 15 = .ok (.if_icmp .ne 7, 3) := dk_160 0 7 (dk_at dksX4_counts_0 15 rfl rfl)
theorem dX4_counts_18 : decode cX4_counts 18 = .ok (.iconst 1, 1) := dk_4 (dk_at dksX4_counts_0 18 rfl rfl)
theorem dX4_counts_19 : decode cX4_counts 19 = .ok (.goto 45, 3) := dk_167 0 45 (dk_at dksX4_counts_0 19 rfl rfl)
theorem dX4_counts_22 : decode cX4_counts 22 = .ok (.iconst 0, 1) := dk_3 (dk_at dksX4_counts_0 22 rfl rfl)
theorem dX4_counts_23 : decode cX4_counts 23 = .ok (.goto 41, 3) := dk_167 0 41 (dk_at dksX4_counts_1 0 rfl rfl)
theorem dX4_counts_26 : decode cX4_counts 26 = .ok (.iload_n 2, 1) := dk_28 (dk_at dksX4_counts_1 3 rfl rfl)
theorem dX4_counts_27 : decode cX4_counts 27 = .ok (.bipush 9, 2) := dk_16 9 (dk_at dksX4_counts_1 4 rfl rfl)
theorem dX4_counts_29 : decode cX4_counts 29 = .ok (.if_icmp .ge 21, 3) := dk_162 0 21 (dk_at dksX4_counts_1 6 rfl rfl)
theorem dX4_counts_32 : decode cX4_counts 32 = .ok (.iload_n 3, 1) := dk_29 (dk_at dksX4_counts_1 9 rfl rfl)
theorem dX4_counts_33 : decode cX4_counts 33 = .ok (.iconst 3, 1) := dk_6 (dk_at dksX4_counts_1 10 rfl rfl)
theorem dX4_counts_34 : decode cX4_counts 34 = .ok (.irem, 1) := dk_112 (dk_at dksX4_counts_1 11 rfl rfl)
theorem dX4_counts_35 : decode cX4_counts 35 = .ok (.iload_n 2, 1) := dk_28 (dk_at dksX4_counts_1 12 rfl rfl)
theorem dX4_counts_36 : decode cX4_counts 36 = .ok (.bipush 6, 2) := dk_16 6 (dk_at dksX4_counts_1 13 rfl rfl)
theorem dX4_counts_38 : decode cX4_counts 38 = .ok (.isub, 1) := dk_100 (dk_at dksX4_counts_1 15 rfl rfl)
theorem dX4_counts_39 : decode cX4_counts 39 = .ok (.if_icmp .ne 7, 3) := dk_160 0 7 (dk_at dksX4_counts_1 16 rfl rfl)
theorem dX4_counts_42 : decode cX4_counts 42 = .ok (.iconst 1, 1) := dk_4 (dk_at dksX4_counts_1 19 rfl rfl)
theorem dX4_counts_43 : decode cX4_counts 43 = .ok (.goto 21, 3) := dk_167 0 21 (dk_at dksX4_counts_1 20 rfl rfl)
theorem dX4_counts_46 : decode cX4_counts 46 = .ok (.iconst 0, 1) := dk_3 (dk_at dksX4_counts_1 23 rfl rfl)
theorem dX4_counts_47 : decode cX4_counts 47 = .ok (.goto 17, 3) := dk_167 0 17 (dk_at dksX4_counts_2 0 rfl rfl)
theorem dX4_counts_50 : decode cX4_counts 50 = .ok (.aload_n 0, 1) := dk_42 (dk_at dksX4_counts_2 3 rfl rfl)
theorem dX4_counts_51 : decode cX4_counts 51 = .ok (.aload_n 0, 1) := dk_42 (dk_at dksX4_counts_2 4 rfl rfl)
theorem dX4_counts_52 : decode cX4_counts 52 = .ok (.getfield 30, 3) := dk_180 0 30 (dk_at dksX4_counts_2 5 rfl rfl)
theorem dX4_counts_55 : decode cX4_counts 55 = .ok (.iload_n 1, 1) := dk_27 (dk_at dksX4_counts_2 8 rfl rfl)
theorem dX4_counts_56 : decode cX4_counts 56 = .ok (.iaload, 1) := dk_46 (dk_at dksX4_counts_2 9 rfl rfl)
theorem dX4_counts_57 : decode cX4_counts 57 = .ok (.iload_n 2, 1) := dk_28 (dk_at dksX4_counts_2 10 rfl rfl)
theorem dX4_counts_58 : decode cX4_counts 58 = .ok (.bipush 9, 2) := dk_16 9 (dk_at dksX4_counts_2 11 rfl rfl)
theorem dX4_counts_60 : decode cX4_counts 60 = .ok (.isub, 1) := dk_100 (dk_at dksX4_counts_2 13 rfl rfl)
theorem dX4_counts_61 : decode cX4_counts 61 = .ok (.invokevirtual 82, 3) := dk_182 0 82 (dk_at dksX4_counts_2 14 rfl rfl)
theorem dX4_counts_64 : decode cX4_counts 64 = .ok (.istore 4, 2) := dk_54 4 (dk_at dksX4_counts_2 17 rfl rfl)
theorem dX4_counts_66 : decode cX4_counts 66 = .ok (.iload 4, 2) := dk_21 4 (dk_at dksX4_counts_2 19 rfl rfl)
theorem dX4_counts_68 : decode cX4_counts 68 = .ok (.ifCond .eq 16, 3) := dk_153 0 16 (dk_at dksX4_counts_2 21 rfl rfl)
theorem dX4_counts_71 : decode cX4_counts 71 = .ok (.aload_n 0, 1) := dk_42 (dk_at dksX4_counts_3 0 rfl rfl)
theorem dX4_counts_72 : decode cX4_counts 72 = .ok (.getfield 36, 3) := dk_180 0 36 (dk_at dksX4_counts_3 1 rfl rfl)
theorem dX4_counts_75 : decode cX4_counts 75 = .ok (.iload_n 1, 1) := dk_27 (dk_at dksX4_counts_3 4 rfl rfl)
theorem dX4_counts_76 : decode cX4_counts 76 = .ok (.baload, 1) := dk_51 (dk_at dksX4_counts_3 5 rfl rfl)
theorem dX4_counts_77 : decode cX4_counts 77 = .ok (.ifCond .ne 7, 3) := dk_154 0 7 (dk_at dksX4_counts_3 6 rfl rfl)
theorem dX4_counts_80 : decode cX4_counts 80 = .ok (.iconst 1, 1) := dk_4 (dk_at dksX4_counts_3 9 rfl rfl)
theorem dX4_counts_81 : decode cX4_counts 81 = .ok (.goto 4, 3) := dk_167 0 4 (dk_at dksX4_counts_3 10 rfl rfl)
theorem dX4_counts_84 : decode cX4_counts 84 = .ok (.iconst 0, 1) := dk_3 (dk_at dksX4_counts_3 13 rfl rfl)
theorem dX4_counts_85 : decode cX4_counts 85 = .ok (.ireturn, 1) := dk_172 (dk_at dksX4_counts_3 14 rfl rfl)
abbrev cX4_usage : ByteArray := prog_7_method_23_code
def yX4_usage : MethodName := ⟨RX4, "usage", "(I)I"⟩
def dkwX4_usage_2 : List UInt8 := [153, 0, 12, 42, 180, 0, 43, 29, 46, 167, 0, 4, 3, 96, 61, 132, 3, 1, 167, 255, 213, 28, 172]
abbrev dktX4_usage_2 : List UInt8 := dkwX4_usage_2 ++ []
def dkwX4_usage_1 : List UInt8 := [180, 0, 106, 162, 0, 41, 28, 42, 180, 0, 40, 29, 46, 27, 160, 0, 21, 42, 180, 0, 46, 29, 51]
abbrev dktX4_usage_1 : List UInt8 := dkwX4_usage_1 ++ dktX4_usage_2
def dkwX4_usage_0 : List UInt8 := [42, 180, 0, 36, 27, 51, 153, 0, 7, 3, 167, 0, 9, 42, 180, 0, 33, 27, 46, 61, 3, 62, 29, 42]
abbrev dktX4_usage_0 : List UInt8 := dkwX4_usage_0 ++ dktX4_usage_1
theorem dksX4_usage_0 : cX4_usage.data.toList.drop 0 = dktX4_usage_0 := by decide +kernel
theorem dksX4_usage_1 : cX4_usage.data.toList.drop 24 = dktX4_usage_1 := dk_seg dksX4_usage_0 24 rfl rfl
theorem dksX4_usage_2 : cX4_usage.data.toList.drop 47 = dktX4_usage_2 := dk_seg dksX4_usage_1 23 rfl rfl
theorem dX4_usage_0 : decode cX4_usage 0 = .ok (.aload_n 0, 1) := dk_42 (dk_at dksX4_usage_0 0 rfl rfl)
theorem dX4_usage_1 : decode cX4_usage 1 = .ok (.getfield 36, 3) := dk_180 0 36 (dk_at dksX4_usage_0 1 rfl rfl)
theorem dX4_usage_4 : decode cX4_usage 4 = .ok (.iload_n 1, 1) := dk_27 (dk_at dksX4_usage_0 4 rfl rfl)
theorem dX4_usage_5 : decode cX4_usage 5 = .ok (.baload, 1) := dk_51 (dk_at dksX4_usage_0 5 rfl rfl)
theorem dX4_usage_6 : decode cX4_usage 6 = .ok (.ifCond .eq 7, 3) := dk_153 0 7 (dk_at dksX4_usage_0 6 rfl rfl)
theorem dX4_usage_9 : decode cX4_usage 9 = .ok (.iconst 0, 1) := dk_3 (dk_at dksX4_usage_0 9 rfl rfl)
theorem dX4_usage_10 : decode cX4_usage 10 = .ok (.goto 9, 3) := dk_167 0 9 (dk_at dksX4_usage_0 10 rfl rfl)
theorem dX4_usage_13 : decode cX4_usage 13 = .ok (.aload_n 0, 1) := dk_42 (dk_at dksX4_usage_0 13 rfl rfl)
theorem dX4_usage_14 : decode cX4_usage 14 = .ok (.getfield 33, 3) := dk_180 0 33 (dk_at dksX4_usage_0 14 rfl rfl)
theorem dX4_usage_17 : decode cX4_usage 17 = .ok (.iload_n 1, 1) := dk_27 (dk_at dksX4_usage_0 17 rfl rfl)
theorem dX4_usage_18 : decode cX4_usage 18 = .ok (.iaload, 1) := dk_46 (dk_at dksX4_usage_0 18 rfl rfl)
theorem dX4_usage_19 : decode cX4_usage 19 = .ok (.istore_n 2, 1) := dk_61 (dk_at dksX4_usage_0 19 rfl rfl)
theorem dX4_usage_20 : decode cX4_usage 20 = .ok (.iconst 0, 1) := dk_3 (dk_at dksX4_usage_0 20 rfl rfl)
theorem dX4_usage_21 : decode cX4_usage 21 = .ok (.istore_n 3, 1) := dk_62 (dk_at dksX4_usage_0 21 rfl rfl)
theorem dX4_usage_22 : decode cX4_usage 22 = .ok (.iload_n 3, 1) := dk_29 (dk_at dksX4_usage_0 22 rfl rfl)
theorem dX4_usage_23 : decode cX4_usage 23 = .ok (.aload_n 0, 1) := dk_42 (dk_at dksX4_usage_0 23 rfl rfl)
theorem dX4_usage_24 : decode cX4_usage 24 = .ok (.getfield 106, 3) := dk_180 0 106 (dk_at dksX4_usage_1 0 rfl rfl)
theorem dX4_usage_27 : decode cX4_usage 27 = .ok (.if_icmp .ge 41, 3) := dk_162 0 41 (dk_at dksX4_usage_1 3 rfl rfl)
theorem dX4_usage_30 : decode cX4_usage 30 = .ok (.iload_n 2, 1) := dk_28 (dk_at dksX4_usage_1 6 rfl rfl)
theorem dX4_usage_31 : decode cX4_usage 31 = .ok (.aload_n 0, 1) := dk_42 (dk_at dksX4_usage_1 7 rfl rfl)
theorem dX4_usage_32 : decode cX4_usage 32 = .ok (.getfield 40, 3) := dk_180 0 40 (dk_at dksX4_usage_1 8 rfl rfl)
theorem dX4_usage_35 : decode cX4_usage 35 = .ok (.iload_n 3, 1) := dk_29 (dk_at dksX4_usage_1 11 rfl rfl)
theorem dX4_usage_36 : decode cX4_usage 36 = .ok (.iaload, 1) := dk_46 (dk_at dksX4_usage_1 12 rfl rfl)
theorem dX4_usage_37 : decode cX4_usage 37 = .ok (.iload_n 1, 1) := dk_27 (dk_at dksX4_usage_1 13 rfl rfl)
theorem dX4_usage_38 : decode cX4_usage 38 = .ok (.if_icmp .ne 21, 3) := dk_160 0 21 (dk_at dksX4_usage_1 14 rfl rfl)
theorem dX4_usage_41 : decode cX4_usage 41 = .ok (.aload_n 0, 1) := dk_42 (dk_at dksX4_usage_1 17 rfl rfl)
theorem dX4_usage_42 : decode cX4_usage 42 = .ok (.getfield 46, 3) := dk_180 0 46 (dk_at dksX4_usage_1 18 rfl rfl)
theorem dX4_usage_45 : decode cX4_usage 45 = .ok (.iload_n 3, 1) := dk_29 (dk_at dksX4_usage_1 21 rfl rfl)
theorem dX4_usage_46 : decode cX4_usage 46 = .ok (.baload, 1) := dk_51 (dk_at dksX4_usage_1 22 rfl rfl)
theorem dX4_usage_47 : decode cX4_usage 47 = .ok (.ifCond .eq 12, 3) := dk_153 0 12 (dk_at dksX4_usage_2 0 rfl rfl)
theorem dX4_usage_50 : decode cX4_usage 50 = .ok (.aload_n 0, 1) := dk_42 (dk_at dksX4_usage_2 3 rfl rfl)
theorem dX4_usage_51 : decode cX4_usage 51 = .ok (.getfield 43, 3) := dk_180 0 43 (dk_at dksX4_usage_2 4 rfl rfl)
theorem dX4_usage_54 : decode cX4_usage 54 = .ok (.iload_n 3, 1) := dk_29 (dk_at dksX4_usage_2 7 rfl rfl)
theorem dX4_usage_55 : decode cX4_usage 55 = .ok (.iaload, 1) := dk_46 (dk_at dksX4_usage_2 8 rfl rfl)
theorem dX4_usage_56 : decode cX4_usage 56 = .ok (.goto 4, 3) := dk_167 0 4 (dk_at dksX4_usage_2 9 rfl rfl)
theorem dX4_usage_59 : decode cX4_usage 59 = .ok (.iconst 0, 1) := dk_3 (dk_at dksX4_usage_2 12 rfl rfl)
theorem dX4_usage_60 : decode cX4_usage 60 = .ok (.iadd, 1) := dk_96 (dk_at dksX4_usage_2 13 rfl rfl)
theorem dX4_usage_61 : decode cX4_usage 61 = .ok (.istore_n 2, 1) := dk_61 (dk_at dksX4_usage_2 14 rfl rfl)
theorem dX4_usage_62 : decode cX4_usage 62 = .ok (.iinc 3 1, 3) := dk_132 3 1 (dk_at dksX4_usage_2 15 rfl rfl)
theorem dX4_usage_65 : decode cX4_usage 65 = .ok (.goto (-43), 3) := dk_167 255 213 (dk_at dksX4_usage_2 18 rfl rfl)
theorem dX4_usage_68 : decode cX4_usage 68 = .ok (.iload_n 2, 1) := dk_28 (dk_at dksX4_usage_2 21 rfl rfl)
theorem dX4_usage_69 : decode cX4_usage 69 = .ok (.ireturn, 1) := dk_172 (dk_at dksX4_usage_2 22 rfl rfl)
abbrev cX4_letterAt : ByteArray := prog_7_method_19_code
def yX4_letterAt : MethodName := ⟨RX4, "letterAt", "(II)C"⟩
def dkwX4_letterAt_2 : List UInt8 := [167, 0, 5, 16, 32, 172]
abbrev dktX4_letterAt_2 : List UInt8 := dkwX4_letterAt_2 ++ []
def dkwX4_letterAt_1 : List UInt8 := [16, 32, 172, 28, 42, 180, 0, 23, 27, 46, 162, 0, 17, 42, 180, 0, 20, 16, 8, 27, 104, 28, 96, 52]
abbrev dktX4_letterAt_1 : List UInt8 := dkwX4_letterAt_1 ++ dktX4_letterAt_2
def dkwX4_letterAt_0 : List UInt8 := [42, 42, 27, 182, 0, 93, 153, 0, 11, 28, 155, 0, 7, 3, 167, 0, 4, 4, 182, 0, 67, 153, 0, 6]
abbrev dktX4_letterAt_0 : List UInt8 := dkwX4_letterAt_0 ++ dktX4_letterAt_1
theorem dksX4_letterAt_0 : cX4_letterAt.data.toList.drop 0 = dktX4_letterAt_0 := by decide +kernel
theorem dksX4_letterAt_1 : cX4_letterAt.data.toList.drop 24 = dktX4_letterAt_1 := dk_seg dksX4_letterAt_0 24 rfl rfl
theorem dksX4_letterAt_2 : cX4_letterAt.data.toList.drop 48 = dktX4_letterAt_2 := dk_seg dksX4_letterAt_1 24 rfl rfl
theorem dX4_letterAt_0 : decode cX4_letterAt 0 = .ok (.aload_n 0, 1) := dk_42 (dk_at dksX4_letterAt_0 0 rfl rfl)
theorem dX4_letterAt_1 : decode cX4_letterAt 1 = .ok (.aload_n 0, 1) := dk_42 (dk_at dksX4_letterAt_0 1 rfl rfl)
theorem dX4_letterAt_2 : decode cX4_letterAt 2 = .ok (.iload_n 1, 1) := dk_27 (dk_at dksX4_letterAt_0 2 rfl rfl)
theorem dX4_letterAt_3 : decode cX4_letterAt 3 = .ok (.invokevirtual 93, 3) := dk_182 0 93 (dk_at dksX4_letterAt_0 3 rfl rfl)
theorem dX4_letterAt_6 : decode cX4_letterAt 6 = .ok (.ifCond .eq 11, 3) := dk_153 0 11 (dk_at dksX4_letterAt_0 6 rfl rfl)
theorem dX4_letterAt_9 : decode cX4_letterAt 9 = .ok (.iload_n 2, 1) := dk_28 (dk_at dksX4_letterAt_0 9 rfl rfl)
theorem dX4_letterAt_10 : decode cX4_letterAt 10 = .ok (.ifCond .lt 7, 3) := dk_155 0 7 (dk_at dksX4_letterAt_0 10 rfl rfl)
theorem dX4_letterAt_13 : decode cX4_letterAt 13 = .ok (.iconst 0, 1) := dk_3 (dk_at dksX4_letterAt_0 13 rfl rfl)
theorem dX4_letterAt_14 : decode cX4_letterAt 14 = .ok (.goto 4, 3) := dk_167 0 4 (dk_at dksX4_letterAt_0 14 rfl rfl)
theorem dX4_letterAt_17 : decode cX4_letterAt 17 = .ok (.iconst 1, 1) := dk_4 (dk_at dksX4_letterAt_0 17 rfl rfl)
theorem dX4_letterAt_18 : decode cX4_letterAt 18 = .ok (.invokevirtual 67, 3) := dk_182 0 67 (dk_at dksX4_letterAt_0 18 rfl rfl)
theorem dX4_letterAt_21 : decode cX4_letterAt 21 = .ok (.ifCond .eq 6, 3) := dk_153 0 6 (dk_at dksX4_letterAt_0 21 rfl rfl)
theorem dX4_letterAt_24 : decode cX4_letterAt 24 = .ok (.bipush 32, 2) := dk_16 32 (dk_at dksX4_letterAt_1 0 rfl rfl)
theorem dX4_letterAt_26 : decode cX4_letterAt 26 = .ok (.ireturn, 1) := dk_172 (dk_at dksX4_letterAt_1 2 rfl rfl)
theorem dX4_letterAt_27 : decode cX4_letterAt 27 = .ok (.iload_n 2, 1) := dk_28 (dk_at dksX4_letterAt_1 3 rfl rfl)
theorem dX4_letterAt_28 : decode cX4_letterAt 28 = .ok (.aload_n 0, 1) := dk_42 (dk_at dksX4_letterAt_1 4 rfl rfl)
theorem dX4_letterAt_29 : decode cX4_letterAt 29 = .ok (.getfield 23, 3) := dk_180 0 23 (dk_at dksX4_letterAt_1 5 rfl rfl)
theorem dX4_letterAt_32 : decode cX4_letterAt 32 = .ok (.iload_n 1, 1) := dk_27 (dk_at dksX4_letterAt_1 8 rfl rfl)
theorem dX4_letterAt_33 : decode cX4_letterAt 33 = .ok (.iaload, 1) := dk_46 (dk_at dksX4_letterAt_1 9 rfl rfl)
theorem dX4_letterAt_34 : decode cX4_letterAt 34 = .ok (.if_icmp .ge 17, 3) := dk_162 0 17 (dk_at dksX4_letterAt_1 10 rfl rfl)
theorem dX4_letterAt_37 : decode cX4_letterAt 37 = .ok (.aload_n 0, 1) := dk_42 (dk_at dksX4_letterAt_1 13 rfl rfl)
theorem dX4_letterAt_38 : decode cX4_letterAt 38 = .ok (.getfield 20, 3) := dk_180 0 20 (dk_at dksX4_letterAt_1 14 rfl rfl)
theorem dX4_letterAt_41 : decode cX4_letterAt 41 = .ok (.bipush 8, 2) := dk_16 8 (dk_at dksX4_letterAt_1 17 rfl rfl)
theorem dX4_letterAt_43 : decode cX4_letterAt 43 = .ok (.iload_n 1, 1) := dk_27 (dk_at dksX4_letterAt_1 19 rfl rfl)
theorem dX4_letterAt_44 : decode cX4_letterAt 44 = .ok (.imul, 1) := dk_104 (dk_at dksX4_letterAt_1 20 rfl rfl)
theorem dX4_letterAt_45 : decode cX4_letterAt 45 = .ok (.iload_n 2, 1) := dk_28 (dk_at dksX4_letterAt_1 21 rfl rfl)
theorem dX4_letterAt_46 : decode cX4_letterAt 46 = .ok (.iadd, 1) := dk_96 (dk_at dksX4_letterAt_1 22 rfl rfl)
theorem dX4_letterAt_47 : decode cX4_letterAt 47 = .ok (.caload, 1) := dk_52 (dk_at dksX4_letterAt_1 23 rfl rfl)
theorem dX4_letterAt_48 : decode cX4_letterAt 48 = .ok (.goto 5, 3) := dk_167 0 5 (dk_at dksX4_letterAt_2 0 rfl rfl)
theorem dX4_letterAt_51 : decode cX4_letterAt 51 = .ok (.bipush 32, 2) := dk_16 32 (dk_at dksX4_letterAt_2 3 rfl rfl)
theorem dX4_letterAt_53 : decode cX4_letterAt 53 = .ok (.ireturn, 1) := dk_172 (dk_at dksX4_letterAt_2 5 rfl rfl)
abbrev cX4_projects : ByteArray := prog_7_method_20_code
def yX4_projects : MethodName := ⟨RX4, "projects", "()I"⟩
def dkwX4_projects_0 : List UInt8 := [42, 42, 180, 0, 16, 182, 0, 71, 172]
abbrev dktX4_projects_0 : List UInt8 := dkwX4_projects_0 ++ []
theorem dksX4_projects_0 : cX4_projects.data.toList.drop 0 = dktX4_projects_0 := by decide +kernel
theorem dX4_projects_0 : decode cX4_projects 0 = .ok (.aload_n 0, 1) := dk_42 (dk_at dksX4_projects_0 0 rfl rfl)
theorem dX4_projects_1 : decode cX4_projects 1 = .ok (.aload_n 0, 1) := dk_42 (dk_at dksX4_projects_0 1 rfl rfl)
theorem dX4_projects_2 : decode cX4_projects 2 = .ok (.getfield 16, 3) := dk_180 0 16 (dk_at dksX4_projects_0 2 rfl rfl)
theorem dX4_projects_5 : decode cX4_projects 5 = .ok (.invokevirtual 71, 3) := dk_182 0 71 (dk_at dksX4_projects_0 5 rfl rfl)
theorem dX4_projects_8 : decode cX4_projects 8 = .ok (.ireturn, 1) := dk_172 (dk_at dksX4_projects_0 8 rfl rfl)
abbrev cX4_makeFile : ByteArray := prog_7_method_31_code
def yX4_makeFile : MethodName := ⟨RX4, "makeFile", "(II)I"⟩
def dkwX4_makeFile_4 : List UInt8 := [28, 79, 42, 89, 180, 0, 115, 4, 96, 181, 0, 115, 42, 180, 0, 115, 4, 100, 172]
abbrev dktX4_makeFile_4 : List UInt8 := dkwX4_makeFile_4 ++ []
def dkwX4_makeFile_3 : List UInt8 := [16, 254, 21, 4, 100, 172, 42, 180, 0, 27, 42, 180, 0, 115, 27, 79, 42, 180, 0, 30, 42, 180, 0, 115]
abbrev dktX4_makeFile_3 : List UInt8 := dkwX4_makeFile_3 ++ dktX4_makeFile_4
def dkwX4_makeFile_2 : List UInt8 := [182, 0, 67, 153, 0, 5, 3, 172, 42, 27, 28, 3, 4, 182, 0, 135, 54, 4, 21, 4, 2, 159, 0, 9]
abbrev dktX4_makeFile_2 : List UInt8 := dkwX4_makeFile_2 ++ dktX4_makeFile_3
def dkwX4_makeFile_1 : List UInt8 := [29, 154, 0, 7, 4, 167, 0, 17, 42, 180, 0, 115, 16, 40, 160, 0, 7, 5, 167, 0, 4, 3]
abbrev dktX4_makeFile_1 : List UInt8 := dkwX4_makeFile_1 ++ dktX4_makeFile_2
def dkwX4_makeFile_0 : List UInt8 := [27, 3, 8, 184, 0, 78, 153, 0, 15, 42, 28, 182, 0, 93, 153, 0, 7, 4, 167, 0, 4, 3, 62, 42]
abbrev dktX4_makeFile_0 : List UInt8 := dkwX4_makeFile_0 ++ dktX4_makeFile_1
theorem dksX4_makeFile_0 : cX4_makeFile.data.toList.drop 0 = dktX4_makeFile_0 := by decide +kernel
theorem dksX4_makeFile_1 : cX4_makeFile.data.toList.drop 24 = dktX4_makeFile_1 := dk_seg dksX4_makeFile_0 24 rfl rfl
theorem dksX4_makeFile_2 : cX4_makeFile.data.toList.drop 46 = dktX4_makeFile_2 := dk_seg dksX4_makeFile_1 22 rfl rfl
theorem dksX4_makeFile_3 : cX4_makeFile.data.toList.drop 70 = dktX4_makeFile_3 := dk_seg dksX4_makeFile_2 24 rfl rfl
theorem dksX4_makeFile_4 : cX4_makeFile.data.toList.drop 94 = dktX4_makeFile_4 := dk_seg dksX4_makeFile_3 24 rfl rfl
theorem dX4_makeFile_0 : decode cX4_makeFile 0 = .ok (.iload_n 1, 1) := dk_27 (dk_at dksX4_makeFile_0 0 rfl rfl)
theorem dX4_makeFile_1 : decode cX4_makeFile 1 = .ok (.iconst 0, 1) := dk_3 (dk_at dksX4_makeFile_0 1 rfl rfl)
theorem dX4_makeFile_2 : decode cX4_makeFile 2 = .ok (.iconst 5, 1) := dk_8 (dk_at dksX4_makeFile_0 2 rfl rfl)
theorem dX4_makeFile_3 : decode cX4_makeFile 3 = .ok (.invokestatic 78, 3) := dk_184 0 78 (dk_at dksX4_makeFile_0 3 rfl rfl)
theorem dX4_makeFile_6 : decode cX4_makeFile 6 = .ok (.ifCond .eq 15, 3) := dk_153 0 15 (dk_at dksX4_makeFile_0 6 rfl rfl)
theorem dX4_makeFile_9 : decode cX4_makeFile 9 = .ok (.aload_n 0, 1) := dk_42 (dk_at dksX4_makeFile_0 9 rfl rfl)
theorem dX4_makeFile_10 : decode cX4_makeFile 10 = .ok (.iload_n 2, 1) := dk_28 (dk_at dksX4_makeFile_0 10 rfl rfl)
theorem dX4_makeFile_11 : decode cX4_makeFile 11 = .ok (.invokevirtual 93, 3) := dk_182 0 93 (dk_at dksX4_makeFile_0 11 rfl rfl)
theorem dX4_makeFile_14 : decode cX4_makeFile 14 = .ok (.ifCond .eq 7, 3) := dk_153 0 7 (dk_at dksX4_makeFile_0 14 rfl rfl)
theorem dX4_makeFile_17 : decode cX4_makeFile 17 = .ok (.iconst 1, 1) := dk_4 (dk_at dksX4_makeFile_0 17 rfl rfl)
theorem dX4_makeFile_18 : decode cX4_makeFile 18 = .ok (.goto 4, 3) := dk_167 0 4 (dk_at dksX4_makeFile_0 18 rfl rfl)
theorem dX4_makeFile_21 : decode cX4_makeFile 21 = .ok (.iconst 0, 1) := dk_3 (dk_at dksX4_makeFile_0 21 rfl rfl)
theorem dX4_makeFile_22 : decode cX4_makeFile 22 = .ok (.istore_n 3, 1) := dk_62 (dk_at dksX4_makeFile_0 22 rfl rfl)
theorem dX4_makeFile_23 : decode cX4_makeFile 23 = .ok (.aload_n 0, 1) := dk_42 (dk_at dksX4_makeFile_0 23 rfl rfl)
theorem dX4_makeFile_24 : decode cX4_makeFile 24 = .ok (.iload_n 3, 1) := dk_29 (dk_at dksX4_makeFile_1 0 rfl rfl)
theorem dX4_makeFile_25 : decode cX4_makeFile 25 = .ok (.ifCond .ne 7, 3) := dk_154 0 7 (dk_at dksX4_makeFile_1 1 rfl rfl)
theorem dX4_makeFile_28 : decode cX4_makeFile 28 = .ok (.iconst 1, 1) := dk_4 (dk_at dksX4_makeFile_1 4 rfl rfl)
theorem dX4_makeFile_29 : decode cX4_makeFile 29 = .ok (.goto 17, 3) := dk_167 0 17 (dk_at dksX4_makeFile_1 5 rfl rfl)
theorem dX4_makeFile_32 : decode cX4_makeFile 32 = .ok (.aload_n 0, 1) := dk_42 (dk_at dksX4_makeFile_1 8 rfl rfl)
theorem dX4_makeFile_33 : decode cX4_makeFile 33 = .ok (.getfield 115, 3) := dk_180 0 115 (dk_at dksX4_makeFile_1 9 rfl rfl)
theorem dX4_makeFile_36 : decode cX4_makeFile 36 = .ok (.bipush 40, 2) := dk_16 40 (dk_at dksX4_makeFile_1 12 rfl rfl)
theorem dX4_makeFile_38 : decode cX4_makeFile 38 = .ok (.if_icmp .ne 7, 3) := dk_160 0 7 (dk_at dksX4_makeFile_1 14 rfl rfl)
theorem dX4_makeFile_41 : decode cX4_makeFile 41 = .ok (.iconst 2, 1) := dk_5 (dk_at dksX4_makeFile_1 17 rfl rfl)
theorem dX4_makeFile_42 : decode cX4_makeFile 42 = .ok (.goto 4, 3) := dk_167 0 4 (dk_at dksX4_makeFile_1 18 rfl rfl)
theorem dX4_makeFile_45 : decode cX4_makeFile 45 = .ok (.iconst 0, 1) := dk_3 (dk_at dksX4_makeFile_1 21 rfl rfl)
theorem dX4_makeFile_46 : decode cX4_makeFile 46 = .ok (.invokevirtual 67, 3) := dk_182 0 67 (dk_at dksX4_makeFile_2 0 rfl rfl)
theorem dX4_makeFile_49 : decode cX4_makeFile 49 = .ok (.ifCond .eq 5, 3) := dk_153 0 5 (dk_at dksX4_makeFile_2 3 rfl rfl)
theorem dX4_makeFile_52 : decode cX4_makeFile 52 = .ok (.iconst 0, 1) := dk_3 (dk_at dksX4_makeFile_2 6 rfl rfl)
theorem dX4_makeFile_53 : decode cX4_makeFile 53 = .ok (.ireturn, 1) := dk_172 (dk_at dksX4_makeFile_2 7 rfl rfl)
theorem dX4_makeFile_54 : decode cX4_makeFile 54 = .ok (.aload_n 0, 1) := dk_42 (dk_at dksX4_makeFile_2 8 rfl rfl)
theorem dX4_makeFile_55 : decode cX4_makeFile 55 = .ok (.iload_n 1, 1) := dk_27 (dk_at dksX4_makeFile_2 9 rfl rfl)
theorem dX4_makeFile_56 : decode cX4_makeFile 56 = .ok (.iload_n 2, 1) := dk_28 (dk_at dksX4_makeFile_2 10 rfl rfl)
theorem dX4_makeFile_57 : decode cX4_makeFile 57 = .ok (.iconst 0, 1) := dk_3 (dk_at dksX4_makeFile_2 11 rfl rfl)
theorem dX4_makeFile_58 : decode cX4_makeFile 58 = .ok (.iconst 1, 1) := dk_4 (dk_at dksX4_makeFile_2 12 rfl rfl)
theorem dX4_makeFile_59 : decode cX4_makeFile 59 = .ok (.invokevirtual 135, 3) := dk_182 0 135 (dk_at dksX4_makeFile_2 13 rfl rfl)
theorem dX4_makeFile_62 : decode cX4_makeFile 62 = .ok (.istore 4, 2) := dk_54 4 (dk_at dksX4_makeFile_2 16 rfl rfl)
theorem dX4_makeFile_64 : decode cX4_makeFile 64 = .ok (.iload 4, 2) := dk_21 4 (dk_at dksX4_makeFile_2 18 rfl rfl)
theorem dX4_makeFile_66 : decode cX4_makeFile 66 = .ok (.iconst (-1), 1) := dk_2 (dk_at dksX4_makeFile_2 20 rfl rfl)
theorem dX4_makeFile_67 : decode cX4_makeFile 67 = .ok (.if_icmp .eq 9, 3) := dk_159 0 9 (dk_at dksX4_makeFile_2 21 rfl rfl)
theorem dX4_makeFile_70 : decode cX4_makeFile 70 = .ok (.bipush (-2), 2) := dk_16 254 (dk_at dksX4_makeFile_3 0 rfl rfl)
theorem dX4_makeFile_72 : decode cX4_makeFile 72 = .ok (.iload 4, 2) := dk_21 4 (dk_at dksX4_makeFile_3 2 rfl rfl)
theorem dX4_makeFile_74 : decode cX4_makeFile 74 = .ok (.isub, 1) := dk_100 (dk_at dksX4_makeFile_3 4 rfl rfl)
theorem dX4_makeFile_75 : decode cX4_makeFile 75 = .ok (.ireturn, 1) := dk_172 (dk_at dksX4_makeFile_3 5 rfl rfl)
theorem dX4_makeFile_76 : decode cX4_makeFile 76 = .ok (.aload_n 0, 1) := dk_42 (dk_at dksX4_makeFile_3 6 rfl rfl)
theorem dX4_makeFile_77 : decode cX4_makeFile 77 = .ok (.getfield 27, 3) := dk_180 0 27 (dk_at dksX4_makeFile_3 7 rfl rfl)
theorem dX4_makeFile_80 : decode cX4_makeFile 80 = .ok (.aload_n 0, 1) := dk_42 (dk_at dksX4_makeFile_3 10 rfl rfl)
theorem dX4_makeFile_81 : decode cX4_makeFile 81 = .ok (.getfield 115, 3) := dk_180 0 115 (dk_at dksX4_makeFile_3 11 rfl rfl)
theorem dX4_makeFile_84 : decode cX4_makeFile 84 = .ok (.iload_n 1, 1) := dk_27 (dk_at dksX4_makeFile_3 14 rfl rfl)
theorem dX4_makeFile_85 : decode cX4_makeFile 85 = .ok (.iastore, 1) := dk_79 (dk_at dksX4_makeFile_3 15 rfl rfl)
theorem dX4_makeFile_86 : decode cX4_makeFile 86 = .ok (.aload_n 0, 1) := dk_42 (dk_at dksX4_makeFile_3 16 rfl rfl)
theorem dX4_makeFile_87 : decode cX4_makeFile 87 = .ok (.getfield 30, 3) := dk_180 0 30 (dk_at dksX4_makeFile_3 17 rfl rfl)
theorem dX4_makeFile_90 : decode cX4_makeFile 90 = .ok (.aload_n 0, 1) := dk_42 (dk_at dksX4_makeFile_3 20 rfl rfl)
theorem dX4_makeFile_91 : decode cX4_makeFile 91 = .ok (.getfield 115, 3) := dk_180 0 115 (dk_at dksX4_makeFile_3 21 rfl rfl)
theorem dX4_makeFile_94 : decode cX4_makeFile 94 = .ok (.iload_n 2, 1) := dk_28 (dk_at dksX4_makeFile_4 0 rfl rfl)
theorem dX4_makeFile_95 : decode cX4_makeFile 95 = .ok (.iastore, 1) := dk_79 (dk_at dksX4_makeFile_4 1 rfl rfl)
theorem dX4_makeFile_96 : decode cX4_makeFile 96 = .ok (.aload_n 0, 1) := dk_42 (dk_at dksX4_makeFile_4 2 rfl rfl)
theorem dX4_makeFile_97 : decode cX4_makeFile 97 = .ok (.dup, 1) := dk_89 (dk_at dksX4_makeFile_4 3 rfl rfl)
theorem dX4_makeFile_98 : decode cX4_makeFile 98 = .ok (.getfield 115, 3) := dk_180 0 115 (dk_at dksX4_makeFile_4 4 rfl rfl)
theorem dX4_makeFile_101 : decode cX4_makeFile 101 = .ok (.iconst 1, 1) := dk_4 (dk_at dksX4_makeFile_4 7 rfl rfl)
theorem dX4_makeFile_102 : decode cX4_makeFile 102 = .ok (.iadd, 1) := dk_96 (dk_at dksX4_makeFile_4 8 rfl rfl)
theorem dX4_makeFile_103 : decode cX4_makeFile 103 = .ok (.putfield 115, 3) := dk_181 0 115 (dk_at dksX4_makeFile_4 9 rfl rfl)
theorem dX4_makeFile_106 : decode cX4_makeFile 106 = .ok (.aload_n 0, 1) := dk_42 (dk_at dksX4_makeFile_4 12 rfl rfl)
theorem dX4_makeFile_107 : decode cX4_makeFile 107 = .ok (.getfield 115, 3) := dk_180 0 115 (dk_at dksX4_makeFile_4 13 rfl rfl)
theorem dX4_makeFile_110 : decode cX4_makeFile 110 = .ok (.iconst 1, 1) := dk_4 (dk_at dksX4_makeFile_4 16 rfl rfl)
theorem dX4_makeFile_111 : decode cX4_makeFile 111 = .ok (.isub, 1) := dk_100 (dk_at dksX4_makeFile_4 17 rfl rfl)
theorem dX4_makeFile_112 : decode cX4_makeFile 112 = .ok (.ireturn, 1) := dk_172 (dk_at dksX4_makeFile_4 18 rfl rfl)
abbrev cX4_barring : ByteArray := prog_7_method_29_code
def yX4_barring : MethodName := ⟨RX4, "barring", "(IIII)I"⟩
def dkwX4_barring_6 : List UInt8 := [21, 5, 172, 132, 5, 1, 167, 255, 113, 2, 172]
abbrev dktX4_barring_6 : List UInt8 := dkwX4_barring_6 ++ []
def dkwX4_barring_5 : List UInt8 := [21, 6, 46, 164, 0, 7, 4, 167, 0, 4, 3, 54, 8, 21, 7, 154, 0, 8, 21, 8, 153, 0, 6]
abbrev dktX4_barring_5 : List UInt8 := dkwX4_barring_5 ++ dktX4_barring_6
def dkwX4_barring_4 : List UInt8 := [180, 0, 55, 21, 6, 46, 2, 159, 0, 26, 42, 21, 6, 182, 0, 132, 21, 4, 96, 42, 180, 0, 55]
abbrev dktX4_barring_4 : List UInt8 := dkwX4_barring_4 ++ dktX4_barring_5
def dkwX4_barring_3 : List UInt8 := [180, 0, 52, 21, 6, 46, 133, 148, 158, 0, 7, 4, 167, 0, 4, 3, 54, 7, 21, 4, 158, 0, 37, 42]
abbrev dktX4_barring_3 : List UInt8 := dkwX4_barring_3 ++ dktX4_barring_4
def dkwX4_barring_2 : List UInt8 := [21, 6, 46, 2, 159, 0, 33, 42, 21, 6, 42, 180, 0, 115, 182, 0, 118, 133, 29, 133, 97, 42]
abbrev dktX4_barring_2 : List UInt8 := dkwX4_barring_2 ++ dktX4_barring_3
def dkwX4_barring_1 : List UInt8 := [21, 5, 182, 0, 125, 54, 6, 29, 158, 0, 53, 42, 21, 6, 182, 0, 129, 154, 0, 40, 42, 180, 0, 52]
abbrev dktX4_barring_1 : List UInt8 := dkwX4_barring_1 ++ dktX4_barring_2
def dkwX4_barring_0 : List UInt8 := [3, 54, 5, 21, 5, 5, 161, 0, 15, 42, 27, 28, 21, 5, 182, 0, 125, 2, 159, 0, 131, 42, 27, 28]
abbrev dktX4_barring_0 : List UInt8 := dkwX4_barring_0 ++ dktX4_barring_1
theorem dksX4_barring_0 : cX4_barring.data.toList.drop 0 = dktX4_barring_0 := by decide +kernel
theorem dksX4_barring_1 : cX4_barring.data.toList.drop 24 = dktX4_barring_1 := dk_seg dksX4_barring_0 24 rfl rfl
theorem dksX4_barring_2 : cX4_barring.data.toList.drop 48 = dktX4_barring_2 := dk_seg dksX4_barring_1 24 rfl rfl
theorem dksX4_barring_3 : cX4_barring.data.toList.drop 70 = dktX4_barring_3 := dk_seg dksX4_barring_2 22 rfl rfl
theorem dksX4_barring_4 : cX4_barring.data.toList.drop 94 = dktX4_barring_4 := dk_seg dksX4_barring_3 24 rfl rfl
theorem dksX4_barring_5 : cX4_barring.data.toList.drop 117 = dktX4_barring_5 := dk_seg dksX4_barring_4 23 rfl rfl
theorem dksX4_barring_6 : cX4_barring.data.toList.drop 140 = dktX4_barring_6 := dk_seg dksX4_barring_5 23 rfl rfl
theorem dX4_barring_0 : decode cX4_barring 0 = .ok (.iconst 0, 1) := dk_3 (dk_at dksX4_barring_0 0 rfl rfl)
theorem dX4_barring_1 : decode cX4_barring 1 = .ok (.istore 5, 2) := dk_54 5 (dk_at dksX4_barring_0 1 rfl rfl)
theorem dX4_barring_3 : decode cX4_barring 3 = .ok (.iload 5, 2) := dk_21 5 (dk_at dksX4_barring_0 3 rfl rfl)
theorem dX4_barring_5 : decode cX4_barring 5 = .ok (.iconst 2, 1) := dk_5 (dk_at dksX4_barring_0 5 rfl rfl)
theorem dX4_barring_6 : decode cX4_barring 6 = .ok (.if_icmp .lt 15, 3) := dk_161 0 15 (dk_at dksX4_barring_0 6 rfl rfl)
theorem dX4_barring_9 : decode cX4_barring 9 = .ok (.aload_n 0, 1) := dk_42 (dk_at dksX4_barring_0 9 rfl rfl)
theorem dX4_barring_10 : decode cX4_barring 10 = .ok (.iload_n 1, 1) := dk_27 (dk_at dksX4_barring_0 10 rfl rfl)
theorem dX4_barring_11 : decode cX4_barring 11 = .ok (.iload_n 2, 1) := dk_28 (dk_at dksX4_barring_0 11 rfl rfl)
theorem dX4_barring_12 : decode cX4_barring 12 = .ok (.iload 5, 2) := dk_21 5 (dk_at dksX4_barring_0 12 rfl rfl)
theorem dX4_barring_14 : decode cX4_barring 14 = .ok (.invokevirtual 125, 3) := dk_182 0 125 (dk_at dksX4_barring_0 14 rfl rfl)
theorem dX4_barring_17 : decode cX4_barring 17 = .ok (.iconst (-1), 1) := dk_2 (dk_at dksX4_barring_0 17 rfl rfl)
theorem dX4_barring_18 : decode cX4_barring 18 = .ok (.if_icmp .eq 131, 3) := dk_159 0 131 (dk_at dksX4_barring_0 18 rfl rfl)
theorem dX4_barring_21 : decode cX4_barring 21 = .ok (.aload_n 0, 1) := dk_42 (dk_at dksX4_barring_0 21 rfl rfl)
theorem dX4_barring_22 : decode cX4_barring 22 = .ok (.iload_n 1, 1) := dk_27 (dk_at dksX4_barring_0 22 rfl rfl)
theorem dX4_barring_23 : decode cX4_barring 23 = .ok (.iload_n 2, 1) := dk_28 (dk_at dksX4_barring_0 23 rfl rfl)
theorem dX4_barring_24 : decode cX4_barring 24 = .ok (.iload 5, 2) := dk_21 5 (dk_at dksX4_barring_1 0 rfl rfl)
theorem dX4_barring_26 : decode cX4_barring 26 = .ok (.invokevirtual 125, 3) := dk_182 0 125 (dk_at dksX4_barring_1 2 rfl rfl)
theorem dX4_barring_29 : decode cX4_barring 29 = .ok (.istore 6, 2) := dk_54 6 (dk_at dksX4_barring_1 5 rfl rfl)
theorem dX4_barring_31 : decode cX4_barring 31 = .ok (.iload_n 3, 1) := dk_29 (dk_at dksX4_barring_1 7 rfl rfl)
theorem dX4_barring_32 : decode cX4_barring 32 = .ok (.ifCond .le 53, 3) := dk_158 0 53 (dk_at dksX4_barring_1 8 rfl rfl)
theorem dX4_barring_35 : decode cX4_barring 35 = .ok (.aload_n 0, 1) := dk_42 (dk_at dksX4_barring_1 11 rfl rfl)
theorem dX4_barring_36 : decode cX4_barring 36 = .ok (.iload 6, 2) := dk_21 6 (dk_at dksX4_barring_1 12 rfl rfl)
theorem dX4_barring_38 : decode cX4_barring 38 = .ok (.invokevirtual 129, 3) := dk_182 0 129 (dk_at dksX4_barring_1 14 rfl rfl)
theorem dX4_barring_41 : decode cX4_barring 41 = .ok (.ifCond .ne 40, 3) := dk_154 0 40 (dk_at dksX4_barring_1 17 rfl rfl)
theorem dX4_barring_44 : decode cX4_barring 44 = .ok (.aload_n 0, 1) := dk_42 (dk_at dksX4_barring_1 20 rfl rfl)
theorem dX4_barring_45 : decode cX4_barring 45 = .ok (.getfield 52, 3) := dk_180 0 52 (dk_at dksX4_barring_1 21 rfl rfl)
theorem dX4_barring_48 : decode cX4_barring 48 = .ok (.iload 6, 2) := dk_21 6 (dk_at dksX4_barring_2 0 rfl rfl)
theorem dX4_barring_50 : decode cX4_barring 50 = .ok (.iaload, 1) := dk_46 (dk_at dksX4_barring_2 2 rfl rfl)
theorem dX4_barring_51 : decode cX4_barring 51 = .ok (.iconst (-1), 1) := dk_2 (dk_at dksX4_barring_2 3 rfl rfl)
theorem dX4_barring_52 : decode cX4_barring 52 = .ok (.if_icmp .eq 33, 3) := dk_159 0 33 (dk_at dksX4_barring_2 4 rfl rfl)
theorem dX4_barring_55 : decode cX4_barring 55 = .ok (.aload_n 0, 1) := dk_42 (dk_at dksX4_barring_2 7 rfl rfl)
theorem dX4_barring_56 : decode cX4_barring 56 = .ok (.iload 6, 2) := dk_21 6 (dk_at dksX4_barring_2 8 rfl rfl)
theorem dX4_barring_58 : decode cX4_barring 58 = .ok (.aload_n 0, 1) := dk_42 (dk_at dksX4_barring_2 10 rfl rfl)
theorem dX4_barring_59 : decode cX4_barring 59 = .ok (.getfield 115, 3) := dk_180 0 115 (dk_at dksX4_barring_2 11 rfl rfl)
theorem dX4_barring_62 : decode cX4_barring 62 = .ok (.invokevirtual 118, 3) := dk_182 0 118 (dk_at dksX4_barring_2 14 rfl rfl)
theorem dX4_barring_65 : decode cX4_barring 65 = .ok (.i2l, 1) := dk_133 (dk_at dksX4_barring_2 17 rfl rfl)
theorem dX4_barring_66 : decode cX4_barring 66 = .ok (.iload_n 3, 1) := dk_29 (dk_at dksX4_barring_2 18 rfl rfl)
theorem dX4_barring_67 : decode cX4_barring 67 = .ok (.i2l, 1) := dk_133 (dk_at dksX4_barring_2 19 rfl rfl)
theorem dX4_barring_68 : decode cX4_barring 68 = .ok (.ladd, 1) := dk_97 (dk_at dksX4_barring_2 20 rfl rfl)
theorem dX4_barring_69 : decode cX4_barring 69 = .ok (.aload_n 0, 1) := dk_42 (dk_at dksX4_barring_2 21 rfl rfl)
theorem dX4_barring_70 : decode cX4_barring 70 = .ok (.getfield 52, 3) := dk_180 0 52 (dk_at dksX4_barring_3 0 rfl rfl)
theorem dX4_barring_73 : decode cX4_barring 73 = .ok (.iload 6, 2) := dk_21 6 (dk_at dksX4_barring_3 3 rfl rfl)
theorem dX4_barring_75 : decode cX4_barring 75 = .ok (.iaload, 1) := dk_46 (dk_at dksX4_barring_3 5 rfl rfl)
theorem dX4_barring_76 : decode cX4_barring 76 = .ok (.i2l, 1) := dk_133 (dk_at dksX4_barring_3 6 rfl rfl)
theorem dX4_barring_77 : decode cX4_barring 77 = .ok (.lcmp, 1) := dk_148 (dk_at dksX4_barring_3 7 rfl rfl)
theorem dX4_barring_78 : decode cX4_barring 78 = .ok (.ifCond .le 7, 3) := dk_158 0 7 (dk_at dksX4_barring_3 8 rfl rfl)
theorem dX4_barring_81 : decode cX4_barring 81 = .ok (.iconst 1, 1) := dk_4 (dk_at dksX4_barring_3 11 rfl rfl)
theorem dX4_barring_82 : decode cX4_barring 82 = .ok (.goto 4, 3) := dk_167 0 4 (dk_at dksX4_barring_3 12 rfl rfl)
theorem dX4_barring_85 : decode cX4_barring 85 = .ok (.iconst 0, 1) := dk_3 (dk_at dksX4_barring_3 15 rfl rfl)
theorem dX4_barring_86 : decode cX4_barring 86 = .ok (.istore 7, 2) := dk_54 7 (dk_at dksX4_barring_3 16 rfl rfl)
theorem dX4_barring_88 : decode cX4_barring 88 = .ok (.iload 4, 2) := dk_21 4 (dk_at dksX4_barring_3 18 rfl rfl)
theorem dX4_barring_90 : decode cX4_barring 90 = .ok (.ifCond .le 37, 3) := dk_158 0 37 (dk_at dksX4_barring_3 20 rfl rfl)
theorem dX4_barring_93 : decode cX4_barring 93 = .ok (.aload_n 0, 1) := dk_42 (dk_at dksX4_barring_3 23 rfl rfl)
theorem dX4_barring_94 : decode cX4_barring 94 = .ok (.getfield 55, 3) := dk_180 0 55 (dk_at dksX4_barring_4 0 rfl rfl)
theorem dX4_barring_97 : decode cX4_barring 97 = .ok (.iload 6, 2) := dk_21 6 (dk_at dksX4_barring_4 3 rfl rfl)
theorem dX4_barring_99 : decode cX4_barring 99 = .ok (.iaload, 1) := dk_46 (dk_at dksX4_barring_4 5 rfl rfl)
theorem dX4_barring_100 : decode cX4_barring 100 = .ok (.iconst (-1), 1) := dk_2 (dk_at dksX4_barring_4 6 rfl rfl)
theorem dX4_barring_101 : decode cX4_barring 101 = .ok (.if_icmp .eq 26, 3) := dk_159 0 26 (dk_at dksX4_barring_4 7 rfl rfl)
theorem dX4_barring_104 : decode cX4_barring 104 = .ok (.aload_n 0, 1) := dk_42 (dk_at dksX4_barring_4 10 rfl rfl)
theorem dX4_barring_105 : decode cX4_barring 105 = .ok (.iload 6, 2) := dk_21 6 (dk_at dksX4_barring_4 11 rfl rfl)
theorem dX4_barring_107 : decode cX4_barring 107 = .ok (.invokevirtual 132, 3) := dk_182 0 132 (dk_at dksX4_barring_4 13 rfl rfl)
theorem dX4_barring_110 : decode cX4_barring 110 = .ok (.iload 4, 2) := dk_21 4 (dk_at dksX4_barring_4 16 rfl rfl)
theorem dX4_barring_112 : decode cX4_barring 112 = .ok (.iadd, 1) := dk_96 (dk_at dksX4_barring_4 18 rfl rfl)
theorem dX4_barring_113 : decode cX4_barring 113 = .ok (.aload_n 0, 1) := dk_42 (dk_at dksX4_barring_4 19 rfl rfl)
theorem dX4_barring_114 : decode cX4_barring 114 = .ok (.getfield 55, 3) := dk_180 0 55 (dk_at dksX4_barring_4 20 rfl rfl)
theorem dX4_barring_117 : decode cX4_barring 117 = .ok (.iload 6, 2) := dk_21 6 (dk_at dksX4_barring_5 0 rfl rfl)
theorem dX4_barring_119 : decode cX4_barring 119 = .ok (.iaload, 1) := dk_46 (dk_at dksX4_barring_5 2 rfl rfl)
theorem dX4_barring_120 : decode cX4_barring 120 = .ok (.if_icmp .le 7, 3) := dk_164 0 7 (dk_at dksX4_barring_5 3 rfl rfl)
theorem dX4_barring_123 : decode cX4_barring 123 = .ok (.iconst 1, 1) := dk_4 (dk_at dksX4_barring_5 6 rfl rfl)
theorem dX4_barring_124 : decode cX4_barring 124 = .ok (.goto 4, 3) := dk_167 0 4 (dk_at dksX4_barring_5 7 rfl rfl)
theorem dX4_barring_127 : decode cX4_barring 127 = .ok (.iconst 0, 1) := dk_3 (dk_at dksX4_barring_5 10 rfl rfl)
theorem dX4_barring_128 : decode cX4_barring 128 = .ok (.istore 8, 2) := dk_54 8 (dk_at dksX4_barring_5 11 rfl rfl)
theorem dX4_barring_130 : decode cX4_barring 130 = .ok (.iload 7, 2) := dk_21 7 (dk_at dksX4_barring_5 13 rfl rfl)
theorem dX4_barring_132 : decode cX4_barring 132 = .ok (.ifCond .ne 8, 3) := dk_154 0 8 (dk_at dksX4_barring_5 15 rfl rfl)
theorem dX4_barring_135 : decode cX4_barring 135 = .ok (.iload 8, 2) := dk_21 8 (dk_at dksX4_barring_5 18 rfl rfl)
theorem dX4_barring_137 : decode cX4_barring 137 = .ok (.ifCond .eq 6, 3) := dk_153 0 6 (dk_at dksX4_barring_5 20 rfl rfl)
theorem dX4_barring_140 : decode cX4_barring 140 = .ok (.iload 5, 2) := dk_21 5 (dk_at dksX4_barring_6 0 rfl rfl)
theorem dX4_barring_142 : decode cX4_barring 142 = .ok (.ireturn, 1) := dk_172 (dk_at dksX4_barring_6 2 rfl rfl)
theorem dX4_barring_143 : decode cX4_barring 143 = .ok (.iinc 5 1, 3) := dk_132 5 1 (dk_at dksX4_barring_6 3 rfl rfl)
theorem dX4_barring_146 : decode cX4_barring 146 = .ok (.goto (-143), 3) := dk_167 255 113 (dk_at dksX4_barring_6 6 rfl rfl)
theorem dX4_barring_149 : decode cX4_barring 149 = .ok (.iconst (-1), 1) := dk_2 (dk_at dksX4_barring_6 9 rfl rfl)
theorem dX4_barring_150 : decode cX4_barring 150 = .ok (.ireturn, 1) := dk_172 (dk_at dksX4_barring_6 10 rfl rfl)
abbrev cX4_asked : ByteArray := prog_7_method_28_code
def yX4_asked : MethodName := ⟨RX4, "asked", "(III)I"⟩
def dkwX4_asked_3 : List UInt8 := [153, 0, 11, 16, 9, 21, 6, 96, 167, 0, 5, 21, 5, 54, 5, 132, 6, 1, 167, 255, 205, 21, 5, 172]
abbrev dktX4_asked_3 : List UInt8 := dkwX4_asked_3 ++ []
def dkwX4_asked_2 : List UInt8 := [21, 4, 155, 0, 43, 42, 180, 0, 23, 21, 6, 46, 21, 4, 160, 0, 21, 42, 28, 21, 6, 182, 0, 82]
abbrev dktX4_asked_2 : List UInt8 := dkwX4_asked_2 ++ dktX4_asked_3
def dkwX4_asked_1 : List UInt8 := [28, 46, 29, 100, 5, 96, 54, 4, 2, 54, 5, 3, 54, 6, 21, 6, 42, 180, 0, 16, 162, 0, 48]
abbrev dktX4_asked_1 : List UInt8 := dkwX4_asked_1 ++ dktX4_asked_2
def dkwX4_asked_0 : List UInt8 := [29, 5, 162, 0, 18, 29, 154, 0, 7, 27, 167, 0, 9, 16, 6, 27, 6, 112, 96, 172, 42, 180, 0, 23]
abbrev dktX4_asked_0 : List UInt8 := dkwX4_asked_0 ++ dktX4_asked_1
theorem dksX4_asked_0 : cX4_asked.data.toList.drop 0 = dktX4_asked_0 := by decide +kernel
theorem dksX4_asked_1 : cX4_asked.data.toList.drop 24 = dktX4_asked_1 := dk_seg dksX4_asked_0 24 rfl rfl
theorem dksX4_asked_2 : cX4_asked.data.toList.drop 47 = dktX4_asked_2 := dk_seg dksX4_asked_1 23 rfl rfl
theorem dksX4_asked_3 : cX4_asked.data.toList.drop 71 = dktX4_asked_3 := dk_seg dksX4_asked_2 24 rfl rfl
theorem dX4_asked_0 : decode cX4_asked 0 = .ok (.iload_n 3, 1) := dk_29 (dk_at dksX4_asked_0 0 rfl rfl)
theorem dX4_asked_1 : decode cX4_asked 1 = .ok (.iconst 2, 1) := dk_5 (dk_at dksX4_asked_0 1 rfl rfl)
theorem dX4_asked_2 : decode cX4_asked 2 = .ok (.if_icmp .ge 18, 3) := dk_162 0 18 (dk_at dksX4_asked_0 2 rfl rfl)
theorem dX4_asked_5 : decode cX4_asked 5 = .ok (.iload_n 3, 1) := dk_29 (dk_at dksX4_asked_0 5 rfl rfl)
theorem dX4_asked_6 : decode cX4_asked 6 = .ok (.ifCond .ne 7, 3) := dk_154 0 7 (dk_at dksX4_asked_0 6 rfl rfl)
theorem dX4_asked_9 : decode cX4_asked 9 = .ok (.iload_n 1, 1) := dk_27 (dk_at dksX4_asked_0 9 rfl rfl)
theorem dX4_asked_10 : decode cX4_asked 10 = .ok (.goto 9, 3) := dk_167 0 9 (dk_at dksX4_asked_0 10 rfl rfl)
theorem dX4_asked_13 : decode cX4_asked 13 = .ok (.bipush 6, 2) := dk_16 6 (dk_at dksX4_asked_0 13 rfl rfl)
theorem dX4_asked_15 : decode cX4_asked 15 = .ok (.iload_n 1, 1) := dk_27 (dk_at dksX4_asked_0 15 rfl rfl)
theorem dX4_asked_16 : decode cX4_asked 16 = .ok (.iconst 3, 1) := dk_6 (dk_at dksX4_asked_0 16 rfl rfl)
theorem dX4_asked_17 : decode cX4_asked 17 = .ok (.irem, 1) := dk_112 (dk_at dksX4_asked_0 17 rfl rfl)
theorem dX4_asked_18 : decode cX4_asked 18 = .ok (.iadd, 1) := dk_96 (dk_at dksX4_asked_0 18 rfl rfl)
theorem dX4_asked_19 : decode cX4_asked 19 = .ok (.ireturn, 1) := dk_172 (dk_at dksX4_asked_0 19 rfl rfl)
theorem dX4_asked_20 : decode cX4_asked 20 = .ok (.aload_n 0, 1) := dk_42 (dk_at dksX4_asked_0 20 rfl rfl)
theorem dX4_asked_21 : decode cX4_asked 21 = .ok (.getfield 23, 3) := dk_180 0 23 (dk_at dksX4_asked_0 21 rfl rfl)
theorem dX4_asked_24 : decode cX4_asked 24 = .ok (.iload_n 2, 1) := dk_28 (dk_at dksX4_asked_1 0 rfl rfl)
theorem dX4_asked_25 : decode cX4_asked 25 = .ok (.iaload, 1) := dk_46 (dk_at dksX4_asked_1 1 rfl rfl)
theorem dX4_asked_26 : decode cX4_asked 26 = .ok (.iload_n 3, 1) := dk_29 (dk_at dksX4_asked_1 2 rfl rfl)
theorem dX4_asked_27 : decode cX4_asked 27 = .ok (.isub, 1) := dk_100 (dk_at dksX4_asked_1 3 rfl rfl)
theorem dX4_asked_28 : decode cX4_asked 28 = .ok (.iconst 2, 1) := dk_5 (dk_at dksX4_asked_1 4 rfl rfl)
theorem dX4_asked_29 : decode cX4_asked 29 = .ok (.iadd, 1) := dk_96 (dk_at dksX4_asked_1 5 rfl rfl)
theorem dX4_asked_30 : decode cX4_asked 30 = .ok (.istore 4, 2) := dk_54 4 (dk_at dksX4_asked_1 6 rfl rfl)
theorem dX4_asked_32 : decode cX4_asked 32 = .ok (.iconst (-1), 1) := dk_2 (dk_at dksX4_asked_1 8 rfl rfl)
theorem dX4_asked_33 : decode cX4_asked 33 = .ok (.istore 5, 2) := dk_54 5 (dk_at dksX4_asked_1 9 rfl rfl)
theorem dX4_asked_35 : decode cX4_asked 35 = .ok (.iconst 0, 1) := dk_3 (dk_at dksX4_asked_1 11 rfl rfl)
theorem dX4_asked_36 : decode cX4_asked 36 = .ok (.istore 6, 2) := dk_54 6 (dk_at dksX4_asked_1 12 rfl rfl)
theorem dX4_asked_38 : decode cX4_asked 38 = .ok (.iload 6, 2) := dk_21 6 (dk_at dksX4_asked_1 14 rfl rfl)
theorem dX4_asked_40 : decode cX4_asked 40 = .ok (.aload_n 0, 1) := dk_42 (dk_at dksX4_asked_1 16 rfl rfl)
theorem dX4_asked_41 : decode cX4_asked 41 = .ok (.getfield 16, 3) := dk_180 0 16 (dk_at dksX4_asked_1 17 rfl rfl)
theorem dX4_asked_44 : decode cX4_asked 44 = .ok (.if_icmp .ge 48, 3) := dk_162 0 48 (dk_at dksX4_asked_1 20 rfl rfl)
theorem dX4_asked_47 : decode cX4_asked 47 = .ok (.iload 4, 2) := dk_21 4 (dk_at dksX4_asked_2 0 rfl rfl)
theorem dX4_asked_49 : decode cX4_asked 49 = .ok (.ifCond .lt 43, 3) := dk_155 0 43 (dk_at dksX4_asked_2 2 rfl rfl)
theorem dX4_asked_52 : decode cX4_asked 52 = .ok (.aload_n 0, 1) := dk_42 (dk_at dksX4_asked_2 5 rfl rfl)
theorem dX4_asked_53 : decode cX4_asked 53 = .ok (.getfield 23, 3) := dk_180 0 23 (dk_at dksX4_asked_2 6 rfl rfl)
theorem dX4_asked_56 : decode cX4_asked 56 = .ok (.iload 6, 2) := dk_21 6 (dk_at dksX4_asked_2 9 rfl rfl)
theorem dX4_asked_58 : decode cX4_asked 58 = .ok (.iaload, 1) := dk_46 (dk_at dksX4_asked_2 11 rfl rfl)
theorem dX4_asked_59 : decode cX4_asked 59 = .ok (.iload 4, 2) := dk_21 4 (dk_at dksX4_asked_2 12 rfl rfl)
theorem dX4_asked_61 : decode cX4_asked 61 = .ok (.if_icmp .ne 21, 3) := dk_160 0 21 (dk_at dksX4_asked_2 14 rfl rfl)
theorem dX4_asked_64 : decode cX4_asked 64 = .ok (.aload_n 0, 1) := dk_42 (dk_at dksX4_asked_2 17 rfl rfl)
theorem dX4_asked_65 : decode cX4_asked 65 = .ok (.iload_n 2, 1) := dk_28 (dk_at dksX4_asked_2 18 rfl rfl)
theorem dX4_asked_66 : decode cX4_asked 66 = .ok (.iload 6, 2) := dk_21 6 (dk_at dksX4_asked_2 19 rfl rfl)
theorem dX4_asked_68 : decode cX4_asked 68 = .ok (.invokevirtual 82, 3) := dk_182 0 82 (dk_at dksX4_asked_2 21 rfl rfl)
theorem dX4_asked_71 : decode cX4_asked 71 = .ok (.ifCond .eq 11, 3) := dk_153 0 11 (dk_at dksX4_asked_3 0 rfl rfl)
theorem dX4_asked_74 : decode cX4_asked 74 = .ok (.bipush 9, 2) := dk_16 9 (dk_at dksX4_asked_3 3 rfl rfl)
theorem dX4_asked_76 : decode cX4_asked 76 = .ok (.iload 6, 2) := dk_21 6 (dk_at dksX4_asked_3 5 rfl rfl)
theorem dX4_asked_78 : decode cX4_asked 78 = .ok (.iadd, 1) := dk_96 (dk_at dksX4_asked_3 7 rfl rfl)
theorem dX4_asked_79 : decode cX4_asked 79 = .ok (.goto 5, 3) := dk_167 0 5 (dk_at dksX4_asked_3 8 rfl rfl)
theorem dX4_asked_82 : decode cX4_asked 82 = .ok (.iload 5, 2) := dk_21 5 (dk_at dksX4_asked_3 11 rfl rfl)
theorem dX4_asked_84 : decode cX4_asked 84 = .ok (.istore 5, 2) := dk_54 5 (dk_at dksX4_asked_3 13 rfl rfl)
theorem dX4_asked_86 : decode cX4_asked 86 = .ok (.iinc 6 1, 3) := dk_132 6 1 (dk_at dksX4_asked_3 15 rfl rfl)
theorem dX4_asked_89 : decode cX4_asked 89 = .ok (.goto (-51), 3) := dk_167 255 205 (dk_at dksX4_asked_3 18 rfl rfl)
theorem dX4_asked_92 : decode cX4_asked 92 = .ok (.iload 5, 2) := dk_21 5 (dk_at dksX4_asked_3 21 rfl rfl)
theorem dX4_asked_94 : decode cX4_asked 94 = .ok (.ireturn, 1) := dk_172 (dk_at dksX4_asked_3 23 rfl rfl)
abbrev cX4_isGraceGone : ByteArray := prog_7_method_27_code
def yX4_isGraceGone : MethodName := ⟨RX4, "isGraceGone", "(I)Z"⟩
def dkwX4_isGraceGone_1 : List UInt8 := [161, 0, 7, 4, 167, 0, 4, 3, 172]
abbrev dktX4_isGraceGone_1 : List UInt8 := dkwX4_isGraceGone_1 ++ []
def dkwX4_isGraceGone_0 : List UInt8 := [42, 180, 0, 58, 27, 46, 2, 159, 0, 23, 42, 180, 0, 122, 42, 180, 0, 58, 27, 46, 100, 16, 48]
abbrev dktX4_isGraceGone_0 : List UInt8 := dkwX4_isGraceGone_0 ++ dktX4_isGraceGone_1
theorem dksX4_isGraceGone_0 : cX4_isGraceGone.data.toList.drop 0 = dktX4_isGraceGone_0 := by decide +kernel
theorem dksX4_isGraceGone_1 : cX4_isGraceGone.data.toList.drop 23 = dktX4_isGraceGone_1 := dk_seg dksX4_isGraceGone_0 23 rfl rfl
theorem dX4_isGraceGone_0 : decode cX4_isGraceGone 0 = .ok (.aload_n 0, 1) := dk_42 (dk_at dksX4_isGraceGone_0 0 rfl rfl)
theorem dX4_isGraceGone_1 : decode cX4_isGraceGone 1 = .ok (.getfield 58, 3) := dk_180 0 58 (dk_at dksX4_isGraceGone_0 1 rfl rfl)
theorem dX4_isGraceGone_4 : decode cX4_isGraceGone 4 = .ok (.iload_n 1, 1) := dk_27 (dk_at dksX4_isGraceGone_0 4 rfl rfl)
theorem dX4_isGraceGone_5 : decode cX4_isGraceGone 5 = .ok (.iaload, 1) := dk_46 (dk_at dksX4_isGraceGone_0 5 rfl rfl)
theorem dX4_isGraceGone_6 : decode cX4_isGraceGone 6 = .ok (.iconst (-1), 1) := dk_2 (dk_at dksX4_isGraceGone_0 6 rfl rfl)
theorem dX4_isGraceGone_7 : decode cX4_isGraceGone 7 = .ok (.if_icmp .eq 23, 3) := dk_159 0 23 (dk_at dksX4_isGraceGone_0 7 rfl rfl)
theorem dX4_isGraceGone_10 : decode cX4_isGraceGone 10 = .ok (.aload_n 0, 1) := dk_42 (dk_at dksX4_isGraceGone_0 10 rfl rfl)
theorem dX4_isGraceGone_11 : decode cX4_isGraceGone 11 = .ok (.getfield 122, 3) := dk_180 0 122 (dk_at dksX4_isGraceGone_0 11 rfl rfl)
theorem dX4_isGraceGone_14 : decode cX4_isGraceGone 14 = .ok (.aload_n 0, 1) := dk_42 (dk_at dksX4_isGraceGone_0 14 rfl rfl)
theorem dX4_isGraceGone_15 : decode cX4_isGraceGone 15 = .ok (.getfield 58, 3) := dk_180 0 58 (dk_at dksX4_isGraceGone_0 15 rfl rfl)
theorem dX4_isGraceGone_18 : decode cX4_isGraceGone 18 = .ok (.iload_n 1, 1) := dk_27 (dk_at dksX4_isGraceGone_0 18 rfl rfl)
theorem dX4_isGraceGone_19 : decode cX4_isGraceGone 19 = .ok (.iaload, 1) := dk_46 (dk_at dksX4_isGraceGone_0 19 rfl rfl)
theorem dX4_isGraceGone_20 : decode cX4_isGraceGone 20 = .ok (.isub, 1) := dk_100 (dk_at dksX4_isGraceGone_0 20 rfl rfl)
theorem dX4_isGraceGone_21 : decode cX4_isGraceGone 21 = .ok (.bipush 48, 2) := dk_16 48 (dk_at dksX4_isGraceGone_0 21 rfl rfl)
theorem dX4_isGraceGone_23 : decode cX4_isGraceGone 23 = .ok (.if_icmp .lt 7, 3) := dk_161 0 7 (dk_at dksX4_isGraceGone_1 0 rfl rfl)
theorem dX4_isGraceGone_26 : decode cX4_isGraceGone 26 = .ok (.iconst 1, 1) := dk_4 (dk_at dksX4_isGraceGone_1 3 rfl rfl)
theorem dX4_isGraceGone_27 : decode cX4_isGraceGone 27 = .ok (.goto 4, 3) := dk_167 0 4 (dk_at dksX4_isGraceGone_1 4 rfl rfl)
theorem dX4_isGraceGone_30 : decode cX4_isGraceGone 30 = .ok (.iconst 0, 1) := dk_3 (dk_at dksX4_isGraceGone_1 7 rfl rfl)
theorem dX4_isGraceGone_31 : decode cX4_isGraceGone 31 = .ok (.ireturn, 1) := dk_172 (dk_at dksX4_isGraceGone_1 8 rfl rfl)
abbrev cX4_countFiles : ByteArray := prog_7_method_25_code
def yX4_countFiles : MethodName := ⟨RX4, "countFiles", "(I)I"⟩
def dkwX4_countFiles_1 : List UInt8 := [167, 0, 4, 3, 96, 61, 132, 3, 1, 167, 255, 228, 28, 172]
abbrev dktX4_countFiles_1 : List UInt8 := dkwX4_countFiles_1 ++ []
def dkwX4_countFiles_0 : List UInt8 := [3, 61, 3, 62, 29, 42, 180, 0, 115, 162, 0, 26, 28, 42, 29, 27, 182, 0, 109, 153, 0, 7, 4]
abbrev dktX4_countFiles_0 : List UInt8 := dkwX4_countFiles_0 ++ dktX4_countFiles_1
theorem dksX4_countFiles_0 : cX4_countFiles.data.toList.drop 0 = dktX4_countFiles_0 := by decide +kernel
theorem dksX4_countFiles_1 : cX4_countFiles.data.toList.drop 23 = dktX4_countFiles_1 := dk_seg dksX4_countFiles_0 23 rfl rfl
theorem dX4_countFiles_0 : decode cX4_countFiles 0 = .ok (.iconst 0, 1) := dk_3 (dk_at dksX4_countFiles_0 0 rfl rfl)
theorem dX4_countFiles_1 : decode cX4_countFiles 1 = .ok (.istore_n 2, 1) := dk_61 (dk_at dksX4_countFiles_0 1 rfl rfl)
theorem dX4_countFiles_2 : decode cX4_countFiles 2 = .ok (.iconst 0, 1) := dk_3 (dk_at dksX4_countFiles_0 2 rfl rfl)
theorem dX4_countFiles_3 : decode cX4_countFiles 3 = .ok (.istore_n 3, 1) := dk_62 (dk_at dksX4_countFiles_0 3 rfl rfl)
theorem dX4_countFiles_4 : decode cX4_countFiles 4 = .ok (.iload_n 3, 1) := dk_29 (dk_at dksX4_countFiles_0 4 rfl rfl)
theorem dX4_countFiles_5 : decode cX4_countFiles 5 = .ok (.aload_n 0, 1) := dk_42 (dk_at dksX4_countFiles_0 5 rfl rfl)
theorem dX4_countFiles_6 : decode cX4_countFiles 6 = .ok (.getfield 115, 3) := dk_180 0 115 (dk_at dksX4_countFiles_0 6 rfl rfl)
theorem dX4_countFiles_9 : decode cX4_countFiles 9 = .ok (.if_icmp .ge 26, 3) := dk_162 0 26 (dk_at dksX4_countFiles_0 9 rfl rfl)
theorem dX4_countFiles_12 : decode cX4_countFiles 12 = .ok (.iload_n 2, 1) := dk_28 (dk_at dksX4_countFiles_0 12 rfl rfl)
theorem dX4_countFiles_13 : decode cX4_countFiles 13 = .ok (.aload_n 0, 1) := dk_42 (dk_at dksX4_countFiles_0 13 rfl rfl)
theorem dX4_countFiles_14 : decode cX4_countFiles 14 = .ok (.iload_n 3, 1) := dk_29 (dk_at dksX4_countFiles_0 14 rfl rfl)
theorem dX4_countFiles_15 : decode cX4_countFiles 15 = .ok (.iload_n 1, 1) := dk_27 (dk_at dksX4_countFiles_0 15 rfl rfl)
theorem dX4_countFiles_16 : decode cX4_countFiles 16 = .ok (.invokevirtual 109, 3) := dk_182 0 109 (dk_at dksX4_countFiles_0 16 rfl rfl)
theorem dX4_countFiles_19 : decode cX4_countFiles 19 = .ok (.ifCond .eq 7, 3) := dk_153 0 7 (dk_at dksX4_countFiles_0 19 rfl rfl)
theorem dX4_countFiles_22 : decode cX4_countFiles 22 = .ok (.iconst 1, 1) := dk_4 (dk_at dksX4_countFiles_0 22 rfl rfl)
theorem dX4_countFiles_23 : decode cX4_countFiles 23 = .ok (.goto 4, 3) := dk_167 0 4 (dk_at dksX4_countFiles_1 0 rfl rfl)
theorem dX4_countFiles_26 : decode cX4_countFiles 26 = .ok (.iconst 0, 1) := dk_3 (dk_at dksX4_countFiles_1 3 rfl rfl)
theorem dX4_countFiles_27 : decode cX4_countFiles 27 = .ok (.iadd, 1) := dk_96 (dk_at dksX4_countFiles_1 4 rfl rfl)
theorem dX4_countFiles_28 : decode cX4_countFiles 28 = .ok (.istore_n 2, 1) := dk_61 (dk_at dksX4_countFiles_1 5 rfl rfl)
theorem dX4_countFiles_29 : decode cX4_countFiles 29 = .ok (.iinc 3 1, 3) := dk_132 3 1 (dk_at dksX4_countFiles_1 6 rfl rfl)
theorem dX4_countFiles_32 : decode cX4_countFiles 32 = .ok (.goto (-28), 3) := dk_167 255 228 (dk_at dksX4_countFiles_1 9 rfl rfl)
theorem dX4_countFiles_35 : decode cX4_countFiles 35 = .ok (.iload_n 2, 1) := dk_28 (dk_at dksX4_countFiles_1 12 rfl rfl)
theorem dX4_countFiles_36 : decode cX4_countFiles 36 = .ok (.ireturn, 1) := dk_172 (dk_at dksX4_countFiles_1 13 rfl rfl)
abbrev cX4_write : ByteArray := prog_7_method_32_code
def yX4_write : MethodName := ⟨RX4, "write", "(II)I"⟩
def dkwX4_write_5 : List UInt8 := [180, 0, 33, 27, 46, 172]
abbrev dktX4_write_5 : List UInt8 := dkwX4_write_5 ++ []
def dkwX4_write_4 : List UInt8 := [159, 0, 9, 16, 254, 21, 4, 100, 172, 42, 180, 0, 33, 27, 92, 46, 28, 96, 79, 42, 182, 0, 103, 42]
abbrev dktX4_write_4 : List UInt8 := dkwX4_write_4 ++ dktX4_write_5
def dkwX4_write_3 : List UInt8 := [42, 42, 180, 0, 27, 27, 46, 42, 180, 0, 30, 27, 46, 28, 3, 182, 0, 135, 54, 4, 21, 4, 2]
abbrev dktX4_write_3 : List UInt8 := dkwX4_write_3 ++ dktX4_write_4
def dkwX4_write_2 : List UInt8 := [154, 0, 7, 4, 167, 0, 12, 29, 153, 0, 7, 3, 167, 0, 4, 5, 182, 0, 67, 153, 0, 5, 3, 172]
abbrev dktX4_write_2 : List UInt8 := dkwX4_write_2 ++ dktX4_write_3
def dkwX4_write_1 : List UInt8 := [180, 0, 33, 27, 46, 28, 96, 155, 0, 7, 4, 167, 0, 4, 3, 62, 42, 42, 27, 182, 0, 139]
abbrev dktX4_write_1 : List UInt8 := dkwX4_write_1 ++ dktX4_write_2
def dkwX4_write_0 : List UInt8 := [42, 27, 182, 0, 139, 153, 0, 31, 28, 17, 252, 24, 17, 3, 232, 184, 0, 78, 153, 0, 18, 42]
abbrev dktX4_write_0 : List UInt8 := dkwX4_write_0 ++ dktX4_write_1
theorem dksX4_write_0 : cX4_write.data.toList.drop 0 = dktX4_write_0 := by decide +kernel
theorem dksX4_write_1 : cX4_write.data.toList.drop 22 = dktX4_write_1 := dk_seg dksX4_write_0 22 rfl rfl
theorem dksX4_write_2 : cX4_write.data.toList.drop 44 = dktX4_write_2 := dk_seg dksX4_write_1 22 rfl rfl
theorem dksX4_write_3 : cX4_write.data.toList.drop 68 = dktX4_write_3 := dk_seg dksX4_write_2 24 rfl rfl
theorem dksX4_write_4 : cX4_write.data.toList.drop 91 = dktX4_write_4 := dk_seg dksX4_write_3 23 rfl rfl
theorem dksX4_write_5 : cX4_write.data.toList.drop 115 = dktX4_write_5 := dk_seg dksX4_write_4 24 rfl rfl
theorem dX4_write_0 : decode cX4_write 0 = .ok (.aload_n 0, 1) := dk_42 (dk_at dksX4_write_0 0 rfl rfl)
theorem dX4_write_1 : decode cX4_write 1 = .ok (.iload_n 1, 1) := dk_27 (dk_at dksX4_write_0 1 rfl rfl)
theorem dX4_write_2 : decode cX4_write 2 = .ok (.invokevirtual 139, 3) := dk_182 0 139 (dk_at dksX4_write_0 2 rfl rfl)
theorem dX4_write_5 : decode cX4_write 5 = .ok (.ifCond .eq 31, 3) := dk_153 0 31 (dk_at dksX4_write_0 5 rfl rfl)
theorem dX4_write_8 : decode cX4_write 8 = .ok (.iload_n 2, 1) := dk_28 (dk_at dksX4_write_0 8 rfl rfl)
theorem dX4_write_9 : decode cX4_write 9 = .ok (.sipush (-1000), 3) := dk_17 252 24 (dk_at dksX4_write_0 9 rfl rfl)
theorem dX4_write_12 : decode cX4_write 12 = .ok (.sipush 1000, 3) := dk_17 3 232 (dk_at dksX4_write_0 12 rfl rfl)
theorem dX4_write_15 : decode cX4_write 15 = .ok (.invokestatic 78, 3) := dk_184 0 78 (dk_at dksX4_write_0 15 rfl rfl)
theorem dX4_write_18 : decode cX4_write 18 = .ok (.ifCond .eq 18, 3) := dk_153 0 18 (dk_at dksX4_write_0 18 rfl rfl)
theorem dX4_write_21 : decode cX4_write 21 = .ok (.aload_n 0, 1) := dk_42 (dk_at dksX4_write_0 21 rfl rfl)
theorem dX4_write_22 : decode cX4_write 22 = .ok (.getfield 33, 3) := dk_180 0 33 (dk_at dksX4_write_1 0 rfl rfl)
theorem dX4_write_25 : decode cX4_write 25 = .ok (.iload_n 1, 1) := dk_27 (dk_at dksX4_write_1 3 rfl rfl)
theorem dX4_write_26 : decode cX4_write 26 = .ok (.iaload, 1) := dk_46 (dk_at dksX4_write_1 4 rfl rfl)
theorem dX4_write_27 : decode cX4_write 27 = .ok (.iload_n 2, 1) := dk_28 (dk_at dksX4_write_1 5 rfl rfl)
theorem dX4_write_28 : decode cX4_write 28 = .ok (.iadd, 1) := dk_96 (dk_at dksX4_write_1 6 rfl rfl)
theorem dX4_write_29 : decode cX4_write 29 = .ok (.ifCond .lt 7, 3) := dk_155 0 7 (dk_at dksX4_write_1 7 rfl rfl)
theorem dX4_write_32 : decode cX4_write 32 = .ok (.iconst 1, 1) := dk_4 (dk_at dksX4_write_1 10 rfl rfl)
theorem dX4_write_33 : decode cX4_write 33 = .ok (.goto 4, 3) := dk_167 0 4 (dk_at dksX4_write_1 11 rfl rfl)
theorem dX4_write_36 : decode cX4_write 36 = .ok (.iconst 0, 1) := dk_3 (dk_at dksX4_write_1 14 rfl rfl)
theorem dX4_write_37 : decode cX4_write 37 = .ok (.istore_n 3, 1) := dk_62 (dk_at dksX4_write_1 15 rfl rfl)
theorem dX4_write_38 : decode cX4_write 38 = .ok (.aload_n 0, 1) := dk_42 (dk_at dksX4_write_1 16 rfl rfl)
theorem dX4_write_39 : decode cX4_write 39 = .ok (.aload_n 0, 1) := dk_42 (dk_at dksX4_write_1 17 rfl rfl)
theorem dX4_write_40 : decode cX4_write 40 = .ok (.iload_n 1, 1) := dk_27 (dk_at dksX4_write_1 18 rfl rfl)
theorem dX4_write_41 : decode cX4_write 41 = .ok (.invokevirtual 139, 3) := dk_182 0 139 (dk_at dksX4_write_1 19 rfl rfl)
theorem dX4_write_44 : decode cX4_write 44 = .ok (.ifCond .ne 7, 3) := dk_154 0 7 (dk_at dksX4_write_2 0 rfl rfl)
theorem dX4_write_47 : decode cX4_write 47 = .ok (.iconst 1, 1) := dk_4 (dk_at dksX4_write_2 3 rfl rfl)
theorem dX4_write_48 : decode cX4_write 48 = .ok (.goto 12, 3) := dk_167 0 12 (dk_at dksX4_write_2 4 rfl rfl)
theorem dX4_write_51 : decode cX4_write 51 = .ok (.iload_n 3, 1) := dk_29 (dk_at dksX4_write_2 7 rfl rfl)
theorem dX4_write_52 : decode cX4_write 52 = .ok (.ifCond .eq 7, 3) := dk_153 0 7 (dk_at dksX4_write_2 8 rfl rfl)
theorem dX4_write_55 : decode cX4_write 55 = .ok (.iconst 0, 1) := dk_3 (dk_at dksX4_write_2 11 rfl rfl)
theorem dX4_write_56 : decode cX4_write 56 = .ok (.goto 4, 3) := dk_167 0 4 (dk_at dksX4_write_2 12 rfl rfl)
theorem dX4_write_59 : decode cX4_write 59 = .ok (.iconst 2, 1) := dk_5 (dk_at dksX4_write_2 15 rfl rfl)
theorem dX4_write_60 : decode cX4_write 60 = .ok (.invokevirtual 67, 3) := dk_182 0 67 (dk_at dksX4_write_2 16 rfl rfl)
theorem dX4_write_63 : decode cX4_write 63 = .ok (.ifCond .eq 5, 3) := dk_153 0 5 (dk_at dksX4_write_2 19 rfl rfl)
theorem dX4_write_66 : decode cX4_write 66 = .ok (.iconst 0, 1) := dk_3 (dk_at dksX4_write_2 22 rfl rfl)
theorem dX4_write_67 : decode cX4_write 67 = .ok (.ireturn, 1) := dk_172 (dk_at dksX4_write_2 23 rfl rfl)
theorem dX4_write_68 : decode cX4_write 68 = .ok (.aload_n 0, 1) := dk_42 (dk_at dksX4_write_3 0 rfl rfl)
theorem dX4_write_69 : decode cX4_write 69 = .ok (.aload_n 0, 1) := dk_42 (dk_at dksX4_write_3 1 rfl rfl)
theorem dX4_write_70 : decode cX4_write 70 = .ok (.getfield 27, 3) := dk_180 0 27 (dk_at dksX4_write_3 2 rfl rfl)
theorem dX4_write_73 : decode cX4_write 73 = .ok (.iload_n 1, 1) := dk_27 (dk_at dksX4_write_3 5 rfl rfl)
theorem dX4_write_74 : decode cX4_write 74 = .ok (.iaload, 1) := dk_46 (dk_at dksX4_write_3 6 rfl rfl)
theorem dX4_write_75 : decode cX4_write 75 = .ok (.aload_n 0, 1) := dk_42 (dk_at dksX4_write_3 7 rfl rfl)
theorem dX4_write_76 : decode cX4_write 76 = .ok (.getfield 30, 3) := dk_180 0 30 (dk_at dksX4_write_3 8 rfl rfl)
theorem dX4_write_79 : decode cX4_write 79 = .ok (.iload_n 1, 1) := dk_27 (dk_at dksX4_write_3 11 rfl rfl)
theorem dX4_write_80 : decode cX4_write 80 = .ok (.iaload, 1) := dk_46 (dk_at dksX4_write_3 12 rfl rfl)
theorem dX4_write_81 : decode cX4_write 81 = .ok (.iload_n 2, 1) := dk_28 (dk_at dksX4_write_3 13 rfl rfl)
theorem dX4_write_82 : decode cX4_write 82 = .ok (.iconst 0, 1) := dk_3 (dk_at dksX4_write_3 14 rfl rfl)
theorem dX4_write_83 : decode cX4_write 83 = .ok (.invokevirtual 135, 3) := dk_182 0 135 (dk_at dksX4_write_3 15 rfl rfl)
theorem dX4_write_86 : decode cX4_write 86 = .ok (.istore 4, 2) := dk_54 4 (dk_at dksX4_write_3 18 rfl rfl)
theorem dX4_write_88 : decode cX4_write 88 = .ok (.iload 4, 2) := dk_21 4 (dk_at dksX4_write_3 20 rfl rfl)
theorem dX4_write_90 : decode cX4_write 90 = .ok (.iconst (-1), 1) := dk_2 (dk_at dksX4_write_3 22 rfl rfl)
theorem dX4_write_91 : decode cX4_write 91 = .ok (.if_icmp .eq 9, 3) := dk_159 0 9 (dk_at dksX4_write_4 0 rfl rfl)
theorem dX4_write_94 : decode cX4_write 94 = .ok (.bipush (-2), 2) := dk_16 254 (dk_at dksX4_write_4 3 rfl rfl)
theorem dX4_write_96 : decode cX4_write 96 = .ok (.iload 4, 2) := dk_21 4 (dk_at dksX4_write_4 5 rfl rfl)
theorem dX4_write_98 : decode cX4_write 98 = .ok (.isub, 1) := dk_100 (dk_at dksX4_write_4 7 rfl rfl)
theorem dX4_write_99 : decode cX4_write 99 = .ok (.ireturn, 1) := dk_172 (dk_at dksX4_write_4 8 rfl rfl)
theorem dX4_write_100 : decode cX4_write 100 = .ok (.aload_n 0, 1) := dk_42 (dk_at dksX4_write_4 9 rfl rfl)
theorem dX4_write_101 : decode cX4_write 101 = .ok (.getfield 33, 3) := dk_180 0 33 (dk_at dksX4_write_4 10 rfl rfl)
theorem dX4_write_104 : decode cX4_write 104 = .ok (.iload_n 1, 1) := dk_27 (dk_at dksX4_write_4 13 rfl rfl)
theorem dX4_write_105 : decode cX4_write 105 = .ok (.dup2, 1) := dk_92 (dk_at dksX4_write_4 14 rfl rfl)
theorem dX4_write_106 : decode cX4_write 106 = .ok (.iaload, 1) := dk_46 (dk_at dksX4_write_4 15 rfl rfl)
theorem dX4_write_107 : decode cX4_write 107 = .ok (.iload_n 2, 1) := dk_28 (dk_at dksX4_write_4 16 rfl rfl)
theorem dX4_write_108 : decode cX4_write 108 = .ok (.iadd, 1) := dk_96 (dk_at dksX4_write_4 17 rfl rfl)
theorem dX4_write_109 : decode cX4_write 109 = .ok (.iastore, 1) := dk_79 (dk_at dksX4_write_4 18 rfl rfl)
theorem dX4_write_110 : decode cX4_write 110 = .ok (.aload_n 0, 1) := dk_42 (dk_at dksX4_write_4 19 rfl rfl)
theorem dX4_write_111 : decode cX4_write 111 = .ok (.invokevirtual 103, 3) := dk_182 0 103 (dk_at dksX4_write_4 20 rfl rfl)
theorem dX4_write_114 : decode cX4_write 114 = .ok (.aload_n 0, 1) := dk_42 (dk_at dksX4_write_4 23 rfl rfl)
theorem dX4_write_115 : decode cX4_write 115 = .ok (.getfield 33, 3) := dk_180 0 33 (dk_at dksX4_write_5 0 rfl rfl)
theorem dX4_write_118 : decode cX4_write 118 = .ok (.iload_n 1, 1) := dk_27 (dk_at dksX4_write_5 3 rfl rfl)
theorem dX4_write_119 : decode cX4_write 119 = .ok (.iaload, 1) := dk_46 (dk_at dksX4_write_5 4 rfl rfl)
theorem dX4_write_120 : decode cX4_write 120 = .ok (.ireturn, 1) := dk_172 (dk_at dksX4_write_5 5 rfl rfl)
abbrev cX4_isFile : ByteArray := prog_7_method_30_code
def yX4_isFile : MethodName := ⟨RX4, "isFile", "(I)Z"⟩
def dkwX4_isFile_1 : List UInt8 := [167, 0, 4, 3, 172]
abbrev dktX4_isFile_1 : List UInt8 := dkwX4_isFile_1 ++ []
def dkwX4_isFile_0 : List UInt8 := [27, 3, 42, 180, 0, 115, 4, 100, 184, 0, 78, 153, 0, 16, 42, 180, 0, 36, 27, 51, 154, 0, 7, 4]
abbrev dktX4_isFile_0 : List UInt8 := dkwX4_isFile_0 ++ dktX4_isFile_1
theorem dksX4_isFile_0 : cX4_isFile.data.toList.drop 0 = dktX4_isFile_0 := by decide +kernel
theorem dksX4_isFile_1 : cX4_isFile.data.toList.drop 24 = dktX4_isFile_1 := dk_seg dksX4_isFile_0 24 rfl rfl
theorem dX4_isFile_0 : decode cX4_isFile 0 = .ok (.iload_n 1, 1) := dk_27 (dk_at dksX4_isFile_0 0 rfl rfl)
theorem dX4_isFile_1 : decode cX4_isFile 1 = .ok (.iconst 0, 1) := dk_3 (dk_at dksX4_isFile_0 1 rfl rfl)
theorem dX4_isFile_2 : decode cX4_isFile 2 = .ok (.aload_n 0, 1) := dk_42 (dk_at dksX4_isFile_0 2 rfl rfl)
theorem dX4_isFile_3 : decode cX4_isFile 3 = .ok (.getfield 115, 3) := dk_180 0 115 (dk_at dksX4_isFile_0 3 rfl rfl)
theorem dX4_isFile_6 : decode cX4_isFile 6 = .ok (.iconst 1, 1) := dk_4 (dk_at dksX4_isFile_0 6 rfl rfl)
theorem dX4_isFile_7 : decode cX4_isFile 7 = .ok (.isub, 1) := dk_100 (dk_at dksX4_isFile_0 7 rfl rfl)
theorem dX4_isFile_8 : decode cX4_isFile 8 = .ok (.invokestatic 78, 3) := dk_184 0 78 (dk_at dksX4_isFile_0 8 rfl rfl)
theorem dX4_isFile_11 : decode cX4_isFile 11 = .ok (.ifCond .eq 16, 3) := dk_153 0 16 (dk_at dksX4_isFile_0 11 rfl rfl)
theorem dX4_isFile_14 : decode cX4_isFile 14 = .ok (.aload_n 0, 1) := dk_42 (dk_at dksX4_isFile_0 14 rfl rfl)
theorem dX4_isFile_15 : decode cX4_isFile 15 = .ok (.getfield 36, 3) := dk_180 0 36 (dk_at dksX4_isFile_0 15 rfl rfl)
theorem dX4_isFile_18 : decode cX4_isFile 18 = .ok (.iload_n 1, 1) := dk_27 (dk_at dksX4_isFile_0 18 rfl rfl)
theorem dX4_isFile_19 : decode cX4_isFile 19 = .ok (.baload, 1) := dk_51 (dk_at dksX4_isFile_0 19 rfl rfl)
theorem dX4_isFile_20 : decode cX4_isFile 20 = .ok (.ifCond .ne 7, 3) := dk_154 0 7 (dk_at dksX4_isFile_0 20 rfl rfl)
theorem dX4_isFile_23 : decode cX4_isFile 23 = .ok (.iconst 1, 1) := dk_4 (dk_at dksX4_isFile_0 23 rfl rfl)
theorem dX4_isFile_24 : decode cX4_isFile 24 = .ok (.goto 4, 3) := dk_167 0 4 (dk_at dksX4_isFile_1 0 rfl rfl)
theorem dX4_isFile_27 : decode cX4_isFile 27 = .ok (.iconst 0, 1) := dk_3 (dk_at dksX4_isFile_1 3 rfl rfl)
theorem dX4_isFile_28 : decode cX4_isFile 28 = .ok (.ireturn, 1) := dk_172 (dk_at dksX4_isFile_1 4 rfl rfl)
abbrev cX4_delete : ByteArray := prog_7_method_33_code
def yX4_delete : MethodName := ⟨RX4, "delete", "(I)I"⟩
def dkwX4_delete_3 : List UInt8 := [167, 0, 4, 3, 84, 132, 3, 1, 167, 255, 215, 42, 182, 0, 103, 28, 172]
abbrev dktX4_delete_3 : List UInt8 := dkwX4_delete_3 ++ []
def dkwX4_delete_2 : List UInt8 := [180, 0, 46, 29, 42, 180, 0, 46, 29, 51, 153, 0, 17, 42, 180, 0, 40, 29, 46, 27, 159, 0, 7, 4]
abbrev dktX4_delete_2 : List UInt8 := dkwX4_delete_2 ++ dktX4_delete_3
def dkwX4_delete_1 : List UInt8 := [182, 0, 112, 61, 42, 180, 0, 36, 27, 4, 84, 3, 62, 29, 42, 180, 0, 106, 162, 0, 39, 42]
abbrev dktX4_delete_1 : List UInt8 := dkwX4_delete_1 ++ dktX4_delete_2
def dkwX4_delete_0 : List UInt8 := [42, 42, 27, 182, 0, 139, 153, 0, 7, 3, 167, 0, 4, 4, 182, 0, 67, 153, 0, 5, 3, 172, 42, 27]
abbrev dktX4_delete_0 : List UInt8 := dkwX4_delete_0 ++ dktX4_delete_1
theorem dksX4_delete_0 : cX4_delete.data.toList.drop 0 = dktX4_delete_0 := by decide +kernel
theorem dksX4_delete_1 : cX4_delete.data.toList.drop 24 = dktX4_delete_1 := dk_seg dksX4_delete_0 24 rfl rfl
theorem dksX4_delete_2 : cX4_delete.data.toList.drop 46 = dktX4_delete_2 := dk_seg dksX4_delete_1 22 rfl rfl
theorem dksX4_delete_3 : cX4_delete.data.toList.drop 70 = dktX4_delete_3 := dk_seg dksX4_delete_2 24 rfl rfl
theorem dX4_delete_0 : decode cX4_delete 0 = .ok (.aload_n 0, 1) := dk_42 (dk_at dksX4_delete_0 0 rfl rfl)
theorem dX4_delete_1 : decode cX4_delete 1 = .ok (.aload_n 0, 1) := dk_42 (dk_at dksX4_delete_0 1 rfl rfl)
theorem dX4_delete_2 : decode cX4_delete 2 = .ok (.iload_n 1, 1) := dk_27 (dk_at dksX4_delete_0 2 rfl rfl)
theorem dX4_delete_3 : decode cX4_delete 3 = .ok (.invokevirtual 139, 3) := dk_182 0 139 (dk_at dksX4_delete_0 3 rfl rfl)
theorem dX4_delete_6 : decode cX4_delete 6 = .ok (.ifCond .eq 7, 3) := dk_153 0 7 (dk_at dksX4_delete_0 6 rfl rfl)
theorem dX4_delete_9 : decode cX4_delete 9 = .ok (.iconst 0, 1) := dk_3 (dk_at dksX4_delete_0 9 rfl rfl)
theorem dX4_delete_10 : decode cX4_delete 10 = .ok (.goto 4, 3) := dk_167 0 4 (dk_at dksX4_delete_0 10 rfl rfl)
theorem dX4_delete_13 : decode cX4_delete 13 = .ok (.iconst 1, 1) := dk_4 (dk_at dksX4_delete_0 13 rfl rfl)
theorem dX4_delete_14 : decode cX4_delete 14 = .ok (.invokevirtual 67, 3) := dk_182 0 67 (dk_at dksX4_delete_0 14 rfl rfl)
theorem dX4_delete_17 : decode cX4_delete 17 = .ok (.ifCond .eq 5, 3) := dk_153 0 5 (dk_at dksX4_delete_0 17 rfl rfl)
theorem dX4_delete_20 : decode cX4_delete 20 = .ok (.iconst 0, 1) := dk_3 (dk_at dksX4_delete_0 20 rfl rfl)
theorem dX4_delete_21 : decode cX4_delete 21 = .ok (.ireturn, 1) := dk_172 (dk_at dksX4_delete_0 21 rfl rfl)
theorem dX4_delete_22 : decode cX4_delete 22 = .ok (.aload_n 0, 1) := dk_42 (dk_at dksX4_delete_0 22 rfl rfl)
theorem dX4_delete_23 : decode cX4_delete 23 = .ok (.iload_n 1, 1) := dk_27 (dk_at dksX4_delete_0 23 rfl rfl)
theorem dX4_delete_24 : decode cX4_delete 24 = .ok (.invokevirtual 112, 3) := dk_182 0 112 (dk_at dksX4_delete_1 0 rfl rfl)
theorem dX4_delete_27 : decode cX4_delete 27 = .ok (.istore_n 2, 1) := dk_61 (dk_at dksX4_delete_1 3 rfl rfl)
theorem dX4_delete_28 : decode cX4_delete 28 = .ok (.aload_n 0, 1) := dk_42 (dk_at dksX4_delete_1 4 rfl rfl)
theorem dX4_delete_29 : decode cX4_delete 29 = .ok (.getfield 36, 3) := dk_180 0 36 (dk_at dksX4_delete_1 5 rfl rfl)
theorem dX4_delete_32 : decode cX4_delete 32 = .ok (.iload_n 1, 1) := dk_27 (dk_at dksX4_delete_1 8 rfl rfl)
theorem dX4_delete_33 : decode cX4_delete 33 = .ok (.iconst 1, 1) := dk_4 (dk_at dksX4_delete_1 9 rfl rfl)
theorem dX4_delete_34 : decode cX4_delete 34 = .ok (.bastore, 1) := dk_84 (dk_at dksX4_delete_1 10 rfl rfl)
theorem dX4_delete_35 : decode cX4_delete 35 = .ok (.iconst 0, 1) := dk_3 (dk_at dksX4_delete_1 11 rfl rfl)
theorem dX4_delete_36 : decode cX4_delete 36 = .ok (.istore_n 3, 1) := dk_62 (dk_at dksX4_delete_1 12 rfl rfl)
theorem dX4_delete_37 : decode cX4_delete 37 = .ok (.iload_n 3, 1) := dk_29 (dk_at dksX4_delete_1 13 rfl rfl)
theorem dX4_delete_38 : decode cX4_delete 38 = .ok (.aload_n 0, 1) := dk_42 (dk_at dksX4_delete_1 14 rfl rfl)
theorem dX4_delete_39 : decode cX4_delete 39 = .ok (.getfield 106, 3) := dk_180 0 106 (dk_at dksX4_delete_1 15 rfl rfl)
theorem dX4_delete_42 : decode cX4_delete 42 = .ok (.if_icmp .ge 39, 3) := dk_162 0 39 (dk_at dksX4_delete_1 18 rfl rfl)
theorem dX4_delete_45 : decode cX4_delete 45 = .ok (.aload_n 0, 1) := dk_42 (dk_at dksX4_delete_1 21 rfl rfl)
theorem dX4_delete_46 : decode cX4_delete 46 = .ok (.getfield 46, 3) := dk_180 0 46 (dk_at dksX4_delete_2 0 rfl rfl)
theorem dX4_delete_49 : decode cX4_delete 49 = .ok (.iload_n 3, 1) := dk_29 (dk_at dksX4_delete_2 3 rfl rfl)
theorem dX4_delete_50 : decode cX4_delete 50 = .ok (.aload_n 0, 1) := dk_42 (dk_at dksX4_delete_2 4 rfl rfl)
theorem dX4_delete_51 : decode cX4_delete 51 = .ok (.getfield 46, 3) := dk_180 0 46 (dk_at dksX4_delete_2 5 rfl rfl)
theorem dX4_delete_54 : decode cX4_delete 54 = .ok (.iload_n 3, 1) := dk_29 (dk_at dksX4_delete_2 8 rfl rfl)
theorem dX4_delete_55 : decode cX4_delete 55 = .ok (.baload, 1) := dk_51 (dk_at dksX4_delete_2 9 rfl rfl)
theorem dX4_delete_56 : decode cX4_delete 56 = .ok (.ifCond .eq 17, 3) := dk_153 0 17 (dk_at dksX4_delete_2 10 rfl rfl)
theorem dX4_delete_59 : decode cX4_delete 59 = .ok (.aload_n 0, 1) := dk_42 (dk_at dksX4_delete_2 13 rfl rfl)
theorem dX4_delete_60 : decode cX4_delete 60 = .ok (.getfield 40, 3) := dk_180 0 40 (dk_at dksX4_delete_2 14 rfl rfl)
theorem dX4_delete_63 : decode cX4_delete 63 = .ok (.iload_n 3, 1) := dk_29 (dk_at dksX4_delete_2 17 rfl rfl)
theorem dX4_delete_64 : decode cX4_delete 64 = .ok (.iaload, 1) := dk_46 (dk_at dksX4_delete_2 18 rfl rfl)
theorem dX4_delete_65 : decode cX4_delete 65 = .ok (.iload_n 1, 1) := dk_27 (dk_at dksX4_delete_2 19 rfl rfl)
theorem dX4_delete_66 : decode cX4_delete 66 = .ok (.if_icmp .eq 7, 3) := dk_159 0 7 (dk_at dksX4_delete_2 20 rfl rfl)
theorem dX4_delete_69 : decode cX4_delete 69 = .ok (.iconst 1, 1) := dk_4 (dk_at dksX4_delete_2 23 rfl rfl)
theorem dX4_delete_70 : decode cX4_delete 70 = .ok (.goto 4, 3) := dk_167 0 4 (dk_at dksX4_delete_3 0 rfl rfl)
theorem dX4_delete_73 : decode cX4_delete 73 = .ok (.iconst 0, 1) := dk_3 (dk_at dksX4_delete_3 3 rfl rfl)
theorem dX4_delete_74 : decode cX4_delete 74 = .ok (.bastore, 1) := dk_84 (dk_at dksX4_delete_3 4 rfl rfl)
theorem dX4_delete_75 : decode cX4_delete 75 = .ok (.iinc 3 1, 3) := dk_132 3 1 (dk_at dksX4_delete_3 5 rfl rfl)
theorem dX4_delete_78 : decode cX4_delete 78 = .ok (.goto (-41), 3) := dk_167 255 215 (dk_at dksX4_delete_3 8 rfl rfl)
theorem dX4_delete_81 : decode cX4_delete 81 = .ok (.aload_n 0, 1) := dk_42 (dk_at dksX4_delete_3 11 rfl rfl)
theorem dX4_delete_82 : decode cX4_delete 82 = .ok (.invokevirtual 103, 3) := dk_182 0 103 (dk_at dksX4_delete_3 12 rfl rfl)
theorem dX4_delete_85 : decode cX4_delete 85 = .ok (.iload_n 2, 1) := dk_28 (dk_at dksX4_delete_3 15 rfl rfl)
theorem dX4_delete_86 : decode cX4_delete 86 = .ok (.ireturn, 1) := dk_172 (dk_at dksX4_delete_3 16 rfl rfl)
abbrev cX4_moveFile : ByteArray := prog_7_method_34_code
def yX4_moveFile : MethodName := ⟨RX4, "moveFile", "(II)I"⟩
def dkwX4_moveFile_2 : List UInt8 := [182, 0, 103, 29, 172]
abbrev dktX4_moveFile_2 : List UInt8 := dkwX4_moveFile_2 ++ []
def dkwX4_moveFile_1 : List UInt8 := [182, 0, 67, 153, 0, 5, 3, 172, 42, 180, 0, 30, 27, 46, 62, 42, 180, 0, 30, 27, 28, 79, 42]
abbrev dktX4_moveFile_1 : List UInt8 := dkwX4_moveFile_1 ++ dktX4_moveFile_2
def dkwX4_moveFile_0 : List UInt8 := [42, 42, 27, 182, 0, 139, 153, 0, 15, 42, 28, 182, 0, 93, 153, 0, 7, 3, 167, 0, 4, 4]
abbrev dktX4_moveFile_0 : List UInt8 := dkwX4_moveFile_0 ++ dktX4_moveFile_1
theorem dksX4_moveFile_0 : cX4_moveFile.data.toList.drop 0 = dktX4_moveFile_0 := by decide +kernel
theorem dksX4_moveFile_1 : cX4_moveFile.data.toList.drop 22 = dktX4_moveFile_1 := dk_seg dksX4_moveFile_0 22 rfl rfl
theorem dksX4_moveFile_2 : cX4_moveFile.data.toList.drop 45 = dktX4_moveFile_2 := dk_seg dksX4_moveFile_1 23 rfl rfl
theorem dX4_moveFile_0 : decode cX4_moveFile 0 = .ok (.aload_n 0, 1) := dk_42 (dk_at dksX4_moveFile_0 0 rfl rfl)
theorem dX4_moveFile_1 : decode cX4_moveFile 1 = .ok (.aload_n 0, 1) := dk_42 (dk_at dksX4_moveFile_0 1 rfl rfl)
theorem dX4_moveFile_2 : decode cX4_moveFile 2 = .ok (.iload_n 1, 1) := dk_27 (dk_at dksX4_moveFile_0 2 rfl rfl)
theorem dX4_moveFile_3 : decode cX4_moveFile 3 = .ok (.invokevirtual 139, 3) := dk_182 0 139 (dk_at dksX4_moveFile_0 3 rfl rfl)
theorem dX4_moveFile_6 : decode cX4_moveFile 6 = .ok (.ifCond .eq 15, 3) := dk_153 0 15 (dk_at dksX4_moveFile_0 6 rfl rfl)
theorem dX4_moveFile_9 : decode cX4_moveFile 9 = .ok (.aload_n 0, 1) := dk_42 (dk_at dksX4_moveFile_0 9 rfl rfl)
theorem dX4_moveFile_10 : decode cX4_moveFile 10 = .ok (.iload_n 2, 1) := dk_28 (dk_at dksX4_moveFile_0 10 rfl rfl)
theorem dX4_moveFile_11 : decode cX4_moveFile 11 = .ok (.invokevirtual 93, 3) := dk_182 0 93 (dk_at dksX4_moveFile_0 11 rfl rfl)
theorem dX4_moveFile_14 : decode cX4_moveFile 14 = .ok (.ifCond .eq 7, 3) := dk_153 0 7 (dk_at dksX4_moveFile_0 14 rfl rfl)
theorem dX4_moveFile_17 : decode cX4_moveFile 17 = .ok (.iconst 0, 1) := dk_3 (dk_at dksX4_moveFile_0 17 rfl rfl)
theorem dX4_moveFile_18 : decode cX4_moveFile 18 = .ok (.goto 4, 3) := dk_167 0 4 (dk_at dksX4_moveFile_0 18 rfl rfl)
theorem dX4_moveFile_21 : decode cX4_moveFile 21 = .ok (.iconst 1, 1) := dk_4 (dk_at dksX4_moveFile_0 21 rfl rfl)
theorem dX4_moveFile_22 : decode cX4_moveFile 22 = .ok (.invokevirtual 67, 3) := dk_182 0 67 (dk_at dksX4_moveFile_1 0 rfl rfl)
theorem dX4_moveFile_25 : decode cX4_moveFile 25 = .ok (.ifCond .eq 5, 3) := dk_153 0 5 (dk_at dksX4_moveFile_1 3 rfl rfl)
theorem dX4_moveFile_28 : decode cX4_moveFile 28 = .ok (.iconst 0, 1) := dk_3 (dk_at dksX4_moveFile_1 6 rfl rfl)
theorem dX4_moveFile_29 : decode cX4_moveFile 29 = .ok (.ireturn, 1) := dk_172 (dk_at dksX4_moveFile_1 7 rfl rfl)
theorem dX4_moveFile_30 : decode cX4_moveFile 30 = .ok (.aload_n 0, 1) := dk_42 (dk_at dksX4_moveFile_1 8 rfl rfl)
theorem dX4_moveFile_31 : decode cX4_moveFile 31 = .ok (.getfield 30, 3) := dk_180 0 30 (dk_at dksX4_moveFile_1 9 rfl rfl)
theorem dX4_moveFile_34 : decode cX4_moveFile 34 = .ok (.iload_n 1, 1) := dk_27 (dk_at dksX4_moveFile_1 12 rfl rfl)
theorem dX4_moveFile_35 : decode cX4_moveFile 35 = .ok (.iaload, 1) := dk_46 (dk_at dksX4_moveFile_1 13 rfl rfl)
theorem dX4_moveFile_36 : decode cX4_moveFile 36 = .ok (.istore_n 3, 1) := dk_62 (dk_at dksX4_moveFile_1 14 rfl rfl)
theorem dX4_moveFile_37 : decode cX4_moveFile 37 = .ok (.aload_n 0, 1) := dk_42 (dk_at dksX4_moveFile_1 15 rfl rfl)
theorem dX4_moveFile_38 : decode cX4_moveFile 38 = .ok (.getfield 30, 3) := dk_180 0 30 (dk_at dksX4_moveFile_1 16 rfl rfl)
theorem dX4_moveFile_41 : decode cX4_moveFile 41 = .ok (.iload_n 1, 1) := dk_27 (dk_at dksX4_moveFile_1 19 rfl rfl)
theorem dX4_moveFile_42 : decode cX4_moveFile 42 = .ok (.iload_n 2, 1) := dk_28 (dk_at dksX4_moveFile_1 20 rfl rfl)
theorem dX4_moveFile_43 : decode cX4_moveFile 43 = .ok (.iastore, 1) := dk_79 (dk_at dksX4_moveFile_1 21 rfl rfl)
theorem dX4_moveFile_44 : decode cX4_moveFile 44 = .ok (.aload_n 0, 1) := dk_42 (dk_at dksX4_moveFile_1 22 rfl rfl)
theorem dX4_moveFile_45 : decode cX4_moveFile 45 = .ok (.invokevirtual 103, 3) := dk_182 0 103 (dk_at dksX4_moveFile_2 0 rfl rfl)
theorem dX4_moveFile_48 : decode cX4_moveFile 48 = .ok (.iload_n 3, 1) := dk_29 (dk_at dksX4_moveFile_2 3 rfl rfl)
theorem dX4_moveFile_49 : decode cX4_moveFile 49 = .ok (.ireturn, 1) := dk_172 (dk_at dksX4_moveFile_2 4 rfl rfl)
abbrev cX4_reserve : ByteArray := prog_7_method_35_code
def yX4_reserve : MethodName := ⟨RX4, "reserve", "(II)I"⟩
def dkwX4_reserve_5 : List UInt8 := [181, 0, 106, 42, 182, 0, 103, 42, 180, 0, 106, 4, 100, 172]
abbrev dktX4_reserve_5 : List UInt8 := dkwX4_reserve_5 ++ []
def dkwX4_reserve_4 : List UInt8 := [180, 0, 106, 28, 79, 42, 180, 0, 46, 42, 180, 0, 106, 4, 84, 42, 89, 180, 0, 106, 4, 96]
abbrev dktX4_reserve_4 : List UInt8 := dkwX4_reserve_4 ++ dktX4_reserve_5
def dkwX4_reserve_3 : List UInt8 := [159, 0, 8, 16, 254, 29, 100, 172, 42, 180, 0, 40, 42, 180, 0, 106, 27, 79, 42, 180, 0, 43, 42]
abbrev dktX4_reserve_3 : List UInt8 := dkwX4_reserve_3 ++ dktX4_reserve_4
def dkwX4_reserve_2 : List UInt8 := [3, 172, 42, 42, 180, 0, 27, 27, 46, 42, 180, 0, 30, 27, 46, 28, 3, 182, 0, 135, 62, 29, 2]
abbrev dktX4_reserve_2 : List UInt8 := dkwX4_reserve_2 ++ dktX4_reserve_3
def dkwX4_reserve_1 : List UInt8 := [5, 167, 0, 17, 42, 180, 0, 106, 16, 30, 160, 0, 7, 6, 167, 0, 4, 3, 182, 0, 67, 153, 0, 5]
abbrev dktX4_reserve_1 : List UInt8 := dkwX4_reserve_1 ++ dktX4_reserve_2
def dkwX4_reserve_0 : List UInt8 := [42, 42, 27, 182, 0, 139, 154, 0, 7, 4, 167, 0, 32, 28, 4, 17, 3, 232, 184, 0, 78, 154, 0, 7]
abbrev dktX4_reserve_0 : List UInt8 := dkwX4_reserve_0 ++ dktX4_reserve_1
theorem dksX4_reserve_0 : cX4_reserve.data.toList.drop 0 = dktX4_reserve_0 := by decide +kernel
theorem dksX4_reserve_1 : cX4_reserve.data.toList.drop 24 = dktX4_reserve_1 := dk_seg dksX4_reserve_0 24 rfl rfl
theorem dksX4_reserve_2 : cX4_reserve.data.toList.drop 48 = dktX4_reserve_2 := dk_seg dksX4_reserve_1 24 rfl rfl
theorem dksX4_reserve_3 : cX4_reserve.data.toList.drop 71 = dktX4_reserve_3 := dk_seg dksX4_reserve_2 23 rfl rfl
theorem dksX4_reserve_4 : cX4_reserve.data.toList.drop 94 = dktX4_reserve_4 := dk_seg dksX4_reserve_3 23 rfl rfl
theorem dksX4_reserve_5 : cX4_reserve.data.toList.drop 116 = dktX4_reserve_5 := dk_seg dksX4_reserve_4 22 rfl rfl
theorem dX4_reserve_0 : decode cX4_reserve 0 = .ok (.aload_n 0, 1) := dk_42 (dk_at dksX4_reserve_0 0 rfl rfl)
theorem dX4_reserve_1 : decode cX4_reserve 1 = .ok (.aload_n 0, 1) := dk_42 (dk_at dksX4_reserve_0 1 rfl rfl)
theorem dX4_reserve_2 : decode cX4_reserve 2 = .ok (.iload_n 1, 1) := dk_27 (dk_at dksX4_reserve_0 2 rfl rfl)
theorem dX4_reserve_3 : decode cX4_reserve 3 = .ok (.invokevirtual 139, 3) := dk_182 0 139 (dk_at dksX4_reserve_0 3 rfl rfl)
theorem dX4_reserve_6 : decode cX4_reserve 6 = .ok (.ifCond .ne 7, 3) := dk_154 0 7 (dk_at dksX4_reserve_0 6 rfl rfl)
theorem dX4_reserve_9 : decode cX4_reserve 9 = .ok (.iconst 1, 1) := dk_4 (dk_at dksX4_reserve_0 9 rfl rfl)
theorem dX4_reserve_10 : decode cX4_reserve 10 = .ok (.goto 32, 3) := dk_167 0 32 (dk_at dksX4_reserve_0 10 rfl rfl)
theorem dX4_reserve_13 : decode cX4_reserve 13 = .ok (.iload_n 2, 1) := dk_28 (dk_at dksX4_reserve_0 13 rfl rfl)
theorem dX4_reserve_14 : decode cX4_reserve 14 = .ok (.iconst 1, 1) := dk_4 (dk_at dksX4_reserve_0 14 rfl rfl)
theorem dX4_reserve_15 : decode cX4_reserve 15 = .ok (.sipush 1000, 3) := dk_17 3 232 (dk_at dksX4_reserve_0 15 rfl rfl)
theorem dX4_reserve_18 : decode cX4_reserve 18 = .ok (.invokestatic 78, 3) := dk_184 0 78 (dk_at dksX4_reserve_0 18 rfl rfl)
theorem dX4_reserve_21 : decode cX4_reserve 21 = .ok (.ifCond .ne 7, 3) := dk_154 0 7 (dk_at dksX4_reserve_0 21 rfl rfl)
theorem dX4_reserve_24 : decode cX4_reserve 24 = .ok (.iconst 2, 1) := dk_5 (dk_at dksX4_reserve_1 0 rfl rfl)
theorem dX4_reserve_25 : decode cX4_reserve 25 = .ok (.goto 17, 3) := dk_167 0 17 (dk_at dksX4_reserve_1 1 rfl rfl)
theorem dX4_reserve_28 : decode cX4_reserve 28 = .ok (.aload_n 0, 1) := dk_42 (dk_at dksX4_reserve_1 4 rfl rfl)
theorem dX4_reserve_29 : decode cX4_reserve 29 = .ok (.getfield 106, 3) := dk_180 0 106 (dk_at dksX4_reserve_1 5 rfl rfl)
theorem dX4_reserve_32 : decode cX4_reserve 32 = .ok (.bipush 30, 2) := dk_16 30 (dk_at dksX4_reserve_1 8 rfl rfl)
theorem dX4_reserve_34 : decode cX4_reserve 34 = .ok (.if_icmp .ne 7, 3) := dk_160 0 7 (dk_at dksX4_reserve_1 10 rfl rfl)
theorem dX4_reserve_37 : decode cX4_reserve 37 = .ok (.iconst 3, 1) := dk_6 (dk_at dksX4_reserve_1 13 rfl rfl)
theorem dX4_reserve_38 : decode cX4_reserve 38 = .ok (.goto 4, 3) := dk_167 0 4 (dk_at dksX4_reserve_1 14 rfl rfl)
theorem dX4_reserve_41 : decode cX4_reserve 41 = .ok (.iconst 0, 1) := dk_3 (dk_at dksX4_reserve_1 17 rfl rfl)
theorem dX4_reserve_42 : decode cX4_reserve 42 = .ok (.invokevirtual 67, 3) := dk_182 0 67 (dk_at dksX4_reserve_1 18 rfl rfl)
theorem dX4_reserve_45 : decode cX4_reserve 45 = .ok (.ifCond .eq 5, 3) := dk_153 0 5 (dk_at dksX4_reserve_1 21 rfl rfl)
theorem dX4_reserve_48 : decode cX4_reserve 48 = .ok (.iconst 0, 1) := dk_3 (dk_at dksX4_reserve_2 0 rfl rfl)
theorem dX4_reserve_49 : decode cX4_reserve 49 = .ok (.ireturn, 1) := dk_172 (dk_at dksX4_reserve_2 1 rfl rfl)
theorem dX4_reserve_50 : decode cX4_reserve 50 = .ok (.aload_n 0, 1) := dk_42 (dk_at dksX4_reserve_2 2 rfl rfl)
theorem dX4_reserve_51 : decode cX4_reserve 51 = .ok (.aload_n 0, 1) := dk_42 (dk_at dksX4_reserve_2 3 rfl rfl)
theorem dX4_reserve_52 : decode cX4_reserve 52 = .ok (.getfield 27, 3) := dk_180 0 27 (dk_at dksX4_reserve_2 4 rfl rfl)
theorem dX4_reserve_55 : decode cX4_reserve 55 = .ok (.iload_n 1, 1) := dk_27 (dk_at dksX4_reserve_2 7 rfl rfl)
theorem dX4_reserve_56 : decode cX4_reserve 56 = .ok (.iaload, 1) := dk_46 (dk_at dksX4_reserve_2 8 rfl rfl)
theorem dX4_reserve_57 : decode cX4_reserve 57 = .ok (.aload_n 0, 1) := dk_42 (dk_at dksX4_reserve_2 9 rfl rfl)
theorem dX4_reserve_58 : decode cX4_reserve 58 = .ok (.getfield 30, 3) := dk_180 0 30 (dk_at dksX4_reserve_2 10 rfl rfl)
theorem dX4_reserve_61 : decode cX4_reserve 61 = .ok (.iload_n 1, 1) := dk_27 (dk_at dksX4_reserve_2 13 rfl rfl)
theorem dX4_reserve_62 : decode cX4_reserve 62 = .ok (.iaload, 1) := dk_46 (dk_at dksX4_reserve_2 14 rfl rfl)
theorem dX4_reserve_63 : decode cX4_reserve 63 = .ok (.iload_n 2, 1) := dk_28 (dk_at dksX4_reserve_2 15 rfl rfl)
theorem dX4_reserve_64 : decode cX4_reserve 64 = .ok (.iconst 0, 1) := dk_3 (dk_at dksX4_reserve_2 16 rfl rfl)
theorem dX4_reserve_65 : decode cX4_reserve 65 = .ok (.invokevirtual 135, 3) := dk_182 0 135 (dk_at dksX4_reserve_2 17 rfl rfl)
theorem dX4_reserve_68 : decode cX4_reserve 68 = .ok (.istore_n 3, 1) := dk_62 (dk_at dksX4_reserve_2 20 rfl rfl)
theorem dX4_reserve_69 : decode cX4_reserve 69 = .ok (.iload_n 3, 1) := dk_29 (dk_at dksX4_reserve_2 21 rfl rfl)
theorem dX4_reserve_70 : decode cX4_reserve 70 = .ok (.iconst (-1), 1) := dk_2 (dk_at dksX4_reserve_2 22 rfl rfl)
theorem dX4_reserve_71 : decode cX4_reserve 71 = .ok (.if_icmp .eq 8, 3) := dk_159 0 8 (dk_at dksX4_reserve_3 0 rfl rfl)
theorem dX4_reserve_74 : decode cX4_reserve 74 = .ok (.bipush (-2), 2) := dk_16 254 (dk_at dksX4_reserve_3 3 rfl rfl)
theorem dX4_reserve_76 : decode cX4_reserve 76 = .ok (.iload_n 3, 1) := dk_29 (dk_at dksX4_reserve_3 5 rfl rfl)
theorem dX4_reserve_77 : decode cX4_reserve 77 = .ok (.isub, 1) := dk_100 (dk_at dksX4_reserve_3 6 rfl rfl)
theorem dX4_reserve_78 : decode cX4_reserve 78 = .ok (.ireturn, 1) := dk_172 (dk_at dksX4_reserve_3 7 rfl rfl)
theorem dX4_reserve_79 : decode cX4_reserve 79 = .ok (.aload_n 0, 1) := dk_42 (dk_at dksX4_reserve_3 8 rfl rfl)
theorem dX4_reserve_80 : decode cX4_reserve 80 = .ok (.getfield 40, 3) := dk_180 0 40 (dk_at dksX4_reserve_3 9 rfl rfl)
theorem dX4_reserve_83 : decode cX4_reserve 83 = .ok (.aload_n 0, 1) := dk_42 (dk_at dksX4_reserve_3 12 rfl rfl)
theorem dX4_reserve_84 : decode cX4_reserve 84 = .ok (.getfield 106, 3) := dk_180 0 106 (dk_at dksX4_reserve_3 13 rfl rfl)
theorem dX4_reserve_87 : decode cX4_reserve 87 = .ok (.iload_n 1, 1) := dk_27 (dk_at dksX4_reserve_3 16 rfl rfl)
theorem dX4_reserve_88 : decode cX4_reserve 88 = .ok (.iastore, 1) := dk_79 (dk_at dksX4_reserve_3 17 rfl rfl)
theorem dX4_reserve_89 : decode cX4_reserve 89 = .ok (.aload_n 0, 1) := dk_42 (dk_at dksX4_reserve_3 18 rfl rfl)
theorem dX4_reserve_90 : decode cX4_reserve 90 = .ok (.getfield 43, 3) := dk_180 0 43 (dk_at dksX4_reserve_3 19 rfl rfl)
theorem dX4_reserve_93 : decode cX4_reserve 93 = .ok (.aload_n 0, 1) := dk_42 (dk_at dksX4_reserve_3 22 rfl rfl)
theorem dX4_reserve_94 : decode cX4_reserve 94 = .ok (.getfield 106, 3) := dk_180 0 106 (dk_at dksX4_reserve_4 0 rfl rfl)
theorem dX4_reserve_97 : decode cX4_reserve 97 = .ok (.iload_n 2, 1) := dk_28 (dk_at dksX4_reserve_4 3 rfl rfl)
theorem dX4_reserve_98 : decode cX4_reserve 98 = .ok (.iastore, 1) := dk_79 (dk_at dksX4_reserve_4 4 rfl rfl)
theorem dX4_reserve_99 : decode cX4_reserve 99 = .ok (.aload_n 0, 1) := dk_42 (dk_at dksX4_reserve_4 5 rfl rfl)
theorem dX4_reserve_100 : decode cX4_reserve 100 = .ok (.getfield 46, 3) := dk_180 0 46 (dk_at dksX4_reserve_4 6 rfl rfl)
theorem dX4_reserve_103 : decode cX4_reserve 103 = .ok (.aload_n 0, 1) := dk_42 (dk_at dksX4_reserve_4 9 rfl rfl)
theorem dX4_reserve_104 : decode cX4_reserve 104 = .ok (.getfield 106, 3) := dk_180 0 106 (dk_at dksX4_reserve_4 10 rfl rfl)
theorem dX4_reserve_107 : decode cX4_reserve 107 = .ok (.iconst 1, 1) := dk_4 (dk_at dksX4_reserve_4 13 rfl rfl)
theorem dX4_reserve_108 : decode cX4_reserve 108 = .ok (.bastore, 1) := dk_84 (dk_at dksX4_reserve_4 14 rfl rfl)
theorem dX4_reserve_109 : decode cX4_reserve 109 = .ok (.aload_n 0, 1) := dk_42 (dk_at dksX4_reserve_4 15 rfl rfl)
theorem dX4_reserve_110 : decode cX4_reserve 110 = .ok (.dup, 1) := dk_89 (dk_at dksX4_reserve_4 16 rfl rfl)
theorem dX4_reserve_111 : decode cX4_reserve 111 = .ok (.getfield 106, 3) := dk_180 0 106 (dk_at dksX4_reserve_4 17 rfl rfl)
theorem dX4_reserve_114 : decode cX4_reserve 114 = .ok (.iconst 1, 1) := dk_4 (dk_at dksX4_reserve_4 20 rfl rfl)
theorem dX4_reserve_115 : decode cX4_reserve 115 = .ok (.iadd, 1) := dk_96 (dk_at dksX4_reserve_4 21 rfl rfl)
theorem dX4_reserve_116 : decode cX4_reserve 116 = .ok (.putfield 106, 3) := dk_181 0 106 (dk_at dksX4_reserve_5 0 rfl rfl)
theorem dX4_reserve_119 : decode cX4_reserve 119 = .ok (.aload_n 0, 1) := dk_42 (dk_at dksX4_reserve_5 3 rfl rfl)
theorem dX4_reserve_120 : decode cX4_reserve 120 = .ok (.invokevirtual 103, 3) := dk_182 0 103 (dk_at dksX4_reserve_5 4 rfl rfl)
theorem dX4_reserve_123 : decode cX4_reserve 123 = .ok (.aload_n 0, 1) := dk_42 (dk_at dksX4_reserve_5 7 rfl rfl)
theorem dX4_reserve_124 : decode cX4_reserve 124 = .ok (.getfield 106, 3) := dk_180 0 106 (dk_at dksX4_reserve_5 8 rfl rfl)
theorem dX4_reserve_127 : decode cX4_reserve 127 = .ok (.iconst 1, 1) := dk_4 (dk_at dksX4_reserve_5 11 rfl rfl)
theorem dX4_reserve_128 : decode cX4_reserve 128 = .ok (.isub, 1) := dk_100 (dk_at dksX4_reserve_5 12 rfl rfl)
theorem dX4_reserve_129 : decode cX4_reserve 129 = .ok (.ireturn, 1) := dk_172 (dk_at dksX4_reserve_5 13 rfl rfl)
abbrev cX4_settle : ByteArray := prog_7_method_36_code
def yX4_settle : MethodName := ⟨RX4, "settle", "(II)I"⟩
def dkwX4_settle_4 : List UInt8 := [180, 0, 33, 42, 180, 0, 40, 27, 46, 46, 172]
abbrev dktX4_settle_4 : List UInt8 := dkwX4_settle_4 ++ []
def dkwX4_settle_3 : List UInt8 := [3, 84, 42, 180, 0, 33, 42, 180, 0, 40, 27, 46, 92, 46, 28, 96, 79, 42, 182, 0, 103, 42]
abbrev dktX4_settle_3 : List UInt8 := dkwX4_settle_3 ++ dktX4_settle_4
def dkwX4_settle_2 : List UInt8 := [184, 0, 78, 153, 0, 7, 3, 167, 0, 4, 5, 182, 0, 67, 153, 0, 5, 3, 172, 42, 180, 0, 46, 27]
abbrev dktX4_settle_2 : List UInt8 := dkwX4_settle_2 ++ dktX4_settle_3
def dkwX4_settle_1 : List UInt8 := [167, 0, 4, 3, 62, 42, 29, 154, 0, 7, 4, 167, 0, 22, 28, 3, 42, 180, 0, 43, 27, 46]
abbrev dktX4_settle_1 : List UInt8 := dkwX4_settle_1 ++ dktX4_settle_2
def dkwX4_settle_0 : List UInt8 := [27, 3, 42, 180, 0, 106, 4, 100, 184, 0, 78, 153, 0, 16, 42, 180, 0, 46, 27, 51, 153, 0, 7, 4]
abbrev dktX4_settle_0 : List UInt8 := dkwX4_settle_0 ++ dktX4_settle_1
theorem dksX4_settle_0 : cX4_settle.data.toList.drop 0 = dktX4_settle_0 := by decide +kernel
theorem dksX4_settle_1 : cX4_settle.data.toList.drop 24 = dktX4_settle_1 := dk_seg dksX4_settle_0 24 rfl rfl
theorem dksX4_settle_2 : cX4_settle.data.toList.drop 46 = dktX4_settle_2 := dk_seg dksX4_settle_1 22 rfl rfl
theorem dksX4_settle_3 : cX4_settle.data.toList.drop 70 = dktX4_settle_3 := dk_seg dksX4_settle_2 24 rfl rfl
theorem dksX4_settle_4 : cX4_settle.data.toList.drop 92 = dktX4_settle_4 := dk_seg dksX4_settle_3 22 rfl rfl
theorem dX4_settle_0 : decode cX4_settle 0 = .ok (.iload_n 1, 1) := dk_27 (dk_at dksX4_settle_0 0 rfl rfl)
theorem dX4_settle_1 : decode cX4_settle 1 = .ok (.iconst 0, 1) := dk_3 (dk_at dksX4_settle_0 1 rfl rfl)
theorem dX4_settle_2 : decode cX4_settle 2 = .ok (.aload_n 0, 1) := dk_42 (dk_at dksX4_settle_0 2 rfl rfl)
theorem dX4_settle_3 : decode cX4_settle 3 = .ok (.getfield 106, 3) := dk_180 0 106 (dk_at dksX4_settle_0 3 rfl rfl)
theorem dX4_settle_6 : decode cX4_settle 6 = .ok (.iconst 1, 1) := dk_4 (dk_at dksX4_settle_0 6 rfl rfl)
theorem dX4_settle_7 : decode cX4_settle 7 = .ok (.isub, 1) := dk_100 (dk_at dksX4_settle_0 7 rfl rfl)
theorem dX4_settle_8 : decode cX4_settle 8 = .ok (.invokestatic 78, 3) := dk_184 0 78 (dk_at dksX4_settle_0 8 rfl rfl)
theorem dX4_settle_11 : decode cX4_settle 11 = .ok (.ifCond .eq 16, 3) := dk_153 0 16 (dk_at dksX4_settle_0 11 rfl rfl)
theorem dX4_settle_14 : decode cX4_settle 14 = .ok (.aload_n 0, 1) := dk_42 (dk_at dksX4_settle_0 14 rfl rfl)
theorem dX4_settle_15 : decode cX4_settle 15 = .ok (.getfield 46, 3) := dk_180 0 46 (dk_at dksX4_settle_0 15 rfl rfl)
theorem dX4_settle_18 : decode cX4_settle 18 = .ok (.iload_n 1, 1) := dk_27 (dk_at dksX4_settle_0 18 rfl rfl)
theorem dX4_settle_19 : decode cX4_settle 19 = .ok (.baload, 1) := dk_51 (dk_at dksX4_settle_0 19 rfl rfl)
theorem dX4_settle_20 : decode cX4_settle 20 = .ok (.ifCond .eq 7, 3) := dk_153 0 7 (dk_at dksX4_settle_0 20 rfl rfl)
theorem dX4_settle_23 : decode cX4_settle 23 = .ok (.iconst 1, 1) := dk_4 (dk_at dksX4_settle_0 23 rfl rfl)
theorem dX4_settle_24 : decode cX4_settle 24 = .ok (.goto 4, 3) := dk_167 0 4 (dk_at dksX4_settle_1 0 rfl rfl)
theorem dX4_settle_27 : decode cX4_settle 27 = .ok (.iconst 0, 1) := dk_3 (dk_at dksX4_settle_1 3 rfl rfl)
theorem dX4_settle_28 : decode cX4_settle 28 = .ok (.istore_n 3, 1) := dk_62 (dk_at dksX4_settle_1 4 rfl rfl)
theorem dX4_settle_29 : decode cX4_settle 29 = .ok (.aload_n 0, 1) := dk_42 (dk_at dksX4_settle_1 5 rfl rfl)
theorem dX4_settle_30 : decode cX4_settle 30 = .ok (.iload_n 3, 1) := dk_29 (dk_at dksX4_settle_1 6 rfl rfl)
theorem dX4_settle_31 : decode cX4_settle 31 = .ok (.ifCond .ne 7, 3) := dk_154 0 7 (dk_at dksX4_settle_1 7 rfl rfl)
theorem dX4_settle_34 : decode cX4_settle 34 = .ok (.iconst 1, 1) := dk_4 (dk_at dksX4_settle_1 10 rfl rfl)
theorem dX4_settle_35 : decode cX4_settle 35 = .ok (.goto 22, 3) := dk_167 0 22 (dk_at dksX4_settle_1 11 rfl rfl)
theorem dX4_settle_38 : decode cX4_settle 38 = .ok (.iload_n 2, 1) := dk_28 (dk_at dksX4_settle_1 14 rfl rfl)
theorem dX4_settle_39 : decode cX4_settle 39 = .ok (.iconst 0, 1) := dk_3 (dk_at dksX4_settle_1 15 rfl rfl)
theorem dX4_settle_40 : decode cX4_settle 40 = .ok (.aload_n 0, 1) := dk_42 (dk_at dksX4_settle_1 16 rfl rfl)
theorem dX4_settle_41 : decode cX4_settle 41 = .ok (.getfield 43, 3) := dk_180 0 43 (dk_at dksX4_settle_1 17 rfl rfl)
theorem dX4_settle_44 : decode cX4_settle 44 = .ok (.iload_n 1, 1) := dk_27 (dk_at dksX4_settle_1 20 rfl rfl)
theorem dX4_settle_45 : decode cX4_settle 45 = .ok (.iaload, 1) := dk_46 (dk_at dksX4_settle_1 21 rfl rfl)
theorem dX4_settle_46 : decode cX4_settle 46 = .ok (.invokestatic 78, 3) := dk_184 0 78 (dk_at dksX4_settle_2 0 rfl rfl)
theorem dX4_settle_49 : decode cX4_settle 49 = .ok (.ifCond .eq 7, 3) := dk_153 0 7 (dk_at dksX4_settle_2 3 rfl rfl)
theorem dX4_settle_52 : decode cX4_settle 52 = .ok (.iconst 0, 1) := dk_3 (dk_at dksX4_settle_2 6 rfl rfl)
theorem dX4_settle_53 : decode cX4_settle 53 = .ok (.goto 4, 3) := dk_167 0 4 (dk_at dksX4_settle_2 7 rfl rfl)
theorem dX4_settle_56 : decode cX4_settle 56 = .ok (.iconst 2, 1) := dk_5 (dk_at dksX4_settle_2 10 rfl rfl)
theorem dX4_settle_57 : decode cX4_settle 57 = .ok (.invokevirtual 67, 3) := dk_182 0 67 (dk_at dksX4_settle_2 11 rfl rfl)
theorem dX4_settle_60 : decode cX4_settle 60 = .ok (.ifCond .eq 5, 3) := dk_153 0 5 (dk_at dksX4_settle_2 14 rfl rfl)
theorem dX4_settle_63 : decode cX4_settle 63 = .ok (.iconst 0, 1) := dk_3 (dk_at dksX4_settle_2 17 rfl rfl)
theorem dX4_settle_64 : decode cX4_settle 64 = .ok (.ireturn, 1) := dk_172 (dk_at dksX4_settle_2 18 rfl rfl)
theorem dX4_settle_65 : decode cX4_settle 65 = .ok (.aload_n 0, 1) := dk_42 (dk_at dksX4_settle_2 19 rfl rfl)
theorem dX4_settle_66 : decode cX4_settle 66 = .ok (.getfield 46, 3) := dk_180 0 46 (dk_at dksX4_settle_2 20 rfl rfl)
theorem dX4_settle_69 : decode cX4_settle 69 = .ok (.iload_n 1, 1) := dk_27 (dk_at dksX4_settle_2 23 rfl rfl)
theorem dX4_settle_70 : decode cX4_settle 70 = .ok (.iconst 0, 1) := dk_3 (dk_at dksX4_settle_3 0 rfl rfl)
theorem dX4_settle_71 : decode cX4_settle 71 = .ok (.bastore, 1) := dk_84 (dk_at dksX4_settle_3 1 rfl rfl)
theorem dX4_settle_72 : decode cX4_settle 72 = .ok (.aload_n 0, 1) := dk_42 (dk_at dksX4_settle_3 2 rfl rfl)
theorem dX4_settle_73 : decode cX4_settle 73 = .ok (.getfield 33, 3) := dk_180 0 33 (dk_at dksX4_settle_3 3 rfl rfl)
theorem dX4_settle_76 : decode cX4_settle 76 = .ok (.aload_n 0, 1) := dk_42 (dk_at dksX4_settle_3 6 rfl rfl)
theorem dX4_settle_77 : decode cX4_settle 77 = .ok (.getfield 40, 3) := dk_180 0 40 (dk_at dksX4_settle_3 7 rfl rfl)
theorem dX4_settle_80 : decode cX4_settle 80 = .ok (.iload_n 1, 1) := dk_27 (dk_at dksX4_settle_3 10 rfl rfl)
theorem dX4_settle_81 : decode cX4_settle 81 = .ok (.iaload, 1) := dk_46 (dk_at dksX4_settle_3 11 rfl rfl)
theorem dX4_settle_82 : decode cX4_settle 82 = .ok (.dup2, 1) := dk_92 (dk_at dksX4_settle_3 12 rfl rfl)
theorem dX4_settle_83 : decode cX4_settle 83 = .ok (.iaload, 1) := dk_46 (dk_at dksX4_settle_3 13 rfl rfl)
theorem dX4_settle_84 : decode cX4_settle 84 = .ok (.iload_n 2, 1) := dk_28 (dk_at dksX4_settle_3 14 rfl rfl)
theorem dX4_settle_85 : decode cX4_settle 85 = .ok (.iadd, 1) := dk_96 (dk_at dksX4_settle_3 15 rfl rfl)
theorem dX4_settle_86 : decode cX4_settle 86 = .ok (.iastore, 1) := dk_79 (dk_at dksX4_settle_3 16 rfl rfl)
theorem dX4_settle_87 : decode cX4_settle 87 = .ok (.aload_n 0, 1) := dk_42 (dk_at dksX4_settle_3 17 rfl rfl)
theorem dX4_settle_88 : decode cX4_settle 88 = .ok (.invokevirtual 103, 3) := dk_182 0 103 (dk_at dksX4_settle_3 18 rfl rfl)
theorem dX4_settle_91 : decode cX4_settle 91 = .ok (.aload_n 0, 1) := dk_42 (dk_at dksX4_settle_3 21 rfl rfl)
theorem dX4_settle_92 : decode cX4_settle 92 = .ok (.getfield 33, 3) := dk_180 0 33 (dk_at dksX4_settle_4 0 rfl rfl)
theorem dX4_settle_95 : decode cX4_settle 95 = .ok (.aload_n 0, 1) := dk_42 (dk_at dksX4_settle_4 3 rfl rfl)
theorem dX4_settle_96 : decode cX4_settle 96 = .ok (.getfield 40, 3) := dk_180 0 40 (dk_at dksX4_settle_4 4 rfl rfl)
theorem dX4_settle_99 : decode cX4_settle 99 = .ok (.iload_n 1, 1) := dk_27 (dk_at dksX4_settle_4 7 rfl rfl)
theorem dX4_settle_100 : decode cX4_settle 100 = .ok (.iaload, 1) := dk_46 (dk_at dksX4_settle_4 8 rfl rfl)
theorem dX4_settle_101 : decode cX4_settle 101 = .ok (.iaload, 1) := dk_46 (dk_at dksX4_settle_4 9 rfl rfl)
theorem dX4_settle_102 : decode cX4_settle 102 = .ok (.ireturn, 1) := dk_172 (dk_at dksX4_settle_4 10 rfl rfl)
abbrev cX4_setLimits : ByteArray := prog_7_method_37_code
def yX4_setLimits : MethodName := ⟨RX4, "setLimits", "(IIIII)V"⟩
def dkwX4_setLimits_4 : List UInt8 := [21, 6, 21, 5, 79, 42, 182, 0, 103, 177]
abbrev dktX4_setLimits_4 : List UInt8 := dkwX4_setLimits_4 ++ []
def dkwX4_setLimits_3 : List UInt8 := [154, 0, 33, 42, 180, 0, 49, 21, 6, 29, 79, 42, 180, 0, 52, 21, 6, 21, 4, 79, 42, 180, 0, 55]
abbrev dktX4_setLimits_3 : List UInt8 := dkwX4_setLimits_3 ++ dktX4_setLimits_4
def dkwX4_setLimits_2 : List UInt8 := [42, 21, 6, 2, 160, 0, 7, 4, 167, 0, 13, 21, 7, 153, 0, 7, 3, 167, 0, 4, 5, 182, 0, 67]
abbrev dktX4_setLimits_2 : List UInt8 := dkwX4_setLimits_2 ++ dktX4_setLimits_3
def dkwX4_setLimits_1 : List UInt8 := [184, 0, 78, 153, 0, 18, 21, 5, 2, 16, 100, 184, 0, 78, 153, 0, 7, 4, 167, 0, 4, 3, 54, 7]
abbrev dktX4_setLimits_1 : List UInt8 := dkwX4_setLimits_1 ++ dktX4_setLimits_2
def dkwX4_setLimits_0 : List UInt8 := [42, 27, 28, 182, 0, 142, 54, 6, 29, 2, 18, 145, 184, 0, 78, 153, 0, 29, 21, 4, 2, 18, 145]
abbrev dktX4_setLimits_0 : List UInt8 := dkwX4_setLimits_0 ++ dktX4_setLimits_1
theorem dksX4_setLimits_0 : cX4_setLimits.data.toList.drop 0 = dktX4_setLimits_0 := by decide +kernel
theorem dksX4_setLimits_1 : cX4_setLimits.data.toList.drop 23 = dktX4_setLimits_1 := dk_seg dksX4_setLimits_0 23 rfl rfl
theorem dksX4_setLimits_2 : cX4_setLimits.data.toList.drop 47 = dktX4_setLimits_2 := dk_seg dksX4_setLimits_1 24 rfl rfl
theorem dksX4_setLimits_3 : cX4_setLimits.data.toList.drop 71 = dktX4_setLimits_3 := dk_seg dksX4_setLimits_2 24 rfl rfl
theorem dksX4_setLimits_4 : cX4_setLimits.data.toList.drop 95 = dktX4_setLimits_4 := dk_seg dksX4_setLimits_3 24 rfl rfl
theorem dX4_setLimits_0 : decode cX4_setLimits 0 = .ok (.aload_n 0, 1) := dk_42 (dk_at dksX4_setLimits_0 0 rfl rfl)
theorem dX4_setLimits_1 : decode cX4_setLimits 1 = .ok (.iload_n 1, 1) := dk_27 (dk_at dksX4_setLimits_0 1 rfl rfl)
theorem dX4_setLimits_2 : decode cX4_setLimits 2 = .ok (.iload_n 2, 1) := dk_28 (dk_at dksX4_setLimits_0 2 rfl rfl)
theorem dX4_setLimits_3 : decode cX4_setLimits 3 = .ok (.invokevirtual 142, 3) := dk_182 0 142 (dk_at dksX4_setLimits_0 3 rfl rfl)
theorem dX4_setLimits_6 : decode cX4_setLimits 6 = .ok (.istore 6, 2) := dk_54 6 (dk_at dksX4_setLimits_0 6 rfl rfl)
theorem dX4_setLimits_8 : decode cX4_setLimits 8 = .ok (.iload_n 3, 1) := dk_29 (dk_at dksX4_setLimits_0 8 rfl rfl)
theorem dX4_setLimits_9 : decode cX4_setLimits 9 = .ok (.iconst (-1), 1) := dk_2 (dk_at dksX4_setLimits_0 9 rfl rfl)
theorem dX4_setLimits_10 : decode cX4_setLimits 10 = .ok (.ldc 145, 2) := dk_18 145 (dk_at dksX4_setLimits_0 10 rfl rfl)
theorem dX4_setLimits_12 : decode cX4_setLimits 12 = .ok (.invokestatic 78, 3) := dk_184 0 78 (dk_at dksX4_setLimits_0 12 rfl rfl)
theorem dX4_setLimits_15 : decode cX4_setLimits 15 = .ok (.ifCond .eq 29, 3) := dk_153 0 29 (dk_at dksX4_setLimits_0 15 rfl rfl)
theorem dX4_setLimits_18 : decode cX4_setLimits 18 = .ok (.iload 4, 2) := dk_21 4 (dk_at dksX4_setLimits_0 18 rfl rfl)
theorem dX4_setLimits_20 : decode cX4_setLimits 20 = .ok (.iconst (-1), 1) := dk_2 (dk_at dksX4_setLimits_0 20 rfl rfl)
theorem dX4_setLimits_21 : decode cX4_setLimits 21 = .ok (.ldc 145, 2) := dk_18 145 (dk_at dksX4_setLimits_0 21 rfl rfl)
theorem dX4_setLimits_23 : decode cX4_setLimits 23 = .ok (.invokestatic 78, 3) := dk_184 0 78 (dk_at dksX4_setLimits_1 0 rfl rfl)
theorem dX4_setLimits_26 : decode cX4_setLimits 26 = .ok (.ifCond .eq 18, 3) := dk_153 0 18 (dk_at dksX4_setLimits_1 3 rfl rfl)
theorem dX4_setLimits_29 : decode cX4_setLimits 29 = .ok (.iload 5, 2) := dk_21 5 (dk_at dksX4_setLimits_1 6 rfl rfl)
theorem dX4_setLimits_31 : decode cX4_setLimits 31 = .ok (.iconst (-1), 1) := dk_2 (dk_at dksX4_setLimits_1 8 rfl rfl)
theorem dX4_setLimits_32 : decode cX4_setLimits 32 = .ok (.bipush 100, 2) := dk_16 100 (dk_at dksX4_setLimits_1 9 rfl rfl)
theorem dX4_setLimits_34 : decode cX4_setLimits 34 = .ok (.invokestatic 78, 3) := dk_184 0 78 (dk_at dksX4_setLimits_1 11 rfl rfl)
theorem dX4_setLimits_37 : decode cX4_setLimits 37 = .ok (.ifCond .eq 7, 3) := dk_153 0 7 (dk_at dksX4_setLimits_1 14 rfl rfl)
theorem dX4_setLimits_40 : decode cX4_setLimits 40 = .ok (.iconst 1, 1) := dk_4 (dk_at dksX4_setLimits_1 17 rfl rfl)
theorem dX4_setLimits_41 : decode cX4_setLimits 41 = .ok (.goto 4, 3) := dk_167 0 4 (dk_at dksX4_setLimits_1 18 rfl rfl)
theorem dX4_setLimits_44 : decode cX4_setLimits 44 = .ok (.iconst 0, 1) := dk_3 (dk_at dksX4_setLimits_1 21 rfl rfl)
theorem dX4_setLimits_45 : decode cX4_setLimits 45 = .ok (.istore 7, 2) := dk_54 7 (dk_at dksX4_setLimits_1 22 rfl rfl)
theorem dX4_setLimits_47 : decode cX4_setLimits 47 = .ok (.aload_n 0, 1) := dk_42 (dk_at dksX4_setLimits_2 0 rfl rfl)
theorem dX4_setLimits_48 : decode cX4_setLimits 48 = .ok (.iload 6, 2) := dk_21 6 (dk_at dksX4_setLimits_2 1 rfl rfl)
theorem dX4_setLimits_50 : decode cX4_setLimits 50 = .ok (.iconst (-1), 1) := dk_2 (dk_at dksX4_setLimits_2 3 rfl rfl)
theorem dX4_setLimits_51 : decode cX4_setLimits 51 = .ok (.if_icmp .ne 7, 3) := dk_160 0 7 (dk_at dksX4_setLimits_2 4 rfl rfl)
theorem dX4_setLimits_54 : decode cX4_setLimits 54 = .ok (.iconst 1, 1) := dk_4 (dk_at dksX4_setLimits_2 7 rfl rfl)
theorem dX4_setLimits_55 : decode cX4_setLimits 55 = .ok (.goto 13, 3) := dk_167 0 13 (dk_at dksX4_setLimits_2 8 rfl rfl)
theorem dX4_setLimits_58 : decode cX4_setLimits 58 = .ok (.iload 7, 2) := dk_21 7 (dk_at dksX4_setLimits_2 11 rfl rfl)
theorem dX4_setLimits_60 : decode cX4_setLimits 60 = .ok (.ifCond .eq 7, 3) := dk_153 0 7 (dk_at dksX4_setLimits_2 13 rfl rfl)
theorem dX4_setLimits_63 : decode cX4_setLimits 63 = .ok (.iconst 0, 1) := dk_3 (dk_at dksX4_setLimits_2 16 rfl rfl)
theorem dX4_setLimits_64 : decode cX4_setLimits 64 = .ok (.goto 4, 3) := dk_167 0 4 (dk_at dksX4_setLimits_2 17 rfl rfl)
theorem dX4_setLimits_67 : decode cX4_setLimits 67 = .ok (.iconst 2, 1) := dk_5 (dk_at dksX4_setLimits_2 20 rfl rfl)
theorem dX4_setLimits_68 : decode cX4_setLimits 68 = .ok (.invokevirtual 67, 3) := dk_182 0 67 (dk_at dksX4_setLimits_2 21 rfl rfl)
theorem dX4_setLimits_71 : decode cX4_setLimits 71 = .ok (.ifCond .ne 33, 3) := dk_154 0 33 (dk_at dksX4_setLimits_3 0 rfl rfl)
theorem dX4_setLimits_74 : decode cX4_setLimits 74 = .ok (.aload_n 0, 1) := dk_42 (dk_at dksX4_setLimits_3 3 rfl rfl)
theorem dX4_setLimits_75 : decode cX4_setLimits 75 = .ok (.getfield 49, 3) := dk_180 0 49 (dk_at dksX4_setLimits_3 4 rfl rfl)
theorem dX4_setLimits_78 : decode cX4_setLimits 78 = .ok (.iload 6, 2) := dk_21 6 (dk_at dksX4_setLimits_3 7 rfl rfl)
theorem dX4_setLimits_80 : decode cX4_setLimits 80 = .ok (.iload_n 3, 1) := dk_29 (dk_at dksX4_setLimits_3 9 rfl rfl)
theorem dX4_setLimits_81 : decode cX4_setLimits 81 = .ok (.iastore, 1) := dk_79 (dk_at dksX4_setLimits_3 10 rfl rfl)
theorem dX4_setLimits_82 : decode cX4_setLimits 82 = .ok (.aload_n 0, 1) := dk_42 (dk_at dksX4_setLimits_3 11 rfl rfl)
theorem dX4_setLimits_83 : decode cX4_setLimits 83 = .ok (.getfield 52, 3) := dk_180 0 52 (dk_at dksX4_setLimits_3 12 rfl rfl)
theorem dX4_setLimits_86 : decode cX4_setLimits 86 = .ok (.iload 6, 2) := dk_21 6 (dk_at dksX4_setLimits_3 15 rfl rfl)
theorem dX4_setLimits_88 : decode cX4_setLimits 88 = .ok (.iload 4, 2) := dk_21 4 (dk_at dksX4_setLimits_3 17 rfl rfl)
theorem dX4_setLimits_90 : decode cX4_setLimits 90 = .ok (.iastore, 1) := dk_79 (dk_at dksX4_setLimits_3 19 rfl rfl)
theorem dX4_setLimits_91 : decode cX4_setLimits 91 = .ok (.aload_n 0, 1) := dk_42 (dk_at dksX4_setLimits_3 20 rfl rfl)
theorem dX4_setLimits_92 : decode cX4_setLimits 92 = .ok (.getfield 55, 3) := dk_180 0 55 (dk_at dksX4_setLimits_3 21 rfl rfl)
theorem dX4_setLimits_95 : decode cX4_setLimits 95 = .ok (.iload 6, 2) := dk_21 6 (dk_at dksX4_setLimits_4 0 rfl rfl)
theorem dX4_setLimits_97 : decode cX4_setLimits 97 = .ok (.iload 5, 2) := dk_21 5 (dk_at dksX4_setLimits_4 2 rfl rfl)
theorem dX4_setLimits_99 : decode cX4_setLimits 99 = .ok (.iastore, 1) := dk_79 (dk_at dksX4_setLimits_4 4 rfl rfl)
theorem dX4_setLimits_100 : decode cX4_setLimits 100 = .ok (.aload_n 0, 1) := dk_42 (dk_at dksX4_setLimits_4 5 rfl rfl)
theorem dX4_setLimits_101 : decode cX4_setLimits 101 = .ok (.invokevirtual 103, 3) := dk_182 0 103 (dk_at dksX4_setLimits_4 6 rfl rfl)
theorem dX4_setLimits_104 : decode cX4_setLimits 104 = .ok (.return_, 1) := dk_177 (dk_at dksX4_setLimits_4 9 rfl rfl)
abbrev cX4_accountOf : ByteArray := prog_7_method_21_code
def yX4_accountOf : MethodName := ⟨RX4, "accountOf", "(II)I"⟩
def dkwX4_accountOf_2 : List UInt8 := [28, 182, 0, 93, 153, 0, 10, 16, 9, 28, 96, 167, 0, 4, 2, 172]
abbrev dktX4_accountOf_2 : List UInt8 := dkwX4_accountOf_2 ++ []
def dkwX4_accountOf_1 : List UInt8 := [28, 3, 5, 184, 0, 78, 153, 0, 10, 16, 6, 28, 96, 167, 0, 4, 2, 172, 27, 5, 160, 0, 18, 42]
abbrev dktX4_accountOf_1 : List UInt8 := dkwX4_accountOf_1 ++ dktX4_accountOf_2
def dkwX4_accountOf_0 : List UInt8 := [27, 154, 0, 18, 28, 3, 8, 184, 0, 78, 153, 0, 7, 28, 167, 0, 4, 2, 172, 27, 4, 160, 0, 21]
abbrev dktX4_accountOf_0 : List UInt8 := dkwX4_accountOf_0 ++ dktX4_accountOf_1
theorem dksX4_accountOf_0 : cX4_accountOf.data.toList.drop 0 = dktX4_accountOf_0 := by decide +kernel
theorem dksX4_accountOf_1 : cX4_accountOf.data.toList.drop 24 = dktX4_accountOf_1 := dk_seg dksX4_accountOf_0 24 rfl rfl
theorem dksX4_accountOf_2 : cX4_accountOf.data.toList.drop 48 = dktX4_accountOf_2 := dk_seg dksX4_accountOf_1 24 rfl rfl
theorem dX4_accountOf_0 : decode cX4_accountOf 0 = .ok (.iload_n 1, 1) := dk_27 (dk_at dksX4_accountOf_0 0 rfl rfl)
theorem dX4_accountOf_1 : decode cX4_accountOf 1 = .ok (.ifCond .ne 18, 3) := dk_154 0 18 (dk_at dksX4_accountOf_0 1 rfl rfl)
theorem dX4_accountOf_4 : decode cX4_accountOf 4 = .ok (.iload_n 2, 1) := dk_28 (dk_at dksX4_accountOf_0 4 rfl rfl)
theorem dX4_accountOf_5 : decode cX4_accountOf 5 = .ok (.iconst 0, 1) := dk_3 (dk_at dksX4_accountOf_0 5 rfl rfl)
theorem dX4_accountOf_6 : decode cX4_accountOf 6 = .ok (.iconst 5, 1) := dk_8 (dk_at dksX4_accountOf_0 6 rfl rfl)
theorem dX4_accountOf_7 : decode cX4_accountOf 7 = .ok (.invokestatic 78, 3) := dk_184 0 78 (dk_at dksX4_accountOf_0 7 rfl rfl)
theorem dX4_accountOf_10 : decode cX4_accountOf 10 = .ok (.ifCond .eq 7, 3) := dk_153 0 7 (dk_at dksX4_accountOf_0 10 rfl rfl)
theorem dX4_accountOf_13 : decode cX4_accountOf 13 = .ok (.iload_n 2, 1) := dk_28 (dk_at dksX4_accountOf_0 13 rfl rfl)
theorem dX4_accountOf_14 : decode cX4_accountOf 14 = .ok (.goto 4, 3) := dk_167 0 4 (dk_at dksX4_accountOf_0 14 rfl rfl)
theorem dX4_accountOf_17 : decode cX4_accountOf 17 = .ok (.iconst (-1), 1) := dk_2 (dk_at dksX4_accountOf_0 17 rfl rfl)
theorem dX4_accountOf_18 : decode cX4_accountOf 18 = .ok (.ireturn, 1) := dk_172 (dk_at dksX4_accountOf_0 18 rfl rfl)
theorem dX4_accountOf_19 : decode cX4_accountOf 19 = .ok (.iload_n 1, 1) := dk_27 (dk_at dksX4_accountOf_0 19 rfl rfl)
theorem dX4_accountOf_20 : decode cX4_accountOf 20 = .ok (.iconst 1, 1) := dk_4 (dk_at dksX4_accountOf_0 20 rfl rfl)
theorem dX4_accountOf_21 : decode cX4_accountOf 21 = .ok (.if_icmp .ne 21, 3) := dk_160 0 21 (dk_at dksX4_accountOf_0 21 rfl rfl)
theorem dX4_accountOf_24 : decode cX4_accountOf 24 = .ok (.iload_n 2, 1) := dk_28 (dk_at dksX4_accountOf_1 0 rfl rfl)
theorem dX4_accountOf_25 : decode cX4_accountOf 25 = .ok (.iconst 0, 1) := dk_3 (dk_at dksX4_accountOf_1 1 rfl rfl)
theorem dX4_accountOf_26 : decode cX4_accountOf 26 = .ok (.iconst 2, 1) := dk_5 (dk_at dksX4_accountOf_1 2 rfl rfl)
theorem dX4_accountOf_27 : decode cX4_accountOf 27 = .ok (.invokestatic 78, 3) := dk_184 0 78 (dk_at dksX4_accountOf_1 3 rfl rfl)
theorem dX4_accountOf_30 : decode cX4_accountOf 30 = .ok (.ifCond .eq 10, 3) := dk_153 0 10 (dk_at dksX4_accountOf_1 6 rfl rfl)
theorem dX4_accountOf_33 : decode cX4_accountOf 33 = .ok (.bipush 6, 2) := dk_16 6 (dk_at dksX4_accountOf_1 9 rfl rfl)
theorem dX4_accountOf_35 : decode cX4_accountOf 35 = .ok (.iload_n 2, 1) := dk_28 (dk_at dksX4_accountOf_1 11 rfl rfl)
theorem dX4_accountOf_36 : decode cX4_accountOf 36 = .ok (.iadd, 1) := dk_96 (dk_at dksX4_accountOf_1 12 rfl rfl)
theorem dX4_accountOf_37 : decode cX4_accountOf 37 = .ok (.goto 4, 3) := dk_167 0 4 (dk_at dksX4_accountOf_1 13 rfl rfl)
theorem dX4_accountOf_40 : decode cX4_accountOf 40 = .ok (.iconst (-1), 1) := dk_2 (dk_at dksX4_accountOf_1 16 rfl rfl)
theorem dX4_accountOf_41 : decode cX4_accountOf 41 = .ok (.ireturn, 1) := dk_172 (dk_at dksX4_accountOf_1 17 rfl rfl)
theorem dX4_accountOf_42 : decode cX4_accountOf 42 = .ok (.iload_n 1, 1) := dk_27 (dk_at dksX4_accountOf_1 18 rfl rfl)
theorem dX4_accountOf_43 : decode cX4_accountOf 43 = .ok (.iconst 2, 1) := dk_5 (dk_at dksX4_accountOf_1 19 rfl rfl)
theorem dX4_accountOf_44 : decode cX4_accountOf 44 = .ok (.if_icmp .ne 18, 3) := dk_160 0 18 (dk_at dksX4_accountOf_1 20 rfl rfl)
theorem dX4_accountOf_47 : decode cX4_accountOf 47 = .ok (.aload_n 0, 1) := dk_42 (dk_at dksX4_accountOf_1 23 rfl rfl)
theorem dX4_accountOf_48 : decode cX4_accountOf 48 = .ok (.iload_n 2, 1) := dk_28 (dk_at dksX4_accountOf_2 0 rfl rfl)
theorem dX4_accountOf_49 : decode cX4_accountOf 49 = .ok (.invokevirtual 93, 3) := dk_182 0 93 (dk_at dksX4_accountOf_2 1 rfl rfl)
theorem dX4_accountOf_52 : decode cX4_accountOf 52 = .ok (.ifCond .eq 10, 3) := dk_153 0 10 (dk_at dksX4_accountOf_2 4 rfl rfl)
theorem dX4_accountOf_55 : decode cX4_accountOf 55 = .ok (.bipush 9, 2) := dk_16 9 (dk_at dksX4_accountOf_2 7 rfl rfl)
theorem dX4_accountOf_57 : decode cX4_accountOf 57 = .ok (.iload_n 2, 1) := dk_28 (dk_at dksX4_accountOf_2 9 rfl rfl)
theorem dX4_accountOf_58 : decode cX4_accountOf 58 = .ok (.iadd, 1) := dk_96 (dk_at dksX4_accountOf_2 10 rfl rfl)
theorem dX4_accountOf_59 : decode cX4_accountOf 59 = .ok (.goto 4, 3) := dk_167 0 4 (dk_at dksX4_accountOf_2 11 rfl rfl)
theorem dX4_accountOf_62 : decode cX4_accountOf 62 = .ok (.iconst (-1), 1) := dk_2 (dk_at dksX4_accountOf_2 14 rfl rfl)
theorem dX4_accountOf_63 : decode cX4_accountOf 63 = .ok (.ireturn, 1) := dk_172 (dk_at dksX4_accountOf_2 15 rfl rfl)
abbrev cX4_pass : ByteArray := prog_7_method_38_code
def yX4_pass : MethodName := ⟨RX4, "pass", "(I)I"⟩
def dkwX4_pass_2 : List UInt8 := [181, 0, 122, 42, 180, 0, 122, 172]
abbrev dktX4_pass_2 : List UInt8 := dkwX4_pass_2 ++ []
def dkwX4_pass_1 : List UInt8 := [164, 0, 7, 5, 167, 0, 4, 3, 182, 0, 67, 153, 0, 5, 3, 172, 42, 89, 180, 0, 122, 27, 96]
abbrev dktX4_pass_1 : List UInt8 := dkwX4_pass_1 ++ dktX4_pass_2
def dkwX4_pass_0 : List UInt8 := [42, 27, 4, 17, 3, 232, 184, 0, 78, 154, 0, 7, 4, 167, 0, 19, 42, 180, 0, 122, 27, 96, 18, 145]
abbrev dktX4_pass_0 : List UInt8 := dkwX4_pass_0 ++ dktX4_pass_1
theorem dksX4_pass_0 : cX4_pass.data.toList.drop 0 = dktX4_pass_0 := by decide +kernel
theorem dksX4_pass_1 : cX4_pass.data.toList.drop 24 = dktX4_pass_1 := dk_seg dksX4_pass_0 24 rfl rfl
theorem dksX4_pass_2 : cX4_pass.data.toList.drop 47 = dktX4_pass_2 := dk_seg dksX4_pass_1 23 rfl rfl
theorem dX4_pass_0 : decode cX4_pass 0 = .ok (.aload_n 0, 1) := dk_42 (dk_at dksX4_pass_0 0 rfl rfl)
theorem dX4_pass_1 : decode cX4_pass 1 = .ok (.iload_n 1, 1) := dk_27 (dk_at dksX4_pass_0 1 rfl rfl)
theorem dX4_pass_2 : decode cX4_pass 2 = .ok (.iconst 1, 1) := dk_4 (dk_at dksX4_pass_0 2 rfl rfl)
theorem dX4_pass_3 : decode cX4_pass 3 = .ok (.sipush 1000, 3) := dk_17 3 232 (dk_at dksX4_pass_0 3 rfl rfl)
theorem dX4_pass_6 : decode cX4_pass 6 = .ok (.invokestatic 78, 3) := dk_184 0 78 (dk_at dksX4_pass_0 6 rfl rfl)
theorem dX4_pass_9 : decode cX4_pass 9 = .ok (.ifCond .ne 7, 3) := dk_154 0 7 (dk_at dksX4_pass_0 9 rfl rfl)
theorem dX4_pass_12 : decode cX4_pass 12 = .ok (.iconst 1, 1) := dk_4 (dk_at dksX4_pass_0 12 rfl rfl)
theorem dX4_pass_13 : decode cX4_pass 13 = .ok (.goto 19, 3) := dk_167 0 19 (dk_at dksX4_pass_0 13 rfl rfl)
theorem dX4_pass_16 : decode cX4_pass 16 = .ok (.aload_n 0, 1) := dk_42 (dk_at dksX4_pass_0 16 rfl rfl)
theorem dX4_pass_17 : decode cX4_pass 17 = .ok (.getfield 122, 3) := dk_180 0 122 (dk_at dksX4_pass_0 17 rfl rfl)
theorem dX4_pass_20 : decode cX4_pass 20 = .ok (.iload_n 1, 1) := dk_27 (dk_at dksX4_pass_0 20 rfl rfl)
theorem dX4_pass_21 : decode cX4_pass 21 = .ok (.iadd, 1) := dk_96 (dk_at dksX4_pass_0 21 rfl rfl)
theorem dX4_pass_22 : decode cX4_pass 22 = .ok (.ldc 145, 2) := dk_18 145 (dk_at dksX4_pass_0 22 rfl rfl)
theorem dX4_pass_24 : decode cX4_pass 24 = .ok (.if_icmp .le 7, 3) := dk_164 0 7 (dk_at dksX4_pass_1 0 rfl rfl)
theorem dX4_pass_27 : decode cX4_pass 27 = .ok (.iconst 2, 1) := dk_5 (dk_at dksX4_pass_1 3 rfl rfl)
theorem dX4_pass_28 : decode cX4_pass 28 = .ok (.goto 4, 3) := dk_167 0 4 (dk_at dksX4_pass_1 4 rfl rfl)
theorem dX4_pass_31 : decode cX4_pass 31 = .ok (.iconst 0, 1) := dk_3 (dk_at dksX4_pass_1 7 rfl rfl)
theorem dX4_pass_32 : decode cX4_pass 32 = .ok (.invokevirtual 67, 3) := dk_182 0 67 (dk_at dksX4_pass_1 8 rfl rfl)
theorem dX4_pass_35 : decode cX4_pass 35 = .ok (.ifCond .eq 5, 3) := dk_153 0 5 (dk_at dksX4_pass_1 11 rfl rfl)
theorem dX4_pass_38 : decode cX4_pass 38 = .ok (.iconst 0, 1) := dk_3 (dk_at dksX4_pass_1 14 rfl rfl)
theorem dX4_pass_39 : decode cX4_pass 39 = .ok (.ireturn, 1) := dk_172 (dk_at dksX4_pass_1 15 rfl rfl)
theorem dX4_pass_40 : decode cX4_pass 40 = .ok (.aload_n 0, 1) := dk_42 (dk_at dksX4_pass_1 16 rfl rfl)
theorem dX4_pass_41 : decode cX4_pass 41 = .ok (.dup, 1) := dk_89 (dk_at dksX4_pass_1 17 rfl rfl)
theorem dX4_pass_42 : decode cX4_pass 42 = .ok (.getfield 122, 3) := dk_180 0 122 (dk_at dksX4_pass_1 18 rfl rfl)
theorem dX4_pass_45 : decode cX4_pass 45 = .ok (.iload_n 1, 1) := dk_27 (dk_at dksX4_pass_1 21 rfl rfl)
theorem dX4_pass_46 : decode cX4_pass 46 = .ok (.iadd, 1) := dk_96 (dk_at dksX4_pass_1 22 rfl rfl)
theorem dX4_pass_47 : decode cX4_pass 47 = .ok (.putfield 122, 3) := dk_181 0 122 (dk_at dksX4_pass_2 0 rfl rfl)
theorem dX4_pass_50 : decode cX4_pass 50 = .ok (.aload_n 0, 1) := dk_42 (dk_at dksX4_pass_2 3 rfl rfl)
theorem dX4_pass_51 : decode cX4_pass 51 = .ok (.getfield 122, 3) := dk_180 0 122 (dk_at dksX4_pass_2 4 rfl rfl)
theorem dX4_pass_54 : decode cX4_pass 54 = .ok (.ireturn, 1) := dk_172 (dk_at dksX4_pass_2 7 rfl rfl)
abbrev cX4_used : ByteArray := prog_7_method_40_code
def yX4_used : MethodName := ⟨RX4, "used", "(II)I"⟩
def dkwX4_used_1 : List UInt8 := [180, 0, 115, 182, 0, 118, 172]
abbrev dktX4_used_1 : List UInt8 := dkwX4_used_1 ++ []
def dkwX4_used_0 : List UInt8 := [42, 27, 28, 182, 0, 142, 62, 42, 29, 182, 0, 146, 153, 0, 7, 3, 167, 0, 12, 42, 29, 42]
abbrev dktX4_used_0 : List UInt8 := dkwX4_used_0 ++ dktX4_used_1
theorem dksX4_used_0 : cX4_used.data.toList.drop 0 = dktX4_used_0 := by decide +kernel
theorem dksX4_used_1 : cX4_used.data.toList.drop 22 = dktX4_used_1 := dk_seg dksX4_used_0 22 rfl rfl
theorem dX4_used_0 : decode cX4_used 0 = .ok (.aload_n 0, 1) := dk_42 (dk_at dksX4_used_0 0 rfl rfl)
theorem dX4_used_1 : decode cX4_used 1 = .ok (.iload_n 1, 1) := dk_27 (dk_at dksX4_used_0 1 rfl rfl)
theorem dX4_used_2 : decode cX4_used 2 = .ok (.iload_n 2, 1) := dk_28 (dk_at dksX4_used_0 2 rfl rfl)
theorem dX4_used_3 : decode cX4_used 3 = .ok (.invokevirtual 142, 3) := dk_182 0 142 (dk_at dksX4_used_0 3 rfl rfl)
theorem dX4_used_6 : decode cX4_used 6 = .ok (.istore_n 3, 1) := dk_62 (dk_at dksX4_used_0 6 rfl rfl)
theorem dX4_used_7 : decode cX4_used 7 = .ok (.aload_n 0, 1) := dk_42 (dk_at dksX4_used_0 7 rfl rfl)
theorem dX4_used_8 : decode cX4_used 8 = .ok (.iload_n 3, 1) := dk_29 (dk_at dksX4_used_0 8 rfl rfl)
theorem dX4_used_9 : decode cX4_used 9 = .ok (.invokevirtual 146, 3) := dk_182 0 146 (dk_at dksX4_used_0 9 rfl rfl)
theorem dX4_used_12 : decode cX4_used 12 = .ok (.ifCond .eq 7, 3) := dk_153 0 7 (dk_at dksX4_used_0 12 rfl rfl)
theorem dX4_used_15 : decode cX4_used 15 = .ok (.iconst 0, 1) := dk_3 (dk_at dksX4_used_0 15 rfl rfl)
theorem dX4_used_16 : decode cX4_used 16 = .ok (.goto 12, 3) := dk_167 0 12 (dk_at dksX4_used_0 16 rfl rfl)
theorem dX4_used_19 : decode cX4_used 19 = .ok (.aload_n 0, 1) := dk_42 (dk_at dksX4_used_0 19 rfl rfl)
theorem dX4_used_20 : decode cX4_used 20 = .ok (.iload_n 3, 1) := dk_29 (dk_at dksX4_used_0 20 rfl rfl)
theorem dX4_used_21 : decode cX4_used 21 = .ok (.aload_n 0, 1) := dk_42 (dk_at dksX4_used_0 21 rfl rfl)
theorem dX4_used_22 : decode cX4_used 22 = .ok (.getfield 115, 3) := dk_180 0 115 (dk_at dksX4_used_1 0 rfl rfl)
theorem dX4_used_25 : decode cX4_used 25 = .ok (.invokevirtual 118, 3) := dk_182 0 118 (dk_at dksX4_used_1 3 rfl rfl)
theorem dX4_used_28 : decode cX4_used 28 = .ok (.ireturn, 1) := dk_172 (dk_at dksX4_used_1 6 rfl rfl)
abbrev cX4_noAccount : ByteArray := prog_7_method_39_code
def yX4_noAccount : MethodName := ⟨RX4, "noAccount", "(I)Z"⟩
def dkwX4_noAccount_0 : List UInt8 := [42, 27, 2, 160, 0, 7, 4, 167, 0, 4, 3, 182, 0, 67, 172]
abbrev dktX4_noAccount_0 : List UInt8 := dkwX4_noAccount_0 ++ []
theorem dksX4_noAccount_0 : cX4_noAccount.data.toList.drop 0 = dktX4_noAccount_0 := by decide +kernel
theorem dX4_noAccount_0 : decode cX4_noAccount 0 = .ok (.aload_n 0, 1) := dk_42 (dk_at dksX4_noAccount_0 0 rfl rfl)
theorem dX4_noAccount_1 : decode cX4_noAccount 1 = .ok (.iload_n 1, 1) := dk_27 (dk_at dksX4_noAccount_0 1 rfl rfl)
theorem dX4_noAccount_2 : decode cX4_noAccount 2 = .ok (.iconst (-1), 1) := dk_2 (dk_at dksX4_noAccount_0 2 rfl rfl)
theorem dX4_noAccount_3 : decode cX4_noAccount 3 = .ok (.if_icmp .ne 7, 3) := dk_160 0 7 (dk_at dksX4_noAccount_0 3 rfl rfl)
theorem dX4_noAccount_6 : decode cX4_noAccount 6 = .ok (.iconst 1, 1) := dk_4 (dk_at dksX4_noAccount_0 6 rfl rfl)
theorem dX4_noAccount_7 : decode cX4_noAccount 7 = .ok (.goto 4, 3) := dk_167 0 4 (dk_at dksX4_noAccount_0 7 rfl rfl)
theorem dX4_noAccount_10 : decode cX4_noAccount 10 = .ok (.iconst 0, 1) := dk_3 (dk_at dksX4_noAccount_0 10 rfl rfl)
theorem dX4_noAccount_11 : decode cX4_noAccount 11 = .ok (.invokevirtual 67, 3) := dk_182 0 67 (dk_at dksX4_noAccount_0 11 rfl rfl)
theorem dX4_noAccount_14 : decode cX4_noAccount 14 = .ok (.ireturn, 1) := dk_172 (dk_at dksX4_noAccount_0 14 rfl rfl)
abbrev cX4_filesOf : ByteArray := prog_7_method_41_code
def yX4_filesOf : MethodName := ⟨RX4, "filesOf", "(II)I"⟩
def dkwX4_filesOf_1 : List UInt8 := [172]
abbrev dktX4_filesOf_1 : List UInt8 := dkwX4_filesOf_1 ++ []
def dkwX4_filesOf_0 : List UInt8 := [42, 27, 28, 182, 0, 142, 62, 42, 29, 182, 0, 146, 153, 0, 7, 3, 167, 0, 8, 42, 29, 182, 0, 132]
abbrev dktX4_filesOf_0 : List UInt8 := dkwX4_filesOf_0 ++ dktX4_filesOf_1
theorem dksX4_filesOf_0 : cX4_filesOf.data.toList.drop 0 = dktX4_filesOf_0 := by decide +kernel
theorem dksX4_filesOf_1 : cX4_filesOf.data.toList.drop 24 = dktX4_filesOf_1 := dk_seg dksX4_filesOf_0 24 rfl rfl
theorem dX4_filesOf_0 : decode cX4_filesOf 0 = .ok (.aload_n 0, 1) := dk_42 (dk_at dksX4_filesOf_0 0 rfl rfl)
theorem dX4_filesOf_1 : decode cX4_filesOf 1 = .ok (.iload_n 1, 1) := dk_27 (dk_at dksX4_filesOf_0 1 rfl rfl)
theorem dX4_filesOf_2 : decode cX4_filesOf 2 = .ok (.iload_n 2, 1) := dk_28 (dk_at dksX4_filesOf_0 2 rfl rfl)
theorem dX4_filesOf_3 : decode cX4_filesOf 3 = .ok (.invokevirtual 142, 3) := dk_182 0 142 (dk_at dksX4_filesOf_0 3 rfl rfl)
theorem dX4_filesOf_6 : decode cX4_filesOf 6 = .ok (.istore_n 3, 1) := dk_62 (dk_at dksX4_filesOf_0 6 rfl rfl)
theorem dX4_filesOf_7 : decode cX4_filesOf 7 = .ok (.aload_n 0, 1) := dk_42 (dk_at dksX4_filesOf_0 7 rfl rfl)
theorem dX4_filesOf_8 : decode cX4_filesOf 8 = .ok (.iload_n 3, 1) := dk_29 (dk_at dksX4_filesOf_0 8 rfl rfl)
theorem dX4_filesOf_9 : decode cX4_filesOf 9 = .ok (.invokevirtual 146, 3) := dk_182 0 146 (dk_at dksX4_filesOf_0 9 rfl rfl)
theorem dX4_filesOf_12 : decode cX4_filesOf 12 = .ok (.ifCond .eq 7, 3) := dk_153 0 7 (dk_at dksX4_filesOf_0 12 rfl rfl)
theorem dX4_filesOf_15 : decode cX4_filesOf 15 = .ok (.iconst 0, 1) := dk_3 (dk_at dksX4_filesOf_0 15 rfl rfl)
theorem dX4_filesOf_16 : decode cX4_filesOf 16 = .ok (.goto 8, 3) := dk_167 0 8 (dk_at dksX4_filesOf_0 16 rfl rfl)
theorem dX4_filesOf_19 : decode cX4_filesOf 19 = .ok (.aload_n 0, 1) := dk_42 (dk_at dksX4_filesOf_0 19 rfl rfl)
theorem dX4_filesOf_20 : decode cX4_filesOf 20 = .ok (.iload_n 3, 1) := dk_29 (dk_at dksX4_filesOf_0 20 rfl rfl)
theorem dX4_filesOf_21 : decode cX4_filesOf 21 = .ok (.invokevirtual 132, 3) := dk_182 0 132 (dk_at dksX4_filesOf_0 21 rfl rfl)
theorem dX4_filesOf_24 : decode cX4_filesOf 24 = .ok (.ireturn, 1) := dk_172 (dk_at dksX4_filesOf_1 0 rfl rfl)
abbrev cX4_usedByFiles : ByteArray := prog_7_method_42_code
def yX4_usedByFiles : MethodName := ⟨RX4, "usedByFiles", "(II)I"⟩
def dkwX4_usedByFiles_0 : List UInt8 := [42, 27, 28, 182, 0, 149, 172]
abbrev dktX4_usedByFiles_0 : List UInt8 := dkwX4_usedByFiles_0 ++ []
theorem dksX4_usedByFiles_0 : cX4_usedByFiles.data.toList.drop 0 = dktX4_usedByFiles_0 := by decide +kernel
theorem dX4_usedByFiles_0 : decode cX4_usedByFiles 0 = .ok (.aload_n 0, 1) := dk_42 (dk_at dksX4_usedByFiles_0 0 rfl rfl)
theorem dX4_usedByFiles_1 : decode cX4_usedByFiles 1 = .ok (.iload_n 1, 1) := dk_27 (dk_at dksX4_usedByFiles_0 1 rfl rfl)
theorem dX4_usedByFiles_2 : decode cX4_usedByFiles 2 = .ok (.iload_n 2, 1) := dk_28 (dk_at dksX4_usedByFiles_0 2 rfl rfl)
theorem dX4_usedByFiles_3 : decode cX4_usedByFiles 3 = .ok (.invokevirtual 149, 3) := dk_182 0 149 (dk_at dksX4_usedByFiles_0 3 rfl rfl)
theorem dX4_usedByFiles_6 : decode cX4_usedByFiles 6 = .ok (.ireturn, 1) := dk_172 (dk_at dksX4_usedByFiles_0 6 rfl rfl)
abbrev cX4_grace : ByteArray := prog_7_method_43_code
def yX4_grace : MethodName := ⟨RX4, "grace", "(II)I"⟩
def dkwX4_grace_2 : List UInt8 := [3, 167, 0, 17, 16, 48, 42, 180, 0, 122, 100, 42, 180, 0, 58, 29, 46, 96, 172]
abbrev dktX4_grace_2 : List UInt8 := dkwX4_grace_2 ++ []
def dkwX4_grace_1 : List UInt8 := [160, 0, 16, 42, 180, 0, 61, 154, 0, 7, 2, 167, 0, 4, 3, 172, 42, 29, 182, 0, 129, 153, 0, 7]
abbrev dktX4_grace_1 : List UInt8 := dkwX4_grace_1 ++ dktX4_grace_2
def dkwX4_grace_0 : List UInt8 := [42, 27, 28, 182, 0, 142, 62, 42, 29, 182, 0, 146, 154, 0, 13, 42, 180, 0, 58, 29, 46, 2]
abbrev dktX4_grace_0 : List UInt8 := dkwX4_grace_0 ++ dktX4_grace_1
theorem dksX4_grace_0 : cX4_grace.data.toList.drop 0 = dktX4_grace_0 := by decide +kernel
theorem dksX4_grace_1 : cX4_grace.data.toList.drop 22 = dktX4_grace_1 := dk_seg dksX4_grace_0 22 rfl rfl
theorem dksX4_grace_2 : cX4_grace.data.toList.drop 46 = dktX4_grace_2 := dk_seg dksX4_grace_1 24 rfl rfl
theorem dX4_grace_0 : decode cX4_grace 0 = .ok (.aload_n 0, 1) := dk_42 (dk_at dksX4_grace_0 0 rfl rfl)
theorem dX4_grace_1 : decode cX4_grace 1 = .ok (.iload_n 1, 1) := dk_27 (dk_at dksX4_grace_0 1 rfl rfl)
theorem dX4_grace_2 : decode cX4_grace 2 = .ok (.iload_n 2, 1) := dk_28 (dk_at dksX4_grace_0 2 rfl rfl)
theorem dX4_grace_3 : decode cX4_grace 3 = .ok (.invokevirtual 142, 3) := dk_182 0 142 (dk_at dksX4_grace_0 3 rfl rfl)
theorem dX4_grace_6 : decode cX4_grace 6 = .ok (.istore_n 3, 1) := dk_62 (dk_at dksX4_grace_0 6 rfl rfl)
theorem dX4_grace_7 : decode cX4_grace 7 = .ok (.aload_n 0, 1) := dk_42 (dk_at dksX4_grace_0 7 rfl rfl)
theorem dX4_grace_8 : decode cX4_grace 8 = .ok (.iload_n 3, 1) := dk_29 (dk_at dksX4_grace_0 8 rfl rfl)
theorem dX4_grace_9 : decode cX4_grace 9 = .ok (.invokevirtual 146, 3) := dk_182 0 146 (dk_at dksX4_grace_0 9 rfl rfl)
theorem dX4_grace_12 : decode cX4_grace 12 = .ok (.ifCond .ne 13, 3) := dk_154 0 13 (dk_at dksX4_grace_0 12 rfl rfl)
theorem dX4_grace_15 : decode cX4_grace 15 = .ok (.aload_n 0, 1) := dk_42 (dk_at dksX4_grace_0 15 rfl rfl)
theorem dX4_grace_16 : decode cX4_grace 16 = .ok (.getfield 58, 3) := dk_180 0 58 (dk_at dksX4_grace_0 16 rfl rfl)
theorem dX4_grace_19 : decode cX4_grace 19 = .ok (.iload_n 3, 1) := dk_29 (dk_at dksX4_grace_0 19 rfl rfl)
theorem dX4_grace_20 : decode cX4_grace 20 = .ok (.iaload, 1) := dk_46 (dk_at dksX4_grace_0 20 rfl rfl)
theorem dX4_grace_21 : decode cX4_grace 21 = .ok (.iconst (-1), 1) := dk_2 (dk_at dksX4_grace_0 21 rfl rfl)
theorem dX4_grace_22 : decode cX4_grace 22 = .ok (.if_icmp .ne 16, 3) := dk_160 0 16 (dk_at dksX4_grace_1 0 rfl rfl)
theorem dX4_grace_25 : decode cX4_grace 25 = .ok (.aload_n 0, 1) := dk_42 (dk_at dksX4_grace_1 3 rfl rfl)
theorem dX4_grace_26 : decode cX4_grace 26 = .ok (.getfield 61, 3) := dk_180 0 61 (dk_at dksX4_grace_1 4 rfl rfl)
theorem dX4_grace_29 : decode cX4_grace 29 = .ok (.ifCond .ne 7, 3) := dk_154 0 7 (dk_at dksX4_grace_1 7 rfl rfl)
theorem dX4_grace_32 : decode cX4_grace 32 = .ok (.iconst (-1), 1) := dk_2 (dk_at dksX4_grace_1 10 rfl rfl)
theorem dX4_grace_33 : decode cX4_grace 33 = .ok (.goto 4, 3) := dk_167 0 4 (dk_at dksX4_grace_1 11 rfl rfl)
theorem dX4_grace_36 : decode cX4_grace 36 = .ok (.iconst 0, 1) := dk_3 (dk_at dksX4_grace_1 14 rfl rfl)
theorem dX4_grace_37 : decode cX4_grace 37 = .ok (.ireturn, 1) := dk_172 (dk_at dksX4_grace_1 15 rfl rfl)
theorem dX4_grace_38 : decode cX4_grace 38 = .ok (.aload_n 0, 1) := dk_42 (dk_at dksX4_grace_1 16 rfl rfl)
theorem dX4_grace_39 : decode cX4_grace 39 = .ok (.iload_n 3, 1) := dk_29 (dk_at dksX4_grace_1 17 rfl rfl)
theorem dX4_grace_40 : decode cX4_grace 40 = .ok (.invokevirtual 129, 3) := dk_182 0 129 (dk_at dksX4_grace_1 18 rfl rfl)
theorem dX4_grace_43 : decode cX4_grace 43 = .ok (.ifCond .eq 7, 3) := dk_153 0 7 (dk_at dksX4_grace_1 21 rfl rfl)
theorem dX4_grace_46 : decode cX4_grace 46 = .ok (.iconst 0, 1) := dk_3 (dk_at dksX4_grace_2 0 rfl rfl)
theorem dX4_grace_47 : decode cX4_grace 47 = .ok (.goto 17, 3) := dk_167 0 17 (dk_at dksX4_grace_2 1 rfl rfl)
theorem dX4_grace_50 : decode cX4_grace 50 = .ok (.bipush 48, 2) := dk_16 48 (dk_at dksX4_grace_2 4 rfl rfl)
theorem dX4_grace_52 : decode cX4_grace 52 = .ok (.aload_n 0, 1) := dk_42 (dk_at dksX4_grace_2 6 rfl rfl)
theorem dX4_grace_53 : decode cX4_grace 53 = .ok (.getfield 122, 3) := dk_180 0 122 (dk_at dksX4_grace_2 7 rfl rfl)
theorem dX4_grace_56 : decode cX4_grace 56 = .ok (.isub, 1) := dk_100 (dk_at dksX4_grace_2 10 rfl rfl)
theorem dX4_grace_57 : decode cX4_grace 57 = .ok (.aload_n 0, 1) := dk_42 (dk_at dksX4_grace_2 11 rfl rfl)
theorem dX4_grace_58 : decode cX4_grace 58 = .ok (.getfield 58, 3) := dk_180 0 58 (dk_at dksX4_grace_2 12 rfl rfl)
theorem dX4_grace_61 : decode cX4_grace 61 = .ok (.iload_n 3, 1) := dk_29 (dk_at dksX4_grace_2 15 rfl rfl)
theorem dX4_grace_62 : decode cX4_grace 62 = .ok (.iaload, 1) := dk_46 (dk_at dksX4_grace_2 16 rfl rfl)
theorem dX4_grace_63 : decode cX4_grace 63 = .ok (.iadd, 1) := dk_96 (dk_at dksX4_grace_2 17 rfl rfl)
theorem dX4_grace_64 : decode cX4_grace 64 = .ok (.ireturn, 1) := dk_172 (dk_at dksX4_grace_2 18 rfl rfl)
abbrev cX4_room : ByteArray := prog_7_method_44_code
def yX4_room : MethodName := ⟨RX4, "room", "(I)I"⟩
def dkwX4_room_7 : List UInt8 := [61, 132, 3, 1, 167, 255, 112, 28, 172]
abbrev dktX4_room_7 : List UInt8 := dkwX4_room_7 ++ []
def dkwX4_room_6 : List UInt8 := [160, 0, 7, 28, 167, 0, 20, 28, 2, 159, 0, 9, 21, 5, 28, 162, 0, 8, 21, 5, 167, 0, 4, 28]
abbrev dktX4_room_6 : List UInt8 := dkwX4_room_6 ++ dktX4_room_7
def dkwX4_room_5 : List UInt8 := [21, 4, 46, 2, 159, 0, 12, 21, 5, 156, 0, 7, 3, 167, 0, 5, 21, 5, 54, 5, 21, 5, 2]
abbrev dktX4_room_5 : List UInt8 := dkwX4_room_5 ++ dktX4_room_6
def dkwX4_room_4 : List UInt8 := [42, 180, 0, 115, 182, 0, 118, 100, 54, 5, 42, 21, 4, 182, 0, 129, 154, 0, 19, 42, 180, 0, 52]
abbrev dktX4_room_4 : List UInt8 := dkwX4_room_4 ++ dktX4_room_5
def dkwX4_room_3 : List UInt8 := [180, 0, 52, 21, 4, 46, 2, 160, 0, 7, 2, 167, 0, 21, 42, 180, 0, 52, 21, 4, 46, 42, 21, 4]
abbrev dktX4_room_3 : List UInt8 := dkwX4_room_3 ++ dktX4_room_4
def dkwX4_room_2 : List UInt8 := [2, 159, 0, 124, 42, 42, 180, 0, 27, 27, 46, 42, 180, 0, 30, 27, 46, 29, 182, 0, 125, 54, 4, 42]
abbrev dktX4_room_2 : List UInt8 := dkwX4_room_2 ++ dktX4_room_3
def dkwX4_room_1 : List UInt8 := [3, 62, 29, 5, 161, 0, 24, 42, 42, 180, 0, 27, 27, 46, 42, 180, 0, 30, 27, 46, 29, 182, 0, 125]
abbrev dktX4_room_1 : List UInt8 := dkwX4_room_1 ++ dktX4_room_2
def dkwX4_room_0 : List UInt8 := [42, 42, 27, 182, 0, 139, 153, 0, 7, 3, 167, 0, 4, 4, 182, 0, 67, 153, 0, 5, 3, 172, 2, 61]
abbrev dktX4_room_0 : List UInt8 := dkwX4_room_0 ++ dktX4_room_1
theorem dksX4_room_0 : cX4_room.data.toList.drop 0 = dktX4_room_0 := by decide +kernel
theorem dksX4_room_1 : cX4_room.data.toList.drop 24 = dktX4_room_1 := dk_seg dksX4_room_0 24 rfl rfl
theorem dksX4_room_2 : cX4_room.data.toList.drop 48 = dktX4_room_2 := dk_seg dksX4_room_1 24 rfl rfl
theorem dksX4_room_3 : cX4_room.data.toList.drop 72 = dktX4_room_3 := dk_seg dksX4_room_2 24 rfl rfl
theorem dksX4_room_4 : cX4_room.data.toList.drop 96 = dktX4_room_4 := dk_seg dksX4_room_3 24 rfl rfl
theorem dksX4_room_5 : cX4_room.data.toList.drop 119 = dktX4_room_5 := dk_seg dksX4_room_4 23 rfl rfl
theorem dksX4_room_6 : cX4_room.data.toList.drop 142 = dktX4_room_6 := dk_seg dksX4_room_5 23 rfl rfl
theorem dksX4_room_7 : cX4_room.data.toList.drop 166 = dktX4_room_7 := dk_seg dksX4_room_6 24 rfl rfl
theorem dX4_room_0 : decode cX4_room 0 = .ok (.aload_n 0, 1) := dk_42 (dk_at dksX4_room_0 0 rfl rfl)
theorem dX4_room_1 : decode cX4_room 1 = .ok (.aload_n 0, 1) := dk_42 (dk_at dksX4_room_0 1 rfl rfl)
theorem dX4_room_2 : decode cX4_room 2 = .ok (.iload_n 1, 1) := dk_27 (dk_at dksX4_room_0 2 rfl rfl)
theorem dX4_room_3 : decode cX4_room 3 = .ok (.invokevirtual 139, 3) := dk_182 0 139 (dk_at dksX4_room_0 3 rfl rfl)
theorem dX4_room_6 : decode cX4_room 6 = .ok (.ifCond .eq 7, 3) := dk_153 0 7 (dk_at dksX4_room_0 6 rfl rfl)
theorem dX4_room_9 : decode cX4_room 9 = .ok (.iconst 0, 1) := dk_3 (dk_at dksX4_room_0 9 rfl rfl)
theorem dX4_room_10 : decode cX4_room 10 = .ok (.goto 4, 3) := dk_167 0 4 (dk_at dksX4_room_0 10 rfl rfl)
theorem dX4_room_13 : decode cX4_room 13 = .ok (.iconst 1, 1) := dk_4 (dk_at dksX4_room_0 13 rfl rfl)
theorem dX4_room_14 : decode cX4_room 14 = .ok (.invokevirtual 67, 3) := dk_182 0 67 (dk_at dksX4_room_0 14 rfl rfl)
theorem dX4_room_17 : decode cX4_room 17 = .ok (.ifCond .eq 5, 3) := dk_153 0 5 (dk_at dksX4_room_0 17 rfl rfl)
theorem dX4_room_20 : decode cX4_room 20 = .ok (.iconst 0, 1) := dk_3 (dk_at dksX4_room_0 20 rfl rfl)
theorem dX4_room_21 : decode cX4_room 21 = .ok (.ireturn, 1) := dk_172 (dk_at dksX4_room_0 21 rfl rfl)
theorem dX4_room_22 : decode cX4_room 22 = .ok (.iconst (-1), 1) := dk_2 (dk_at dksX4_room_0 22 rfl rfl)
theorem dX4_room_23 : decode cX4_room 23 = .ok (.istore_n 2, 1) := dk_61 (dk_at dksX4_room_0 23 rfl rfl)
theorem dX4_room_24 : decode cX4_room 24 = .ok (.iconst 0, 1) := dk_3 (dk_at dksX4_room_1 0 rfl rfl)
theorem dX4_room_25 : decode cX4_room 25 = .ok (.istore_n 3, 1) := dk_62 (dk_at dksX4_room_1 1 rfl rfl)
theorem dX4_room_26 : decode cX4_room 26 = .ok (.iload_n 3, 1) := dk_29 (dk_at dksX4_room_1 2 rfl rfl)
theorem dX4_room_27 : decode cX4_room 27 = .ok (.iconst 2, 1) := dk_5 (dk_at dksX4_room_1 3 rfl rfl)
theorem dX4_room_28 : decode cX4_room 28 = .ok (.if_icmp .lt 24, 3) := dk_161 0 24 (dk_at dksX4_room_1 4 rfl rfl)
theorem dX4_room_31 : decode cX4_room 31 = .ok (.aload_n 0, 1) := dk_42 (dk_at dksX4_room_1 7 rfl rfl)
theorem dX4_room_32 : decode cX4_room 32 = .ok (.aload_n 0, 1) := dk_42 (dk_at dksX4_room_1 8 rfl rfl)
theorem dX4_room_33 : decode cX4_room 33 = .ok (.getfield 27, 3) := dk_180 0 27 (dk_at dksX4_room_1 9 rfl rfl)
theorem dX4_room_36 : decode cX4_room 36 = .ok (.iload_n 1, 1) := dk_27 (dk_at dksX4_room_1 12 rfl rfl)
theorem dX4_room_37 : decode cX4_room 37 = .ok (.iaload, 1) := dk_46 (dk_at dksX4_room_1 13 rfl rfl)
theorem dX4_room_38 : decode cX4_room 38 = .ok (.aload_n 0, 1) := dk_42 (dk_at dksX4_room_1 14 rfl rfl)
theorem dX4_room_39 : decode cX4_room 39 = .ok (.getfield 30, 3) := dk_180 0 30 (dk_at dksX4_room_1 15 rfl rfl)
theorem dX4_room_42 : decode cX4_room 42 = .ok (.iload_n 1, 1) := dk_27 (dk_at dksX4_room_1 18 rfl rfl)
theorem dX4_room_43 : decode cX4_room 43 = .ok (.iaload, 1) := dk_46 (dk_at dksX4_room_1 19 rfl rfl)
theorem dX4_room_44 : decode cX4_room 44 = .ok (.iload_n 3, 1) := dk_29 (dk_at dksX4_room_1 20 rfl rfl)
theorem dX4_room_45 : decode cX4_room 45 = .ok (.invokevirtual 125, 3) := dk_182 0 125 (dk_at dksX4_room_1 21 rfl rfl)
theorem dX4_room_48 : decode cX4_room 48 = .ok (.iconst (-1), 1) := dk_2 (dk_at dksX4_room_2 0 rfl rfl)
theorem dX4_room_49 : decode cX4_room 49 = .ok (.if_icmp .eq 124, 3) := dk_159 0 124 (dk_at dksX4_room_2 1 rfl rfl)
theorem dX4_room_52 : decode cX4_room 52 = .ok (.aload_n 0, 1) := dk_42 (dk_at dksX4_room_2 4 rfl rfl)
theorem dX4_room_53 : decode cX4_room 53 = .ok (.aload_n 0, 1) := dk_42 (dk_at dksX4_room_2 5 rfl rfl)
theorem dX4_room_54 : decode cX4_room 54 = .ok (.getfield 27, 3) := dk_180 0 27 (dk_at dksX4_room_2 6 rfl rfl)
theorem dX4_room_57 : decode cX4_room 57 = .ok (.iload_n 1, 1) := dk_27 (dk_at dksX4_room_2 9 rfl rfl)
theorem dX4_room_58 : decode cX4_room 58 = .ok (.iaload, 1) := dk_46 (dk_at dksX4_room_2 10 rfl rfl)
theorem dX4_room_59 : decode cX4_room 59 = .ok (.aload_n 0, 1) := dk_42 (dk_at dksX4_room_2 11 rfl rfl)
theorem dX4_room_60 : decode cX4_room 60 = .ok (.getfield 30, 3) := dk_180 0 30 (dk_at dksX4_room_2 12 rfl rfl)
theorem dX4_room_63 : decode cX4_room 63 = .ok (.iload_n 1, 1) := dk_27 (dk_at dksX4_room_2 15 rfl rfl)
theorem dX4_room_64 : decode cX4_room 64 = .ok (.iaload, 1) := dk_46 (dk_at dksX4_room_2 16 rfl rfl)
theorem dX4_room_65 : decode cX4_room 65 = .ok (.iload_n 3, 1) := dk_29 (dk_at dksX4_room_2 17 rfl rfl)
theorem dX4_room_66 : decode cX4_room 66 = .ok (.invokevirtual 125, 3) := dk_182 0 125 (dk_at dksX4_room_2 18 rfl rfl)
theorem dX4_room_69 : decode cX4_room 69 = .ok (.istore 4, 2) := dk_54 4 (dk_at dksX4_room_2 21 rfl rfl)
theorem dX4_room_71 : decode cX4_room 71 = .ok (.aload_n 0, 1) := dk_42 (dk_at dksX4_room_2 23 rfl rfl)
theorem dX4_room_72 : decode cX4_room 72 = .ok (.getfield 52, 3) := dk_180 0 52 (dk_at dksX4_room_3 0 rfl rfl)
theorem dX4_room_75 : decode cX4_room 75 = .ok (.iload 4, 2) := dk_21 4 (dk_at dksX4_room_3 3 rfl rfl)
theorem dX4_room_77 : decode cX4_room 77 = .ok (.iaload, 1) := dk_46 (dk_at dksX4_room_3 5 rfl rfl)
theorem dX4_room_78 : decode cX4_room 78 = .ok (.iconst (-1), 1) := dk_2 (dk_at dksX4_room_3 6 rfl rfl)
theorem dX4_room_79 : decode cX4_room 79 = .ok (.if_icmp .ne 7, 3) := dk_160 0 7 (dk_at dksX4_room_3 7 rfl rfl)
theorem dX4_room_82 : decode cX4_room 82 = .ok (.iconst (-1), 1) := dk_2 (dk_at dksX4_room_3 10 rfl rfl)
theorem dX4_room_83 : decode cX4_room 83 = .ok (.goto 21, 3) := dk_167 0 21 (dk_at dksX4_room_3 11 rfl rfl)
theorem dX4_room_86 : decode cX4_room 86 = .ok (.aload_n 0, 1) := dk_42 (dk_at dksX4_room_3 14 rfl rfl)
theorem dX4_room_87 : decode cX4_room 87 = .ok (.getfield 52, 3) := dk_180 0 52 (dk_at dksX4_room_3 15 rfl rfl)
theorem dX4_room_90 : decode cX4_room 90 = .ok (.iload 4, 2) := dk_21 4 (dk_at dksX4_room_3 18 rfl rfl)
theorem dX4_room_92 : decode cX4_room 92 = .ok (.iaload, 1) := dk_46 (dk_at dksX4_room_3 20 rfl rfl)
theorem dX4_room_93 : decode cX4_room 93 = .ok (.aload_n 0, 1) := dk_42 (dk_at dksX4_room_3 21 rfl rfl)
theorem dX4_room_94 : decode cX4_room 94 = .ok (.iload 4, 2) := dk_21 4 (dk_at dksX4_room_3 22 rfl rfl)
theorem dX4_room_96 : decode cX4_room 96 = .ok (.aload_n 0, 1) := dk_42 (dk_at dksX4_room_4 0 rfl rfl)
theorem dX4_room_97 : decode cX4_room 97 = .ok (.getfield 115, 3) := dk_180 0 115 (dk_at dksX4_room_4 1 rfl rfl)
theorem dX4_room_100 : decode cX4_room 100 = .ok (.invokevirtual 118, 3) := dk_182 0 118 (dk_at dksX4_room_4 4 rfl rfl)
theorem dX4_room_103 : decode cX4_room 103 = .ok (.isub, 1) := dk_100 (dk_at dksX4_room_4 7 rfl rfl)
theorem dX4_room_104 : decode cX4_room 104 = .ok (.istore 5, 2) := dk_54 5 (dk_at dksX4_room_4 8 rfl rfl)
theorem dX4_room_106 : decode cX4_room 106 = .ok (.aload_n 0, 1) := dk_42 (dk_at dksX4_room_4 10 rfl rfl)
theorem dX4_room_107 : decode cX4_room 107 = .ok (.iload 4, 2) := dk_21 4 (dk_at dksX4_room_4 11 rfl rfl)
theorem dX4_room_109 : decode cX4_room 109 = .ok (.invokevirtual 129, 3) := dk_182 0 129 (dk_at dksX4_room_4 13 rfl rfl)
theorem dX4_room_112 : decode cX4_room 112 = .ok (.ifCond .ne 19, 3) := dk_154 0 19 (dk_at dksX4_room_4 16 rfl rfl)
theorem dX4_room_115 : decode cX4_room 115 = .ok (.aload_n 0, 1) := dk_42 (dk_at dksX4_room_4 19 rfl rfl)
theorem dX4_room_116 : decode cX4_room 116 = .ok (.getfield 52, 3) := dk_180 0 52 (dk_at dksX4_room_4 20 rfl rfl)
theorem dX4_room_119 : decode cX4_room 119 = .ok (.iload 4, 2) := dk_21 4 (dk_at dksX4_room_5 0 rfl rfl)
theorem dX4_room_121 : decode cX4_room 121 = .ok (.iaload, 1) := dk_46 (dk_at dksX4_room_5 2 rfl rfl)
theorem dX4_room_122 : decode cX4_room 122 = .ok (.iconst (-1), 1) := dk_2 (dk_at dksX4_room_5 3 rfl rfl)
theorem dX4_room_123 : decode cX4_room 123 = .ok (.if_icmp .eq 12, 3) := dk_159 0 12 (dk_at dksX4_room_5 4 rfl rfl)
theorem dX4_room_126 : decode cX4_room 126 = .ok (.iload 5, 2) := dk_21 5 (dk_at dksX4_room_5 7 rfl rfl)
theorem dX4_room_128 : decode cX4_room 128 = .ok (.ifCond .ge 7, 3) := dk_156 0 7 (dk_at dksX4_room_5 9 rfl rfl)
theorem dX4_room_131 : decode cX4_room 131 = .ok (.iconst 0, 1) := dk_3 (dk_at dksX4_room_5 12 rfl rfl)
theorem dX4_room_132 : decode cX4_room 132 = .ok (.goto 5, 3) := dk_167 0 5 (dk_at dksX4_room_5 13 rfl rfl)
theorem dX4_room_135 : decode cX4_room 135 = .ok (.iload 5, 2) := dk_21 5 (dk_at dksX4_room_5 16 rfl rfl)
theorem dX4_room_137 : decode cX4_room 137 = .ok (.istore 5, 2) := dk_54 5 (dk_at dksX4_room_5 18 rfl rfl)
theorem dX4_room_139 : decode cX4_room 139 = .ok (.iload 5, 2) := dk_21 5 (dk_at dksX4_room_5 20 rfl rfl)
theorem dX4_room_141 : decode cX4_room 141 = .ok (.iconst (-1), 1) := dk_2 (dk_at dksX4_room_5 22 rfl rfl)
theorem dX4_room_142 : decode cX4_room 142 = .ok (.if_icmp .ne 7, 3) := dk_160 0 7 (dk_at dksX4_room_6 0 rfl rfl)
theorem dX4_room_145 : decode cX4_room 145 = .ok (.iload_n 2, 1) := dk_28 (dk_at dksX4_room_6 3 rfl rfl)
theorem dX4_room_146 : decode cX4_room 146 = .ok (.goto 20, 3) := dk_167 0 20 (dk_at dksX4_room_6 4 rfl rfl)
theorem dX4_room_149 : decode cX4_room 149 = .ok (.iload_n 2, 1) := dk_28 (dk_at dksX4_room_6 7 rfl rfl)
theorem dX4_room_150 : decode cX4_room 150 = .ok (.iconst (-1), 1) := dk_2 (dk_at dksX4_room_6 8 rfl rfl)
theorem dX4_room_151 : decode cX4_room 151 = .ok (.if_icmp .eq 9, 3) := dk_159 0 9 (dk_at dksX4_room_6 9 rfl rfl)
theorem dX4_room_154 : decode cX4_room 154 = .ok (.iload 5, 2) := dk_21 5 (dk_at dksX4_room_6 12 rfl rfl)
theorem dX4_room_156 : decode cX4_room 156 = .ok (.iload_n 2, 1) := dk_28 (dk_at dksX4_room_6 14 rfl rfl)
theorem dX4_room_157 : decode cX4_room 157 = .ok (.if_icmp .ge 8, 3) := dk_162 0 8 (dk_at dksX4_room_6 15 rfl rfl)
theorem dX4_room_160 : decode cX4_room 160 = .ok (.iload 5, 2) := dk_21 5 (dk_at dksX4_room_6 18 rfl rfl)
theorem dX4_room_162 : decode cX4_room 162 = .ok (.goto 4, 3) := dk_167 0 4 (dk_at dksX4_room_6 20 rfl rfl)
theorem dX4_room_165 : decode cX4_room 165 = .ok (.iload_n 2, 1) := dk_28 (dk_at dksX4_room_6 23 rfl rfl)
theorem dX4_room_166 : decode cX4_room 166 = .ok (.istore_n 2, 1) := dk_61 (dk_at dksX4_room_7 0 rfl rfl)
theorem dX4_room_167 : decode cX4_room 167 = .ok (.iinc 3 1, 3) := dk_132 3 1 (dk_at dksX4_room_7 1 rfl rfl)
theorem dX4_room_170 : decode cX4_room 170 = .ok (.goto (-144), 3) := dk_167 255 112 (dk_at dksX4_room_7 4 rfl rfl)
theorem dX4_room_173 : decode cX4_room 173 = .ok (.iload_n 2, 1) := dk_28 (dk_at dksX4_room_7 7 rfl rfl)
theorem dX4_room_174 : decode cX4_room 174 = .ok (.ireturn, 1) := dk_172 (dk_at dksX4_room_7 8 rfl rfl)
abbrev cX4_beginRecount : ByteArray := prog_7_method_45_code
def yX4_beginRecount : MethodName := ⟨RX4, "beginRecount", "()I"⟩
def dkwX4_beginRecount_0 : List UInt8 := [42, 4, 181, 0, 152, 42, 3, 181, 0, 156, 42, 42, 180, 0, 115, 182, 0, 71, 172]
abbrev dktX4_beginRecount_0 : List UInt8 := dkwX4_beginRecount_0 ++ []
theorem dksX4_beginRecount_0 : cX4_beginRecount.data.toList.drop 0 = dktX4_beginRecount_0 := by decide +kernel
theorem dX4_beginRecount_0 : decode cX4_beginRecount 0 = .ok (.aload_n 0, 1) := dk_42 (dk_at dksX4_beginRecount_0 0 rfl rfl)
theorem dX4_beginRecount_1 : decode cX4_beginRecount 1 = .ok (.iconst 1, 1) := dk_4 (dk_at dksX4_beginRecount_0 1 rfl rfl)
theorem dX4_beginRecount_2 : decode cX4_beginRecount 2 = .ok (.putfield 152, 3) := dk_181 0 152 (dk_at dksX4_beginRecount_0 2 rfl rfl)
theorem dX4_beginRecount_5 : decode cX4_beginRecount 5 = .ok (.aload_n 0, 1) := dk_42 (dk_at dksX4_beginRecount_0 5 rfl rfl)
theorem dX4_beginRecount_6 : decode cX4_beginRecount 6 = .ok (.iconst 0, 1) := dk_3 (dk_at dksX4_beginRecount_0 6 rfl rfl)
theorem dX4_beginRecount_7 : decode cX4_beginRecount 7 = .ok (.putfield 156, 3) := dk_181 0 156 (dk_at dksX4_beginRecount_0 7 rfl rfl)
theorem dX4_beginRecount_10 : decode cX4_beginRecount 10 = .ok (.aload_n 0, 1) := dk_42 (dk_at dksX4_beginRecount_0 10 rfl rfl)
theorem dX4_beginRecount_11 : decode cX4_beginRecount 11 = .ok (.aload_n 0, 1) := dk_42 (dk_at dksX4_beginRecount_0 11 rfl rfl)
theorem dX4_beginRecount_12 : decode cX4_beginRecount 12 = .ok (.getfield 115, 3) := dk_180 0 115 (dk_at dksX4_beginRecount_0 12 rfl rfl)
theorem dX4_beginRecount_15 : decode cX4_beginRecount 15 = .ok (.invokevirtual 71, 3) := dk_182 0 71 (dk_at dksX4_beginRecount_0 15 rfl rfl)
theorem dX4_beginRecount_18 : decode cX4_beginRecount 18 = .ok (.ireturn, 1) := dk_172 (dk_at dksX4_beginRecount_0 18 rfl rfl)
abbrev cX4_recount : ByteArray := prog_7_method_46_code
def yX4_recount : MethodName := ⟨RX4, "recount", "(I)I"⟩
def dkwX4_recount_3 : List UInt8 := [180, 0, 156, 100, 172]
abbrev dktX4_recount_3 : List UInt8 := dkwX4_recount_3 ++ []
def dkwX4_recount_2 : List UInt8 := [162, 0, 12, 42, 180, 0, 156, 27, 96, 167, 0, 7, 42, 180, 0, 115, 181, 0, 156, 42, 180, 0, 115, 42]
abbrev dktX4_recount_2 : List UInt8 := dkwX4_recount_2 ++ dktX4_recount_3
def dkwX4_recount_1 : List UInt8 := [167, 0, 4, 5, 182, 0, 67, 153, 0, 5, 3, 172, 42, 42, 180, 0, 156, 27, 96, 42, 180, 0, 115]
abbrev dktX4_recount_1 : List UInt8 := dkwX4_recount_1 ++ dktX4_recount_2
def dkwX4_recount_0 : List UInt8 := [42, 27, 4, 16, 40, 184, 0, 78, 154, 0, 7, 4, 167, 0, 15, 42, 180, 0, 152, 153, 0, 7, 3]
abbrev dktX4_recount_0 : List UInt8 := dkwX4_recount_0 ++ dktX4_recount_1
theorem dksX4_recount_0 : cX4_recount.data.toList.drop 0 = dktX4_recount_0 := by decide +kernel
theorem dksX4_recount_1 : cX4_recount.data.toList.drop 23 = dktX4_recount_1 := dk_seg dksX4_recount_0 23 rfl rfl
theorem dksX4_recount_2 : cX4_recount.data.toList.drop 46 = dktX4_recount_2 := dk_seg dksX4_recount_1 23 rfl rfl
theorem dksX4_recount_3 : cX4_recount.data.toList.drop 70 = dktX4_recount_3 := dk_seg dksX4_recount_2 24 rfl rfl
theorem dX4_recount_0 : decode cX4_recount 0 = .ok (.aload_n 0, 1) := dk_42 (dk_at dksX4_recount_0 0 rfl rfl)
theorem dX4_recount_1 : decode cX4_recount 1 = .ok (.iload_n 1, 1) := dk_27 (dk_at dksX4_recount_0 1 rfl rfl)
theorem dX4_recount_2 : decode cX4_recount 2 = .ok (.iconst 1, 1) := dk_4 (dk_at dksX4_recount_0 2 rfl rfl)
theorem dX4_recount_3 : decode cX4_recount 3 = .ok (.bipush 40, 2) := dk_16 40 (dk_at dksX4_recount_0 3 rfl rfl)
theorem dX4_recount_5 : decode cX4_recount 5 = .ok (.invokestatic 78, 3) := dk_184 0 78 (dk_at dksX4_recount_0 5 rfl rfl)
theorem dX4_recount_8 : decode cX4_recount 8 = .ok (.ifCond .ne 7, 3) := dk_154 0 7 (dk_at dksX4_recount_0 8 rfl rfl)
theorem dX4_recount_11 : decode cX4_recount 11 = .ok (.iconst 1, 1) := dk_4 (dk_at dksX4_recount_0 11 rfl rfl)
theorem dX4_recount_12 : decode cX4_recount 12 = .ok (.goto 15, 3) := dk_167 0 15 (dk_at dksX4_recount_0 12 rfl rfl)
theorem dX4_recount_15 : decode cX4_recount 15 = .ok (.aload_n 0, 1) := dk_42 (dk_at dksX4_recount_0 15 rfl rfl)
theorem dX4_recount_16 : decode cX4_recount 16 = .ok (.getfield 152, 3) := dk_180 0 152 (dk_at dksX4_recount_0 16 rfl rfl)
theorem dX4_recount_19 : decode cX4_recount 19 = .ok (.ifCond .eq 7, 3) := dk_153 0 7 (dk_at dksX4_recount_0 19 rfl rfl)
theorem dX4_recount_22 : decode cX4_recount 22 = .ok (.iconst 0, 1) := dk_3 (dk_at dksX4_recount_0 22 rfl rfl)
theorem dX4_recount_23 : decode cX4_recount 23 = .ok (.goto 4, 3) := dk_167 0 4 (dk_at dksX4_recount_1 0 rfl rfl)
theorem dX4_recount_26 : decode cX4_recount 26 = .ok (.iconst 2, 1) := dk_5 (dk_at dksX4_recount_1 3 rfl rfl)
theorem dX4_recount_27 : decode cX4_recount 27 = .ok (.invokevirtual 67, 3) := dk_182 0 67 (dk_at dksX4_recount_1 4 rfl rfl)
theorem dX4_recount_30 : decode cX4_recount 30 = .ok (.ifCond .eq 5, 3) := dk_153 0 5 (dk_at dksX4_recount_1 7 rfl rfl)
theorem dX4_recount_33 : decode cX4_recount 33 = .ok (.iconst 0, 1) := dk_3 (dk_at dksX4_recount_1 10 rfl rfl)
theorem dX4_recount_34 : decode cX4_recount 34 = .ok (.ireturn, 1) := dk_172 (dk_at dksX4_recount_1 11 rfl rfl)
theorem dX4_recount_35 : decode cX4_recount 35 = .ok (.aload_n 0, 1) := dk_42 (dk_at dksX4_recount_1 12 rfl rfl)
theorem dX4_recount_36 : decode cX4_recount 36 = .ok (.aload_n 0, 1) := dk_42 (dk_at dksX4_recount_1 13 rfl rfl)
theorem dX4_recount_37 : decode cX4_recount 37 = .ok (.getfield 156, 3) := dk_180 0 156 (dk_at dksX4_recount_1 14 rfl rfl)
theorem dX4_recount_40 : decode cX4_recount 40 = .ok (.iload_n 1, 1) := dk_27 (dk_at dksX4_recount_1 17 rfl rfl)
theorem dX4_recount_41 : decode cX4_recount 41 = .ok (.iadd, 1) := dk_96 (dk_at dksX4_recount_1 18 rfl rfl)
theorem dX4_recount_42 : decode cX4_recount 42 = .ok (.aload_n 0, 1) := dk_42 (dk_at dksX4_recount_1 19 rfl rfl)
theorem dX4_recount_43 : decode cX4_recount 43 = .ok (.getfield 115, 3) := dk_180 0 115 (dk_at dksX4_recount_1 20 rfl rfl)
theorem dX4_recount_46 : decode cX4_recount 46 = .ok (.if_icmp .ge 12, 3) := dk_162 0 12 (dk_at dksX4_recount_2 0 rfl rfl)
theorem dX4_recount_49 : decode cX4_recount 49 = .ok (.aload_n 0, 1) := dk_42 (dk_at dksX4_recount_2 3 rfl rfl)
theorem dX4_recount_50 : decode cX4_recount 50 = .ok (.getfield 156, 3) := dk_180 0 156 (dk_at dksX4_recount_2 4 rfl rfl)
theorem dX4_recount_53 : decode cX4_recount 53 = .ok (.iload_n 1, 1) := dk_27 (dk_at dksX4_recount_2 7 rfl rfl)
theorem dX4_recount_54 : decode cX4_recount 54 = .ok (.iadd, 1) := dk_96 (dk_at dksX4_recount_2 8 rfl rfl)
theorem dX4_recount_55 : decode cX4_recount 55 = .ok (.goto 7, 3) := dk_167 0 7 (dk_at dksX4_recount_2 9 rfl rfl)
theorem dX4_recount_58 : decode cX4_recount 58 = .ok (.aload_n 0, 1) := dk_42 (dk_at dksX4_recount_2 12 rfl rfl)
theorem dX4_recount_59 : decode cX4_recount 59 = .ok (.getfield 115, 3) := dk_180 0 115 (dk_at dksX4_recount_2 13 rfl rfl)
theorem dX4_recount_62 : decode cX4_recount 62 = .ok (.putfield 156, 3) := dk_181 0 156 (dk_at dksX4_recount_2 16 rfl rfl)
theorem dX4_recount_65 : decode cX4_recount 65 = .ok (.aload_n 0, 1) := dk_42 (dk_at dksX4_recount_2 19 rfl rfl)
theorem dX4_recount_66 : decode cX4_recount 66 = .ok (.getfield 115, 3) := dk_180 0 115 (dk_at dksX4_recount_2 20 rfl rfl)
theorem dX4_recount_69 : decode cX4_recount 69 = .ok (.aload_n 0, 1) := dk_42 (dk_at dksX4_recount_2 23 rfl rfl)
theorem dX4_recount_70 : decode cX4_recount 70 = .ok (.getfield 156, 3) := dk_180 0 156 (dk_at dksX4_recount_3 0 rfl rfl)
theorem dX4_recount_73 : decode cX4_recount 73 = .ok (.isub, 1) := dk_100 (dk_at dksX4_recount_3 3 rfl rfl)
theorem dX4_recount_74 : decode cX4_recount 74 = .ok (.ireturn, 1) := dk_172 (dk_at dksX4_recount_3 4 rfl rfl)
abbrev cX4_counted : ByteArray := prog_7_method_47_code
def yX4_counted : MethodName := ⟨RX4, "counted", "(II)I"⟩
def dkwX4_counted_2 : List UInt8 := [172]
abbrev dktX4_counted_2 : List UInt8 := dkwX4_counted_2 ++ []
def dkwX4_counted_1 : List UInt8 := [3, 167, 0, 4, 5, 182, 0, 67, 153, 0, 7, 3, 167, 0, 12, 42, 29, 42, 180, 0, 156, 182, 0, 118]
abbrev dktX4_counted_1 : List UInt8 := dkwX4_counted_1 ++ dktX4_counted_2
def dkwX4_counted_0 : List UInt8 := [42, 27, 28, 182, 0, 142, 62, 42, 29, 2, 160, 0, 7, 4, 167, 0, 15, 42, 180, 0, 152, 153, 0, 7]
abbrev dktX4_counted_0 : List UInt8 := dkwX4_counted_0 ++ dktX4_counted_1
theorem dksX4_counted_0 : cX4_counted.data.toList.drop 0 = dktX4_counted_0 := by decide +kernel
theorem dksX4_counted_1 : cX4_counted.data.toList.drop 24 = dktX4_counted_1 := dk_seg dksX4_counted_0 24 rfl rfl
theorem dksX4_counted_2 : cX4_counted.data.toList.drop 48 = dktX4_counted_2 := dk_seg dksX4_counted_1 24 rfl rfl
theorem dX4_counted_0 : decode cX4_counted 0 = .ok (.aload_n 0, 1) := dk_42 (dk_at dksX4_counted_0 0 rfl rfl)
theorem dX4_counted_1 : decode cX4_counted 1 = .ok (.iload_n 1, 1) := dk_27 (dk_at dksX4_counted_0 1 rfl rfl)
theorem dX4_counted_2 : decode cX4_counted 2 = .ok (.iload_n 2, 1) := dk_28 (dk_at dksX4_counted_0 2 rfl rfl)
theorem dX4_counted_3 : decode cX4_counted 3 = .ok (.invokevirtual 142, 3) := dk_182 0 142 (dk_at dksX4_counted_0 3 rfl rfl)
theorem dX4_counted_6 : decode cX4_counted 6 = .ok (.istore_n 3, 1) := dk_62 (dk_at dksX4_counted_0 6 rfl rfl)
theorem dX4_counted_7 : decode cX4_counted 7 = .ok (.aload_n 0, 1) := dk_42 (dk_at dksX4_counted_0 7 rfl rfl)
theorem dX4_counted_8 : decode cX4_counted 8 = .ok (.iload_n 3, 1) := dk_29 (dk_at dksX4_counted_0 8 rfl rfl)
theorem dX4_counted_9 : decode cX4_counted 9 = .ok (.iconst (-1), 1) := dk_2 (dk_at dksX4_counted_0 9 rfl rfl)
theorem dX4_counted_10 : decode cX4_counted 10 = .ok (.if_icmp .ne 7, 3) := dk_160 0 7 (dk_at dksX4_counted_0 10 rfl rfl)
theorem dX4_counted_13 : decode cX4_counted 13 = .ok (.iconst 1, 1) := dk_4 (dk_at dksX4_counted_0 13 rfl rfl)
theorem dX4_counted_14 : decode cX4_counted 14 = .ok (.goto 15, 3) := dk_167 0 15 (dk_at dksX4_counted_0 14 rfl rfl)
theorem dX4_counted_17 : decode cX4_counted 17 = .ok (.aload_n 0, 1) := dk_42 (dk_at dksX4_counted_0 17 rfl rfl)
theorem dX4_counted_18 : decode cX4_counted 18 = .ok (.getfield 152, 3) := dk_180 0 152 (dk_at dksX4_counted_0 18 rfl rfl)
theorem dX4_counted_21 : decode cX4_counted 21 = .ok (.ifCond .eq 7, 3) := dk_153 0 7 (dk_at dksX4_counted_0 21 rfl rfl)
theorem dX4_counted_24 : decode cX4_counted 24 = .ok (.iconst 0, 1) := dk_3 (dk_at dksX4_counted_1 0 rfl rfl)
theorem dX4_counted_25 : decode cX4_counted 25 = .ok (.goto 4, 3) := dk_167 0 4 (dk_at dksX4_counted_1 1 rfl rfl)
theorem dX4_counted_28 : decode cX4_counted 28 = .ok (.iconst 2, 1) := dk_5 (dk_at dksX4_counted_1 4 rfl rfl)
theorem dX4_counted_29 : decode cX4_counted 29 = .ok (.invokevirtual 67, 3) := dk_182 0 67 (dk_at dksX4_counted_1 5 rfl rfl)
theorem dX4_counted_32 : decode cX4_counted 32 = .ok (.ifCond .eq 7, 3) := dk_153 0 7 (dk_at dksX4_counted_1 8 rfl rfl)
theorem dX4_counted_35 : decode cX4_counted 35 = .ok (.iconst 0, 1) := dk_3 (dk_at dksX4_counted_1 11 rfl rfl)
theorem dX4_counted_36 : decode cX4_counted 36 = .ok (.goto 12, 3) := dk_167 0 12 (dk_at dksX4_counted_1 12 rfl rfl)
theorem dX4_counted_39 : decode cX4_counted 39 = .ok (.aload_n 0, 1) := dk_42 (dk_at dksX4_counted_1 15 rfl rfl)
theorem dX4_counted_40 : decode cX4_counted 40 = .ok (.iload_n 3, 1) := dk_29 (dk_at dksX4_counted_1 16 rfl rfl)
theorem dX4_counted_41 : decode cX4_counted 41 = .ok (.aload_n 0, 1) := dk_42 (dk_at dksX4_counted_1 17 rfl rfl)
theorem dX4_counted_42 : decode cX4_counted 42 = .ok (.getfield 156, 3) := dk_180 0 156 (dk_at dksX4_counted_1 18 rfl rfl)
theorem dX4_counted_45 : decode cX4_counted 45 = .ok (.invokevirtual 118, 3) := dk_182 0 118 (dk_at dksX4_counted_1 21 rfl rfl)
theorem dX4_counted_48 : decode cX4_counted 48 = .ok (.ireturn, 1) := dk_172 (dk_at dksX4_counted_2 0 rfl rfl)
theorem q50 : (Jvm.Cond.initialized "AllotmentLedgerModel") ∈ lw_all := lw_g (lw_at lw_m1 15 rfl) rfl
theorem q231 : (Jvm.Cond.selects "AllotmentLedgerModel" ({ cls := "java/lang/Object", name := "getClass", desc := "()Ljava/lang/Class;" } : Jvm.MethodName) ({ cls := "java/lang/Object", name := "getClass", desc := "()Ljava/lang/Class;" } : Jvm.MethodName)) ∈ lw_all := lw_g (lw_at lw_m1 196 rfl) rfl
theorem q1271 : (Jvm.Cond.instantiable "AllotmentLedgerModel" (23 : Nat)) ∈ lw_all := lw_g (lw_at lw_m6 36 rfl) rfl
theorem q1273 : (Jvm.Cond.instanceMethod ({ cls := "AllotmentLedgerModel", name := "<init>", desc := "()V" } : Jvm.MethodName)) ∈ lw_all := lw_g (lw_at lw_m6 38 rfl) rfl
theorem q1274 : (Jvm.Cond.code ({ cls := "AllotmentLedgerModel", name := "<init>", desc := "()V" } : Jvm.MethodName) prog_7_method_1_code (2 : Nat) (Option.none : Option Jvm.ClassFile.FieldType)) ∈ lw_all := lw_g (lw_at lw_m6 39 rfl) rfl
theorem q1275 : (Jvm.Cond.methodLink "AllotmentLedgerModel" (1 : Nat) ({ cls := "java/lang/Object", name := "<init>", desc := "()V" } : Jvm.MethodName)) ∈ lw_all := lw_g (lw_at lw_m6 40 rfl) rfl
theorem q1276 : (Jvm.Cond.fieldLink "AllotmentLedgerModel" (61 : Nat) "AllotmentLedgerModel" "refusal" "I") ∈ lw_all := lw_g (lw_at lw_m6 41 rfl) rfl
theorem q1277 : (Jvm.Cond.fieldLink "AllotmentLedgerModel" (122 : Nat) "AllotmentLedgerModel" "clock" "I") ∈ lw_all := lw_g (lw_at lw_m6 42 rfl) rfl
theorem q1278 : (Jvm.Cond.fieldLink "AllotmentLedgerModel" (7 : Nat) "AllotmentLedgerModel" "buffer" "[C") ∈ lw_all := lw_g (lw_at lw_m6 43 rfl) rfl
theorem q1279 : (Jvm.Cond.fieldLink "AllotmentLedgerModel" (64 : Nat) "AllotmentLedgerModel" "typed" "I") ∈ lw_all := lw_g (lw_at lw_m6 44 rfl) rfl
theorem q1280 : (Jvm.Cond.fieldLink "AllotmentLedgerModel" (13 : Nat) "AllotmentLedgerModel" "old" "[C") ∈ lw_all := lw_g (lw_at lw_m6 45 rfl) rfl
theorem q1281 : (Jvm.Cond.fieldLink "AllotmentLedgerModel" (16 : Nat) "AllotmentLedgerModel" "projects" "I") ∈ lw_all := lw_g (lw_at lw_m6 46 rfl) rfl
theorem q1282 : (Jvm.Cond.fieldLink "AllotmentLedgerModel" (20 : Nat) "AllotmentLedgerModel" "letters" "[C") ∈ lw_all := lw_g (lw_at lw_m6 47 rfl) rfl
theorem q1283 : (Jvm.Cond.fieldLink "AllotmentLedgerModel" (23 : Nat) "AllotmentLedgerModel" "lengths" "[I") ∈ lw_all := lw_g (lw_at lw_m6 48 rfl) rfl
theorem q1284 : (Jvm.Cond.fieldLink "AllotmentLedgerModel" (115 : Nat) "AllotmentLedgerModel" "files" "I") ∈ lw_all := lw_g (lw_at lw_m6 49 rfl) rfl
theorem q1285 : (Jvm.Cond.fieldLink "AllotmentLedgerModel" (27 : Nat) "AllotmentLedgerModel" "owners" "[I") ∈ lw_all := lw_g (lw_at lw_m6 50 rfl) rfl
theorem q1286 : (Jvm.Cond.fieldLink "AllotmentLedgerModel" (30 : Nat) "AllotmentLedgerModel" "places" "[I") ∈ lw_all := lw_g (lw_at lw_m6 51 rfl) rfl
theorem q1287 : (Jvm.Cond.fieldLink "AllotmentLedgerModel" (33 : Nat) "AllotmentLedgerModel" "blocksOf" "[I") ∈ lw_all := lw_g (lw_at lw_m6 52 rfl) rfl
theorem q1288 : (Jvm.Cond.fieldLink "AllotmentLedgerModel" (36 : Nat) "AllotmentLedgerModel" "isGone" "[Z") ∈ lw_all := lw_g (lw_at lw_m6 53 rfl) rfl
theorem q1289 : (Jvm.Cond.fieldLink "AllotmentLedgerModel" (106 : Nat) "AllotmentLedgerModel" "reservations" "I") ∈ lw_all := lw_g (lw_at lw_m6 54 rfl) rfl
theorem q1290 : (Jvm.Cond.fieldLink "AllotmentLedgerModel" (40 : Nat) "AllotmentLedgerModel" "fileOf" "[I") ∈ lw_all := lw_g (lw_at lw_m6 55 rfl) rfl
theorem q1291 : (Jvm.Cond.fieldLink "AllotmentLedgerModel" (43 : Nat) "AllotmentLedgerModel" "held" "[I") ∈ lw_all := lw_g (lw_at lw_m6 56 rfl) rfl
theorem q1292 : (Jvm.Cond.fieldLink "AllotmentLedgerModel" (46 : Nat) "AllotmentLedgerModel" "isOpen" "[Z") ∈ lw_all := lw_g (lw_at lw_m6 57 rfl) rfl
theorem q1293 : (Jvm.Cond.fieldLink "AllotmentLedgerModel" (49 : Nat) "AllotmentLedgerModel" "softs" "[I") ∈ lw_all := lw_g (lw_at lw_m6 58 rfl) rfl
theorem q1294 : (Jvm.Cond.fieldLink "AllotmentLedgerModel" (52 : Nat) "AllotmentLedgerModel" "hards" "[I") ∈ lw_all := lw_g (lw_at lw_m6 59 rfl) rfl
theorem q1295 : (Jvm.Cond.fieldLink "AllotmentLedgerModel" (55 : Nat) "AllotmentLedgerModel" "fileLimits" "[I") ∈ lw_all := lw_g (lw_at lw_m6 60 rfl) rfl
theorem q1296 : (Jvm.Cond.fieldLink "AllotmentLedgerModel" (58 : Nat) "AllotmentLedgerModel" "since" "[I") ∈ lw_all := lw_g (lw_at lw_m6 61 rfl) rfl
theorem q1297 : (Jvm.Cond.fieldLink "AllotmentLedgerModel" (152 : Nat) "AllotmentLedgerModel" "isCounting" "Z") ∈ lw_all := lw_g (lw_at lw_m6 62 rfl) rfl
theorem q1298 : (Jvm.Cond.fieldLink "AllotmentLedgerModel" (156 : Nat) "AllotmentLedgerModel" "taken" "I") ∈ lw_all := lw_g (lw_at lw_m6 63 rfl) rfl
theorem q1299 : (Jvm.Cond.lays "AllotmentLedgerModel" "AllotmentLedgerModel" "refusal" "I") ∈ lw_all := lw_g (lw_at lw_m6 64 rfl) rfl
theorem q1300 : (Jvm.Cond.soleField "AllotmentLedgerModel" "refusal") ∈ lw_all := lw_g (lw_at lw_m6 65 rfl) rfl
theorem q1301 : (Jvm.Cond.lays "AllotmentLedgerModel" "AllotmentLedgerModel" "clock" "I") ∈ lw_all := lw_g (lw_at lw_m6 66 rfl) rfl
theorem q1302 : (Jvm.Cond.soleField "AllotmentLedgerModel" "clock") ∈ lw_all := lw_g (lw_at lw_m6 67 rfl) rfl
theorem q1303 : (Jvm.Cond.laysFinal "AllotmentLedgerModel" "AllotmentLedgerModel" "buffer" "[C") ∈ lw_all := lw_g (lw_at lw_m6 68 rfl) rfl
theorem q1304 : (Jvm.Cond.soleField "AllotmentLedgerModel" "buffer") ∈ lw_all := lw_g (lw_at lw_m6 69 rfl) rfl
theorem q1305 : (Jvm.Cond.lays "AllotmentLedgerModel" "AllotmentLedgerModel" "typed" "I") ∈ lw_all := lw_g (lw_at lw_m6 70 rfl) rfl
theorem q1306 : (Jvm.Cond.soleField "AllotmentLedgerModel" "typed") ∈ lw_all := lw_g (lw_at lw_m6 71 rfl) rfl
theorem q1307 : (Jvm.Cond.laysFinal "AllotmentLedgerModel" "AllotmentLedgerModel" "old" "[C") ∈ lw_all := lw_g (lw_at lw_m6 72 rfl) rfl
theorem q1308 : (Jvm.Cond.soleField "AllotmentLedgerModel" "old") ∈ lw_all := lw_g (lw_at lw_m6 73 rfl) rfl
theorem q1309 : (Jvm.Cond.lays "AllotmentLedgerModel" "AllotmentLedgerModel" "projects" "I") ∈ lw_all := lw_g (lw_at lw_m6 74 rfl) rfl
theorem q1310 : (Jvm.Cond.soleField "AllotmentLedgerModel" "projects") ∈ lw_all := lw_g (lw_at lw_m6 75 rfl) rfl
theorem q1311 : (Jvm.Cond.laysFinal "AllotmentLedgerModel" "AllotmentLedgerModel" "letters" "[C") ∈ lw_all := lw_g (lw_at lw_m6 76 rfl) rfl
theorem q1312 : (Jvm.Cond.soleField "AllotmentLedgerModel" "letters") ∈ lw_all := lw_g (lw_at lw_m6 77 rfl) rfl
theorem q1313 : (Jvm.Cond.laysFinal "AllotmentLedgerModel" "AllotmentLedgerModel" "lengths" "[I") ∈ lw_all := lw_g (lw_at lw_m6 78 rfl) rfl
theorem q1314 : (Jvm.Cond.soleField "AllotmentLedgerModel" "lengths") ∈ lw_all := lw_g (lw_at lw_m6 79 rfl) rfl
theorem q1315 : (Jvm.Cond.lays "AllotmentLedgerModel" "AllotmentLedgerModel" "files" "I") ∈ lw_all := lw_g (lw_at lw_m6 80 rfl) rfl
theorem q1316 : (Jvm.Cond.soleField "AllotmentLedgerModel" "files") ∈ lw_all := lw_g (lw_at lw_m6 81 rfl) rfl
theorem q1317 : (Jvm.Cond.laysFinal "AllotmentLedgerModel" "AllotmentLedgerModel" "owners" "[I") ∈ lw_all := lw_g (lw_at lw_m6 82 rfl) rfl
theorem q1318 : (Jvm.Cond.soleField "AllotmentLedgerModel" "owners") ∈ lw_all := lw_g (lw_at lw_m6 83 rfl) rfl
theorem q1319 : (Jvm.Cond.laysFinal "AllotmentLedgerModel" "AllotmentLedgerModel" "places" "[I") ∈ lw_all := lw_g (lw_at lw_m6 84 rfl) rfl
theorem q1320 : (Jvm.Cond.soleField "AllotmentLedgerModel" "places") ∈ lw_all := lw_g (lw_at lw_m6 85 rfl) rfl
theorem q1321 : (Jvm.Cond.laysFinal "AllotmentLedgerModel" "AllotmentLedgerModel" "blocksOf" "[I") ∈ lw_all := lw_g (lw_at lw_m6 86 rfl) rfl
theorem q1322 : (Jvm.Cond.soleField "AllotmentLedgerModel" "blocksOf") ∈ lw_all := lw_g (lw_at lw_m6 87 rfl) rfl
theorem q1323 : (Jvm.Cond.laysFinal "AllotmentLedgerModel" "AllotmentLedgerModel" "isGone" "[Z") ∈ lw_all := lw_g (lw_at lw_m6 88 rfl) rfl
theorem q1324 : (Jvm.Cond.soleField "AllotmentLedgerModel" "isGone") ∈ lw_all := lw_g (lw_at lw_m6 89 rfl) rfl
theorem q1325 : (Jvm.Cond.lays "AllotmentLedgerModel" "AllotmentLedgerModel" "reservations" "I") ∈ lw_all := lw_g (lw_at lw_m6 90 rfl) rfl
theorem q1326 : (Jvm.Cond.soleField "AllotmentLedgerModel" "reservations") ∈ lw_all := lw_g (lw_at lw_m6 91 rfl) rfl
theorem q1327 : (Jvm.Cond.laysFinal "AllotmentLedgerModel" "AllotmentLedgerModel" "fileOf" "[I") ∈ lw_all := lw_g (lw_at lw_m6 92 rfl) rfl
theorem q1328 : (Jvm.Cond.soleField "AllotmentLedgerModel" "fileOf") ∈ lw_all := lw_g (lw_at lw_m6 93 rfl) rfl
theorem q1329 : (Jvm.Cond.laysFinal "AllotmentLedgerModel" "AllotmentLedgerModel" "held" "[I") ∈ lw_all := lw_g (lw_at lw_m6 94 rfl) rfl
theorem q1330 : (Jvm.Cond.soleField "AllotmentLedgerModel" "held") ∈ lw_all := lw_g (lw_at lw_m6 95 rfl) rfl
theorem q1331 : (Jvm.Cond.laysFinal "AllotmentLedgerModel" "AllotmentLedgerModel" "isOpen" "[Z") ∈ lw_all := lw_g (lw_at lw_m6 96 rfl) rfl
theorem q1332 : (Jvm.Cond.soleField "AllotmentLedgerModel" "isOpen") ∈ lw_all := lw_g (lw_at lw_m6 97 rfl) rfl
theorem q1333 : (Jvm.Cond.laysFinal "AllotmentLedgerModel" "AllotmentLedgerModel" "softs" "[I") ∈ lw_all := lw_g (lw_at lw_m6 98 rfl) rfl
theorem q1334 : (Jvm.Cond.soleField "AllotmentLedgerModel" "softs") ∈ lw_all := lw_g (lw_at lw_m6 99 rfl) rfl
theorem q1335 : (Jvm.Cond.laysFinal "AllotmentLedgerModel" "AllotmentLedgerModel" "hards" "[I") ∈ lw_all := lw_g (lw_at lw_m6 100 rfl) rfl
theorem q1336 : (Jvm.Cond.soleField "AllotmentLedgerModel" "hards") ∈ lw_all := lw_g (lw_at lw_m6 101 rfl) rfl
theorem q1337 : (Jvm.Cond.laysFinal "AllotmentLedgerModel" "AllotmentLedgerModel" "fileLimits" "[I") ∈ lw_all := lw_g (lw_at lw_m6 102 rfl) rfl
theorem q1338 : (Jvm.Cond.soleField "AllotmentLedgerModel" "fileLimits") ∈ lw_all := lw_g (lw_at lw_m6 103 rfl) rfl
theorem q1339 : (Jvm.Cond.laysFinal "AllotmentLedgerModel" "AllotmentLedgerModel" "since" "[I") ∈ lw_all := lw_g (lw_at lw_m6 104 rfl) rfl
theorem q1340 : (Jvm.Cond.soleField "AllotmentLedgerModel" "since") ∈ lw_all := lw_g (lw_at lw_m6 105 rfl) rfl
theorem q1341 : (Jvm.Cond.lays "AllotmentLedgerModel" "AllotmentLedgerModel" "isCounting" "Z") ∈ lw_all := lw_g (lw_at lw_m6 106 rfl) rfl
theorem q1342 : (Jvm.Cond.soleField "AllotmentLedgerModel" "isCounting") ∈ lw_all := lw_g (lw_at lw_m6 107 rfl) rfl
theorem q1343 : (Jvm.Cond.lays "AllotmentLedgerModel" "AllotmentLedgerModel" "taken" "I") ∈ lw_all := lw_g (lw_at lw_m6 108 rfl) rfl
theorem q1344 : (Jvm.Cond.soleField "AllotmentLedgerModel" "taken") ∈ lw_all := lw_g (lw_at lw_m6 109 rfl) rfl
theorem q1345 : (Jvm.Cond.superclass "AllotmentLedgerModel" "java/lang/Object") ∈ lw_all := lw_g (lw_at lw_m6 110 rfl) rfl
theorem q1350 : (Jvm.Cond.instanceMethod ({ cls := "AllotmentLedgerModel", name := "thrown", desc := "()I" } : Jvm.MethodName)) ∈ lw_all := lw_g (lw_at lw_m6 115 rfl) rfl
theorem q1351 : (Jvm.Cond.selects "AllotmentLedgerModel" ({ cls := "AllotmentLedgerModel", name := "thrown", desc := "()I" } : Jvm.MethodName) ({ cls := "AllotmentLedgerModel", name := "thrown", desc := "()I" } : Jvm.MethodName)) ∈ lw_all := lw_g (lw_at lw_m6 116 rfl) rfl
theorem q1352 : (Jvm.Cond.code ({ cls := "AllotmentLedgerModel", name := "thrown", desc := "()I" } : Jvm.MethodName) prog_7_method_2_code (1 : Nat) (Option.some Jvm.ClassFile.FieldType.int)) ∈ lw_all := lw_g (lw_at lw_m6 117 rfl) rfl
theorem q1354 : (Jvm.Cond.instanceMethod ({ cls := "AllotmentLedgerModel", name := "type", desc := "(C)I" } : Jvm.MethodName)) ∈ lw_all := lw_g (lw_at lw_m6 119 rfl) rfl
theorem q1355 : (Jvm.Cond.selects "AllotmentLedgerModel" ({ cls := "AllotmentLedgerModel", name := "type", desc := "(C)I" } : Jvm.MethodName) ({ cls := "AllotmentLedgerModel", name := "type", desc := "(C)I" } : Jvm.MethodName)) ∈ lw_all := lw_g (lw_at lw_m6 120 rfl) rfl
theorem q1356 : (Jvm.Cond.code ({ cls := "AllotmentLedgerModel", name := "type", desc := "(C)I" } : Jvm.MethodName) prog_7_method_6_code (2 : Nat) (Option.some Jvm.ClassFile.FieldType.int)) ∈ lw_all := lw_g (lw_at lw_m6 121 rfl) rfl
theorem q1357 : (Jvm.Cond.methodLink "AllotmentLedgerModel" (67 : Nat) ({ cls := "AllotmentLedgerModel", name := "refused", desc := "(I)Z" } : Jvm.MethodName)) ∈ lw_all := lw_g (lw_at lw_m6 122 rfl) rfl
theorem q1358 : (Jvm.Cond.privateMethod ({ cls := "AllotmentLedgerModel", name := "refused", desc := "(I)Z" } : Jvm.MethodName)) ∈ lw_tbl := lw_at lw_m6 123 rfl
theorem q1359 : (Jvm.Cond.instanceMethod ({ cls := "AllotmentLedgerModel", name := "refused", desc := "(I)Z" } : Jvm.MethodName)) ∈ lw_all := lw_g (lw_at lw_m6 124 rfl) rfl
theorem q1360 : (Jvm.Cond.code ({ cls := "AllotmentLedgerModel", name := "refused", desc := "(I)Z" } : Jvm.MethodName) prog_7_method_3_code (2 : Nat) (Option.some Jvm.ClassFile.FieldType.boolean)) ∈ lw_all := lw_g (lw_at lw_m6 125 rfl) rfl
theorem q1362 : (Jvm.Cond.instanceMethod ({ cls := "AllotmentLedgerModel", name := "back", desc := "()I" } : Jvm.MethodName)) ∈ lw_all := lw_g (lw_at lw_m6 127 rfl) rfl
theorem q1363 : (Jvm.Cond.selects "AllotmentLedgerModel" ({ cls := "AllotmentLedgerModel", name := "back", desc := "()I" } : Jvm.MethodName) ({ cls := "AllotmentLedgerModel", name := "back", desc := "()I" } : Jvm.MethodName)) ∈ lw_all := lw_g (lw_at lw_m6 128 rfl) rfl
theorem q1364 : (Jvm.Cond.code ({ cls := "AllotmentLedgerModel", name := "back", desc := "()I" } : Jvm.MethodName) prog_7_method_7_code (1 : Nat) (Option.some Jvm.ClassFile.FieldType.int)) ∈ lw_all := lw_g (lw_at lw_m6 129 rfl) rfl
theorem q1366 : (Jvm.Cond.instanceMethod ({ cls := "AllotmentLedgerModel", name := "clearPath", desc := "()I" } : Jvm.MethodName)) ∈ lw_all := lw_g (lw_at lw_m6 131 rfl) rfl
theorem q1367 : (Jvm.Cond.selects "AllotmentLedgerModel" ({ cls := "AllotmentLedgerModel", name := "clearPath", desc := "()I" } : Jvm.MethodName) ({ cls := "AllotmentLedgerModel", name := "clearPath", desc := "()I" } : Jvm.MethodName)) ∈ lw_all := lw_g (lw_at lw_m6 132 rfl) rfl
theorem q1368 : (Jvm.Cond.code ({ cls := "AllotmentLedgerModel", name := "clearPath", desc := "()I" } : Jvm.MethodName) prog_7_method_8_code (2 : Nat) (Option.some Jvm.ClassFile.FieldType.int)) ∈ lw_all := lw_g (lw_at lw_m6 133 rfl) rfl
theorem q1369 : (Jvm.Cond.methodLink "AllotmentLedgerModel" (71 : Nat) ({ cls := "AllotmentLedgerModel", name := "fine", desc := "(I)I" } : Jvm.MethodName)) ∈ lw_all := lw_g (lw_at lw_m6 134 rfl) rfl
theorem q1370 : (Jvm.Cond.privateMethod ({ cls := "AllotmentLedgerModel", name := "fine", desc := "(I)I" } : Jvm.MethodName)) ∈ lw_tbl := lw_at lw_m6 135 rfl
theorem q1371 : (Jvm.Cond.instanceMethod ({ cls := "AllotmentLedgerModel", name := "fine", desc := "(I)I" } : Jvm.MethodName)) ∈ lw_all := lw_g (lw_at lw_m6 136 rfl) rfl
theorem q1372 : (Jvm.Cond.code ({ cls := "AllotmentLedgerModel", name := "fine", desc := "(I)I" } : Jvm.MethodName) prog_7_method_4_code (2 : Nat) (Option.some Jvm.ClassFile.FieldType.int)) ∈ lw_all := lw_g (lw_at lw_m6 137 rfl) rfl
theorem q1374 : (Jvm.Cond.instanceMethod ({ cls := "AllotmentLedgerModel", name := "makeProject", desc := "()I" } : Jvm.MethodName)) ∈ lw_all := lw_g (lw_at lw_m6 139 rfl) rfl
theorem q1375 : (Jvm.Cond.selects "AllotmentLedgerModel" ({ cls := "AllotmentLedgerModel", name := "makeProject", desc := "()I" } : Jvm.MethodName) ({ cls := "AllotmentLedgerModel", name := "makeProject", desc := "()I" } : Jvm.MethodName)) ∈ lw_all := lw_g (lw_at lw_m6 140 rfl) rfl
theorem q1376 : (Jvm.Cond.code ({ cls := "AllotmentLedgerModel", name := "makeProject", desc := "()I" } : Jvm.MethodName) prog_7_method_10_code (2 : Nat) (Option.some Jvm.ClassFile.FieldType.int)) ∈ lw_all := lw_g (lw_at lw_m6 141 rfl) rfl
theorem q1377 : (Jvm.Cond.methodLink "AllotmentLedgerModel" (75 : Nat) ({ cls := "AllotmentLedgerModel", name := "find", desc := "(I)I" } : Jvm.MethodName)) ∈ lw_all := lw_g (lw_at lw_m6 142 rfl) rfl
theorem q1378 : (Jvm.Cond.privateMethod ({ cls := "AllotmentLedgerModel", name := "find", desc := "(I)I" } : Jvm.MethodName)) ∈ lw_tbl := lw_at lw_m6 143 rfl
theorem q1379 : (Jvm.Cond.instanceMethod ({ cls := "AllotmentLedgerModel", name := "find", desc := "(I)I" } : Jvm.MethodName)) ∈ lw_all := lw_g (lw_at lw_m6 144 rfl) rfl
theorem q1380 : (Jvm.Cond.code ({ cls := "AllotmentLedgerModel", name := "find", desc := "(I)I" } : Jvm.MethodName) prog_7_method_9_code (6 : Nat) (Option.some Jvm.ClassFile.FieldType.int)) ∈ lw_all := lw_g (lw_at lw_m6 145 rfl) rfl
theorem q1382 : (Jvm.Cond.instanceMethod ({ cls := "AllotmentLedgerModel", name := "findProject", desc := "()I" } : Jvm.MethodName)) ∈ lw_all := lw_g (lw_at lw_m6 147 rfl) rfl
theorem q1383 : (Jvm.Cond.selects "AllotmentLedgerModel" ({ cls := "AllotmentLedgerModel", name := "findProject", desc := "()I" } : Jvm.MethodName) ({ cls := "AllotmentLedgerModel", name := "findProject", desc := "()I" } : Jvm.MethodName)) ∈ lw_all := lw_g (lw_at lw_m6 148 rfl) rfl
theorem q1384 : (Jvm.Cond.code ({ cls := "AllotmentLedgerModel", name := "findProject", desc := "()I" } : Jvm.MethodName) prog_7_method_11_code (1 : Nat) (Option.some Jvm.ClassFile.FieldType.int)) ∈ lw_all := lw_g (lw_at lw_m6 149 rfl) rfl
theorem q1386 : (Jvm.Cond.instanceMethod ({ cls := "AllotmentLedgerModel", name := "moveProject", desc := "(I)I" } : Jvm.MethodName)) ∈ lw_all := lw_g (lw_at lw_m6 151 rfl) rfl
theorem q1387 : (Jvm.Cond.selects "AllotmentLedgerModel" ({ cls := "AllotmentLedgerModel", name := "moveProject", desc := "(I)I" } : Jvm.MethodName) ({ cls := "AllotmentLedgerModel", name := "moveProject", desc := "(I)I" } : Jvm.MethodName)) ∈ lw_all := lw_g (lw_at lw_m6 152 rfl) rfl
theorem q1388 : (Jvm.Cond.code ({ cls := "AllotmentLedgerModel", name := "moveProject", desc := "(I)I" } : Jvm.MethodName) prog_7_method_17_code (7 : Nat) (Option.some Jvm.ClassFile.FieldType.int)) ∈ lw_all := lw_g (lw_at lw_m6 153 rfl) rfl
theorem q1389 : (Jvm.Cond.methodLink "AllotmentLedgerModel" (93 : Nat) ({ cls := "AllotmentLedgerModel", name := "isProject", desc := "(I)Z" } : Jvm.MethodName)) ∈ lw_all := lw_g (lw_at lw_m6 154 rfl) rfl
theorem q1390 : (Jvm.Cond.privateMethod ({ cls := "AllotmentLedgerModel", name := "isProject", desc := "(I)Z" } : Jvm.MethodName)) ∈ lw_tbl := lw_at lw_m6 155 rfl
theorem q1391 : (Jvm.Cond.instanceMethod ({ cls := "AllotmentLedgerModel", name := "isProject", desc := "(I)Z" } : Jvm.MethodName)) ∈ lw_all := lw_g (lw_at lw_m6 156 rfl) rfl
theorem q1392 : (Jvm.Cond.code ({ cls := "AllotmentLedgerModel", name := "isProject", desc := "(I)Z" } : Jvm.MethodName) prog_7_method_12_code (2 : Nat) (Option.some Jvm.ClassFile.FieldType.boolean)) ∈ lw_all := lw_g (lw_at lw_m6 157 rfl) rfl
theorem q1393 : (Jvm.Cond.methodLink "AllotmentLedgerModel" (78 : Nat) ({ cls := "AllotmentLedgerModel", name := "in", desc := "(III)Z" } : Jvm.MethodName)) ∈ lw_all := lw_g (lw_at lw_m6 158 rfl) rfl
theorem q1394 : (Jvm.Cond.static ({ cls := "AllotmentLedgerModel", name := "in", desc := "(III)Z" } : Jvm.MethodName)) ∈ lw_all := lw_g (lw_at lw_m6 159 rfl) rfl
theorem q1395 : (Jvm.Cond.code ({ cls := "AllotmentLedgerModel", name := "in", desc := "(III)Z" } : Jvm.MethodName) prog_7_method_5_code (3 : Nat) (Option.some Jvm.ClassFile.FieldType.boolean)) ∈ lw_all := lw_g (lw_at lw_m6 160 rfl) rfl
theorem q1396 : (Jvm.Cond.methodLink "AllotmentLedgerModel" (96 : Nat) ({ cls := "AllotmentLedgerModel", name := "canMove", desc := "(I)Z" } : Jvm.MethodName)) ∈ lw_all := lw_g (lw_at lw_m6 161 rfl) rfl
theorem q1397 : (Jvm.Cond.privateMethod ({ cls := "AllotmentLedgerModel", name := "canMove", desc := "(I)Z" } : Jvm.MethodName)) ∈ lw_tbl := lw_at lw_m6 162 rfl
theorem q1398 : (Jvm.Cond.instanceMethod ({ cls := "AllotmentLedgerModel", name := "canMove", desc := "(I)Z" } : Jvm.MethodName)) ∈ lw_all := lw_g (lw_at lw_m6 163 rfl) rfl
theorem q1399 : (Jvm.Cond.code ({ cls := "AllotmentLedgerModel", name := "canMove", desc := "(I)Z" } : Jvm.MethodName) prog_7_method_16_code (5 : Nat) (Option.some Jvm.ClassFile.FieldType.boolean)) ∈ lw_all := lw_g (lw_at lw_m6 164 rfl) rfl
theorem q1400 : (Jvm.Cond.methodLink "AllotmentLedgerModel" (82 : Nat) ({ cls := "AllotmentLedgerModel", name := "isWithin", desc := "(II)Z" } : Jvm.MethodName)) ∈ lw_all := lw_g (lw_at lw_m6 165 rfl) rfl
theorem q1401 : (Jvm.Cond.privateMethod ({ cls := "AllotmentLedgerModel", name := "isWithin", desc := "(II)Z" } : Jvm.MethodName)) ∈ lw_tbl := lw_at lw_m6 166 rfl
theorem q1402 : (Jvm.Cond.instanceMethod ({ cls := "AllotmentLedgerModel", name := "isWithin", desc := "(II)Z" } : Jvm.MethodName)) ∈ lw_all := lw_g (lw_at lw_m6 167 rfl) rfl
theorem q1403 : (Jvm.Cond.code ({ cls := "AllotmentLedgerModel", name := "isWithin", desc := "(II)Z" } : Jvm.MethodName) prog_7_method_13_code (5 : Nat) (Option.some Jvm.ClassFile.FieldType.boolean)) ∈ lw_all := lw_g (lw_at lw_m6 168 rfl) rfl
theorem q1404 : (Jvm.Cond.methodLink "AllotmentLedgerModel" (86 : Nat) ({ cls := "AllotmentLedgerModel", name := "child", desc := "(IC)I" } : Jvm.MethodName)) ∈ lw_all := lw_g (lw_at lw_m6 169 rfl) rfl
theorem q1405 : (Jvm.Cond.privateMethod ({ cls := "AllotmentLedgerModel", name := "child", desc := "(IC)I" } : Jvm.MethodName)) ∈ lw_tbl := lw_at lw_m6 170 rfl
theorem q1406 : (Jvm.Cond.instanceMethod ({ cls := "AllotmentLedgerModel", name := "child", desc := "(IC)I" } : Jvm.MethodName)) ∈ lw_all := lw_g (lw_at lw_m6 171 rfl) rfl
theorem q1407 : (Jvm.Cond.code ({ cls := "AllotmentLedgerModel", name := "child", desc := "(IC)I" } : Jvm.MethodName) prog_7_method_15_code (6 : Nat) (Option.some Jvm.ClassFile.FieldType.int)) ∈ lw_all := lw_g (lw_at lw_m6 172 rfl) rfl
theorem q1408 : (Jvm.Cond.methodLink "AllotmentLedgerModel" (90 : Nat) ({ cls := "AllotmentLedgerModel", name := "deepest", desc := "(I)I" } : Jvm.MethodName)) ∈ lw_all := lw_g (lw_at lw_m6 173 rfl) rfl
theorem q1409 : (Jvm.Cond.privateMethod ({ cls := "AllotmentLedgerModel", name := "deepest", desc := "(I)I" } : Jvm.MethodName)) ∈ lw_tbl := lw_at lw_m6 174 rfl
theorem q1410 : (Jvm.Cond.instanceMethod ({ cls := "AllotmentLedgerModel", name := "deepest", desc := "(I)I" } : Jvm.MethodName)) ∈ lw_all := lw_g (lw_at lw_m6 175 rfl) rfl
theorem q1411 : (Jvm.Cond.code ({ cls := "AllotmentLedgerModel", name := "deepest", desc := "(I)I" } : Jvm.MethodName) prog_7_method_14_code (4 : Nat) (Option.some Jvm.ClassFile.FieldType.int)) ∈ lw_all := lw_g (lw_at lw_m6 176 rfl) rfl
theorem q1412 : (Jvm.Cond.methodLink "AllotmentLedgerModel" (99 : Nat) ({ cls := "AllotmentLedgerModel", name := "lead", desc := "(II)V" } : Jvm.MethodName)) ∈ lw_all := lw_g (lw_at lw_m6 177 rfl) rfl
theorem q1413 : (Jvm.Cond.privateMethod ({ cls := "AllotmentLedgerModel", name := "lead", desc := "(II)V" } : Jvm.MethodName)) ∈ lw_tbl := lw_at lw_m6 178 rfl
theorem q1414 : (Jvm.Cond.instanceMethod ({ cls := "AllotmentLedgerModel", name := "lead", desc := "(II)V" } : Jvm.MethodName)) ∈ lw_all := lw_g (lw_at lw_m6 179 rfl) rfl
theorem q1415 : (Jvm.Cond.code ({ cls := "AllotmentLedgerModel", name := "lead", desc := "(II)V" } : Jvm.MethodName) prog_7_method_18_code (5 : Nat) (Option.none : Option Jvm.ClassFile.FieldType)) ∈ lw_all := lw_g (lw_at lw_m6 180 rfl) rfl
theorem q1416 : (Jvm.Cond.methodLink "AllotmentLedgerModel" (103 : Nat) ({ cls := "AllotmentLedgerModel", name := "look", desc := "()V" } : Jvm.MethodName)) ∈ lw_all := lw_g (lw_at lw_m6 181 rfl) rfl
theorem q1417 : (Jvm.Cond.privateMethod ({ cls := "AllotmentLedgerModel", name := "look", desc := "()V" } : Jvm.MethodName)) ∈ lw_tbl := lw_at lw_m6 182 rfl
theorem q1418 : (Jvm.Cond.instanceMethod ({ cls := "AllotmentLedgerModel", name := "look", desc := "()V" } : Jvm.MethodName)) ∈ lw_all := lw_g (lw_at lw_m6 183 rfl) rfl
theorem q1419 : (Jvm.Cond.code ({ cls := "AllotmentLedgerModel", name := "look", desc := "()V" } : Jvm.MethodName) prog_7_method_26_code (3 : Nat) (Option.none : Option Jvm.ClassFile.FieldType)) ∈ lw_all := lw_g (lw_at lw_m6 184 rfl) rfl
theorem q1420 : (Jvm.Cond.methodLink "AllotmentLedgerModel" (118 : Nat) ({ cls := "AllotmentLedgerModel", name := "sum", desc := "(II)I" } : Jvm.MethodName)) ∈ lw_all := lw_g (lw_at lw_m6 185 rfl) rfl
theorem q1421 : (Jvm.Cond.privateMethod ({ cls := "AllotmentLedgerModel", name := "sum", desc := "(II)I" } : Jvm.MethodName)) ∈ lw_tbl := lw_at lw_m6 186 rfl
theorem q1422 : (Jvm.Cond.instanceMethod ({ cls := "AllotmentLedgerModel", name := "sum", desc := "(II)I" } : Jvm.MethodName)) ∈ lw_all := lw_g (lw_at lw_m6 187 rfl) rfl
theorem q1423 : (Jvm.Cond.code ({ cls := "AllotmentLedgerModel", name := "sum", desc := "(II)I" } : Jvm.MethodName) prog_7_method_24_code (5 : Nat) (Option.some Jvm.ClassFile.FieldType.int)) ∈ lw_all := lw_g (lw_at lw_m6 188 rfl) rfl
theorem q1424 : (Jvm.Cond.methodLink "AllotmentLedgerModel" (109 : Nat) ({ cls := "AllotmentLedgerModel", name := "counts", desc := "(II)Z" } : Jvm.MethodName)) ∈ lw_all := lw_g (lw_at lw_m6 189 rfl) rfl
theorem q1425 : (Jvm.Cond.privateMethod ({ cls := "AllotmentLedgerModel", name := "counts", desc := "(II)Z" } : Jvm.MethodName)) ∈ lw_tbl := lw_at lw_m6 190 rfl
theorem q1426 : (Jvm.Cond.instanceMethod ({ cls := "AllotmentLedgerModel", name := "counts", desc := "(II)Z" } : Jvm.MethodName)) ∈ lw_all := lw_g (lw_at lw_m6 191 rfl) rfl
theorem q1427 : (Jvm.Cond.code ({ cls := "AllotmentLedgerModel", name := "counts", desc := "(II)Z" } : Jvm.MethodName) prog_7_method_22_code (5 : Nat) (Option.some Jvm.ClassFile.FieldType.boolean)) ∈ lw_all := lw_g (lw_at lw_m6 192 rfl) rfl
theorem q1428 : (Jvm.Cond.methodLink "AllotmentLedgerModel" (112 : Nat) ({ cls := "AllotmentLedgerModel", name := "usage", desc := "(I)I" } : Jvm.MethodName)) ∈ lw_all := lw_g (lw_at lw_m6 193 rfl) rfl
theorem q1429 : (Jvm.Cond.privateMethod ({ cls := "AllotmentLedgerModel", name := "usage", desc := "(I)I" } : Jvm.MethodName)) ∈ lw_tbl := lw_at lw_m6 194 rfl
theorem q1430 : (Jvm.Cond.instanceMethod ({ cls := "AllotmentLedgerModel", name := "usage", desc := "(I)I" } : Jvm.MethodName)) ∈ lw_all := lw_g (lw_at lw_m6 195 rfl) rfl
theorem q1431 : (Jvm.Cond.code ({ cls := "AllotmentLedgerModel", name := "usage", desc := "(I)I" } : Jvm.MethodName) prog_7_method_23_code (4 : Nat) (Option.some Jvm.ClassFile.FieldType.int)) ∈ lw_all := lw_g (lw_at lw_m6 196 rfl) rfl
theorem q1433 : (Jvm.Cond.instanceMethod ({ cls := "AllotmentLedgerModel", name := "letterAt", desc := "(II)C" } : Jvm.MethodName)) ∈ lw_all := lw_g (lw_at lw_m6 198 rfl) rfl
theorem q1434 : (Jvm.Cond.selects "AllotmentLedgerModel" ({ cls := "AllotmentLedgerModel", name := "letterAt", desc := "(II)C" } : Jvm.MethodName) ({ cls := "AllotmentLedgerModel", name := "letterAt", desc := "(II)C" } : Jvm.MethodName)) ∈ lw_all := lw_g (lw_at lw_m6 199 rfl) rfl
theorem q1435 : (Jvm.Cond.code ({ cls := "AllotmentLedgerModel", name := "letterAt", desc := "(II)C" } : Jvm.MethodName) prog_7_method_19_code (3 : Nat) (Option.some Jvm.ClassFile.FieldType.char)) ∈ lw_all := lw_g (lw_at lw_m6 200 rfl) rfl
theorem q1437 : (Jvm.Cond.instanceMethod ({ cls := "AllotmentLedgerModel", name := "projects", desc := "()I" } : Jvm.MethodName)) ∈ lw_all := lw_g (lw_at lw_m6 202 rfl) rfl
theorem q1438 : (Jvm.Cond.selects "AllotmentLedgerModel" ({ cls := "AllotmentLedgerModel", name := "projects", desc := "()I" } : Jvm.MethodName) ({ cls := "AllotmentLedgerModel", name := "projects", desc := "()I" } : Jvm.MethodName)) ∈ lw_all := lw_g (lw_at lw_m6 203 rfl) rfl
theorem q1439 : (Jvm.Cond.code ({ cls := "AllotmentLedgerModel", name := "projects", desc := "()I" } : Jvm.MethodName) prog_7_method_20_code (1 : Nat) (Option.some Jvm.ClassFile.FieldType.int)) ∈ lw_all := lw_g (lw_at lw_m6 204 rfl) rfl
theorem q1441 : (Jvm.Cond.instanceMethod ({ cls := "AllotmentLedgerModel", name := "makeFile", desc := "(II)I" } : Jvm.MethodName)) ∈ lw_all := lw_g (lw_at lw_m6 206 rfl) rfl
theorem q1442 : (Jvm.Cond.selects "AllotmentLedgerModel" ({ cls := "AllotmentLedgerModel", name := "makeFile", desc := "(II)I" } : Jvm.MethodName) ({ cls := "AllotmentLedgerModel", name := "makeFile", desc := "(II)I" } : Jvm.MethodName)) ∈ lw_all := lw_g (lw_at lw_m6 207 rfl) rfl
theorem q1443 : (Jvm.Cond.code ({ cls := "AllotmentLedgerModel", name := "makeFile", desc := "(II)I" } : Jvm.MethodName) prog_7_method_31_code (5 : Nat) (Option.some Jvm.ClassFile.FieldType.int)) ∈ lw_all := lw_g (lw_at lw_m6 208 rfl) rfl
theorem q1444 : (Jvm.Cond.methodLink "AllotmentLedgerModel" (135 : Nat) ({ cls := "AllotmentLedgerModel", name := "barring", desc := "(IIII)I" } : Jvm.MethodName)) ∈ lw_all := lw_g (lw_at lw_m6 209 rfl) rfl
theorem q1445 : (Jvm.Cond.privateMethod ({ cls := "AllotmentLedgerModel", name := "barring", desc := "(IIII)I" } : Jvm.MethodName)) ∈ lw_tbl := lw_at lw_m6 210 rfl
theorem q1446 : (Jvm.Cond.instanceMethod ({ cls := "AllotmentLedgerModel", name := "barring", desc := "(IIII)I" } : Jvm.MethodName)) ∈ lw_all := lw_g (lw_at lw_m6 211 rfl) rfl
theorem q1447 : (Jvm.Cond.code ({ cls := "AllotmentLedgerModel", name := "barring", desc := "(IIII)I" } : Jvm.MethodName) prog_7_method_29_code (9 : Nat) (Option.some Jvm.ClassFile.FieldType.int)) ∈ lw_all := lw_g (lw_at lw_m6 212 rfl) rfl
theorem q1448 : (Jvm.Cond.methodLink "AllotmentLedgerModel" (125 : Nat) ({ cls := "AllotmentLedgerModel", name := "asked", desc := "(III)I" } : Jvm.MethodName)) ∈ lw_all := lw_g (lw_at lw_m6 213 rfl) rfl
theorem q1449 : (Jvm.Cond.privateMethod ({ cls := "AllotmentLedgerModel", name := "asked", desc := "(III)I" } : Jvm.MethodName)) ∈ lw_tbl := lw_at lw_m6 214 rfl
theorem q1450 : (Jvm.Cond.instanceMethod ({ cls := "AllotmentLedgerModel", name := "asked", desc := "(III)I" } : Jvm.MethodName)) ∈ lw_all := lw_g (lw_at lw_m6 215 rfl) rfl
theorem q1451 : (Jvm.Cond.code ({ cls := "AllotmentLedgerModel", name := "asked", desc := "(III)I" } : Jvm.MethodName) prog_7_method_28_code (7 : Nat) (Option.some Jvm.ClassFile.FieldType.int)) ∈ lw_all := lw_g (lw_at lw_m6 216 rfl) rfl
theorem q1452 : (Jvm.Cond.methodLink "AllotmentLedgerModel" (129 : Nat) ({ cls := "AllotmentLedgerModel", name := "isGraceGone", desc := "(I)Z" } : Jvm.MethodName)) ∈ lw_all := lw_g (lw_at lw_m6 217 rfl) rfl
theorem q1453 : (Jvm.Cond.privateMethod ({ cls := "AllotmentLedgerModel", name := "isGraceGone", desc := "(I)Z" } : Jvm.MethodName)) ∈ lw_tbl := lw_at lw_m6 218 rfl
theorem q1454 : (Jvm.Cond.instanceMethod ({ cls := "AllotmentLedgerModel", name := "isGraceGone", desc := "(I)Z" } : Jvm.MethodName)) ∈ lw_all := lw_g (lw_at lw_m6 219 rfl) rfl
theorem q1455 : (Jvm.Cond.code ({ cls := "AllotmentLedgerModel", name := "isGraceGone", desc := "(I)Z" } : Jvm.MethodName) prog_7_method_27_code (2 : Nat) (Option.some Jvm.ClassFile.FieldType.boolean)) ∈ lw_all := lw_g (lw_at lw_m6 220 rfl) rfl
theorem q1456 : (Jvm.Cond.methodLink "AllotmentLedgerModel" (132 : Nat) ({ cls := "AllotmentLedgerModel", name := "countFiles", desc := "(I)I" } : Jvm.MethodName)) ∈ lw_all := lw_g (lw_at lw_m6 221 rfl) rfl
theorem q1457 : (Jvm.Cond.privateMethod ({ cls := "AllotmentLedgerModel", name := "countFiles", desc := "(I)I" } : Jvm.MethodName)) ∈ lw_tbl := lw_at lw_m6 222 rfl
theorem q1458 : (Jvm.Cond.instanceMethod ({ cls := "AllotmentLedgerModel", name := "countFiles", desc := "(I)I" } : Jvm.MethodName)) ∈ lw_all := lw_g (lw_at lw_m6 223 rfl) rfl
theorem q1459 : (Jvm.Cond.code ({ cls := "AllotmentLedgerModel", name := "countFiles", desc := "(I)I" } : Jvm.MethodName) prog_7_method_25_code (4 : Nat) (Option.some Jvm.ClassFile.FieldType.int)) ∈ lw_all := lw_g (lw_at lw_m6 224 rfl) rfl
theorem q1461 : (Jvm.Cond.instanceMethod ({ cls := "AllotmentLedgerModel", name := "write", desc := "(II)I" } : Jvm.MethodName)) ∈ lw_all := lw_g (lw_at lw_m6 226 rfl) rfl
theorem q1462 : (Jvm.Cond.selects "AllotmentLedgerModel" ({ cls := "AllotmentLedgerModel", name := "write", desc := "(II)I" } : Jvm.MethodName) ({ cls := "AllotmentLedgerModel", name := "write", desc := "(II)I" } : Jvm.MethodName)) ∈ lw_all := lw_g (lw_at lw_m6 227 rfl) rfl
theorem q1463 : (Jvm.Cond.code ({ cls := "AllotmentLedgerModel", name := "write", desc := "(II)I" } : Jvm.MethodName) prog_7_method_32_code (5 : Nat) (Option.some Jvm.ClassFile.FieldType.int)) ∈ lw_all := lw_g (lw_at lw_m6 228 rfl) rfl
theorem q1464 : (Jvm.Cond.methodLink "AllotmentLedgerModel" (139 : Nat) ({ cls := "AllotmentLedgerModel", name := "isFile", desc := "(I)Z" } : Jvm.MethodName)) ∈ lw_all := lw_g (lw_at lw_m6 229 rfl) rfl
theorem q1465 : (Jvm.Cond.privateMethod ({ cls := "AllotmentLedgerModel", name := "isFile", desc := "(I)Z" } : Jvm.MethodName)) ∈ lw_tbl := lw_at lw_m6 230 rfl
theorem q1466 : (Jvm.Cond.instanceMethod ({ cls := "AllotmentLedgerModel", name := "isFile", desc := "(I)Z" } : Jvm.MethodName)) ∈ lw_all := lw_g (lw_at lw_m6 231 rfl) rfl
theorem q1467 : (Jvm.Cond.code ({ cls := "AllotmentLedgerModel", name := "isFile", desc := "(I)Z" } : Jvm.MethodName) prog_7_method_30_code (2 : Nat) (Option.some Jvm.ClassFile.FieldType.boolean)) ∈ lw_all := lw_g (lw_at lw_m6 232 rfl) rfl
theorem q1469 : (Jvm.Cond.instanceMethod ({ cls := "AllotmentLedgerModel", name := "delete", desc := "(I)I" } : Jvm.MethodName)) ∈ lw_all := lw_g (lw_at lw_m6 234 rfl) rfl
theorem q1470 : (Jvm.Cond.selects "AllotmentLedgerModel" ({ cls := "AllotmentLedgerModel", name := "delete", desc := "(I)I" } : Jvm.MethodName) ({ cls := "AllotmentLedgerModel", name := "delete", desc := "(I)I" } : Jvm.MethodName)) ∈ lw_all := lw_g (lw_at lw_m6 235 rfl) rfl
theorem q1471 : (Jvm.Cond.code ({ cls := "AllotmentLedgerModel", name := "delete", desc := "(I)I" } : Jvm.MethodName) prog_7_method_33_code (4 : Nat) (Option.some Jvm.ClassFile.FieldType.int)) ∈ lw_all := lw_g (lw_at lw_m6 236 rfl) rfl
theorem q1473 : (Jvm.Cond.instanceMethod ({ cls := "AllotmentLedgerModel", name := "moveFile", desc := "(II)I" } : Jvm.MethodName)) ∈ lw_all := lw_g (lw_at lw_m6 238 rfl) rfl
theorem q1474 : (Jvm.Cond.selects "AllotmentLedgerModel" ({ cls := "AllotmentLedgerModel", name := "moveFile", desc := "(II)I" } : Jvm.MethodName) ({ cls := "AllotmentLedgerModel", name := "moveFile", desc := "(II)I" } : Jvm.MethodName)) ∈ lw_all := lw_g (lw_at lw_m6 239 rfl) rfl
theorem q1475 : (Jvm.Cond.code ({ cls := "AllotmentLedgerModel", name := "moveFile", desc := "(II)I" } : Jvm.MethodName) prog_7_method_34_code (4 : Nat) (Option.some Jvm.ClassFile.FieldType.int)) ∈ lw_all := lw_g (lw_at lw_m7 0 rfl) rfl
theorem q1477 : (Jvm.Cond.instanceMethod ({ cls := "AllotmentLedgerModel", name := "reserve", desc := "(II)I" } : Jvm.MethodName)) ∈ lw_all := lw_g (lw_at lw_m7 2 rfl) rfl
theorem q1478 : (Jvm.Cond.selects "AllotmentLedgerModel" ({ cls := "AllotmentLedgerModel", name := "reserve", desc := "(II)I" } : Jvm.MethodName) ({ cls := "AllotmentLedgerModel", name := "reserve", desc := "(II)I" } : Jvm.MethodName)) ∈ lw_all := lw_g (lw_at lw_m7 3 rfl) rfl
theorem q1479 : (Jvm.Cond.code ({ cls := "AllotmentLedgerModel", name := "reserve", desc := "(II)I" } : Jvm.MethodName) prog_7_method_35_code (4 : Nat) (Option.some Jvm.ClassFile.FieldType.int)) ∈ lw_all := lw_g (lw_at lw_m7 4 rfl) rfl
theorem q1481 : (Jvm.Cond.instanceMethod ({ cls := "AllotmentLedgerModel", name := "settle", desc := "(II)I" } : Jvm.MethodName)) ∈ lw_all := lw_g (lw_at lw_m7 6 rfl) rfl
theorem q1482 : (Jvm.Cond.selects "AllotmentLedgerModel" ({ cls := "AllotmentLedgerModel", name := "settle", desc := "(II)I" } : Jvm.MethodName) ({ cls := "AllotmentLedgerModel", name := "settle", desc := "(II)I" } : Jvm.MethodName)) ∈ lw_all := lw_g (lw_at lw_m7 7 rfl) rfl
theorem q1483 : (Jvm.Cond.code ({ cls := "AllotmentLedgerModel", name := "settle", desc := "(II)I" } : Jvm.MethodName) prog_7_method_36_code (4 : Nat) (Option.some Jvm.ClassFile.FieldType.int)) ∈ lw_all := lw_g (lw_at lw_m7 8 rfl) rfl
theorem q1485 : (Jvm.Cond.instanceMethod ({ cls := "AllotmentLedgerModel", name := "setLimits", desc := "(IIIII)V" } : Jvm.MethodName)) ∈ lw_all := lw_g (lw_at lw_m7 10 rfl) rfl
theorem q1486 : (Jvm.Cond.selects "AllotmentLedgerModel" ({ cls := "AllotmentLedgerModel", name := "setLimits", desc := "(IIIII)V" } : Jvm.MethodName) ({ cls := "AllotmentLedgerModel", name := "setLimits", desc := "(IIIII)V" } : Jvm.MethodName)) ∈ lw_all := lw_g (lw_at lw_m7 11 rfl) rfl
theorem q1487 : (Jvm.Cond.code ({ cls := "AllotmentLedgerModel", name := "setLimits", desc := "(IIIII)V" } : Jvm.MethodName) prog_7_method_37_code (8 : Nat) (Option.none : Option Jvm.ClassFile.FieldType)) ∈ lw_all := lw_g (lw_at lw_m7 12 rfl) rfl
theorem q1488 : (Jvm.Cond.methodLink "AllotmentLedgerModel" (142 : Nat) ({ cls := "AllotmentLedgerModel", name := "accountOf", desc := "(II)I" } : Jvm.MethodName)) ∈ lw_all := lw_g (lw_at lw_m7 13 rfl) rfl
theorem q1489 : (Jvm.Cond.privateMethod ({ cls := "AllotmentLedgerModel", name := "accountOf", desc := "(II)I" } : Jvm.MethodName)) ∈ lw_tbl := lw_at lw_m7 14 rfl
theorem q1490 : (Jvm.Cond.instanceMethod ({ cls := "AllotmentLedgerModel", name := "accountOf", desc := "(II)I" } : Jvm.MethodName)) ∈ lw_all := lw_g (lw_at lw_m7 15 rfl) rfl
theorem q1491 : (Jvm.Cond.code ({ cls := "AllotmentLedgerModel", name := "accountOf", desc := "(II)I" } : Jvm.MethodName) prog_7_method_21_code (3 : Nat) (Option.some Jvm.ClassFile.FieldType.int)) ∈ lw_all := lw_g (lw_at lw_m7 16 rfl) rfl
theorem q1492 : (Jvm.Cond.constant "AllotmentLedgerModel" (145 : Nat) (100000 : Int32)) ∈ lw_all := lw_g (lw_at lw_m7 17 rfl) rfl
theorem q1494 : (Jvm.Cond.instanceMethod ({ cls := "AllotmentLedgerModel", name := "pass", desc := "(I)I" } : Jvm.MethodName)) ∈ lw_all := lw_g (lw_at lw_m7 19 rfl) rfl
theorem q1495 : (Jvm.Cond.selects "AllotmentLedgerModel" ({ cls := "AllotmentLedgerModel", name := "pass", desc := "(I)I" } : Jvm.MethodName) ({ cls := "AllotmentLedgerModel", name := "pass", desc := "(I)I" } : Jvm.MethodName)) ∈ lw_all := lw_g (lw_at lw_m7 20 rfl) rfl
theorem q1496 : (Jvm.Cond.code ({ cls := "AllotmentLedgerModel", name := "pass", desc := "(I)I" } : Jvm.MethodName) prog_7_method_38_code (2 : Nat) (Option.some Jvm.ClassFile.FieldType.int)) ∈ lw_all := lw_g (lw_at lw_m7 21 rfl) rfl
theorem q1498 : (Jvm.Cond.instanceMethod ({ cls := "AllotmentLedgerModel", name := "used", desc := "(II)I" } : Jvm.MethodName)) ∈ lw_all := lw_g (lw_at lw_m7 23 rfl) rfl
theorem q1499 : (Jvm.Cond.selects "AllotmentLedgerModel" ({ cls := "AllotmentLedgerModel", name := "used", desc := "(II)I" } : Jvm.MethodName) ({ cls := "AllotmentLedgerModel", name := "used", desc := "(II)I" } : Jvm.MethodName)) ∈ lw_all := lw_g (lw_at lw_m7 24 rfl) rfl
theorem q1500 : (Jvm.Cond.code ({ cls := "AllotmentLedgerModel", name := "used", desc := "(II)I" } : Jvm.MethodName) prog_7_method_40_code (4 : Nat) (Option.some Jvm.ClassFile.FieldType.int)) ∈ lw_all := lw_g (lw_at lw_m7 25 rfl) rfl
theorem q1501 : (Jvm.Cond.methodLink "AllotmentLedgerModel" (146 : Nat) ({ cls := "AllotmentLedgerModel", name := "noAccount", desc := "(I)Z" } : Jvm.MethodName)) ∈ lw_all := lw_g (lw_at lw_m7 26 rfl) rfl
theorem q1502 : (Jvm.Cond.privateMethod ({ cls := "AllotmentLedgerModel", name := "noAccount", desc := "(I)Z" } : Jvm.MethodName)) ∈ lw_tbl := lw_at lw_m7 27 rfl
theorem q1503 : (Jvm.Cond.instanceMethod ({ cls := "AllotmentLedgerModel", name := "noAccount", desc := "(I)Z" } : Jvm.MethodName)) ∈ lw_all := lw_g (lw_at lw_m7 28 rfl) rfl
theorem q1504 : (Jvm.Cond.code ({ cls := "AllotmentLedgerModel", name := "noAccount", desc := "(I)Z" } : Jvm.MethodName) prog_7_method_39_code (2 : Nat) (Option.some Jvm.ClassFile.FieldType.boolean)) ∈ lw_all := lw_g (lw_at lw_m7 29 rfl) rfl
theorem q1506 : (Jvm.Cond.instanceMethod ({ cls := "AllotmentLedgerModel", name := "filesOf", desc := "(II)I" } : Jvm.MethodName)) ∈ lw_all := lw_g (lw_at lw_m7 31 rfl) rfl
theorem q1507 : (Jvm.Cond.selects "AllotmentLedgerModel" ({ cls := "AllotmentLedgerModel", name := "filesOf", desc := "(II)I" } : Jvm.MethodName) ({ cls := "AllotmentLedgerModel", name := "filesOf", desc := "(II)I" } : Jvm.MethodName)) ∈ lw_all := lw_g (lw_at lw_m7 32 rfl) rfl
theorem q1508 : (Jvm.Cond.code ({ cls := "AllotmentLedgerModel", name := "filesOf", desc := "(II)I" } : Jvm.MethodName) prog_7_method_41_code (4 : Nat) (Option.some Jvm.ClassFile.FieldType.int)) ∈ lw_all := lw_g (lw_at lw_m7 33 rfl) rfl
theorem q1510 : (Jvm.Cond.instanceMethod ({ cls := "AllotmentLedgerModel", name := "usedByFiles", desc := "(II)I" } : Jvm.MethodName)) ∈ lw_all := lw_g (lw_at lw_m7 35 rfl) rfl
theorem q1511 : (Jvm.Cond.selects "AllotmentLedgerModel" ({ cls := "AllotmentLedgerModel", name := "usedByFiles", desc := "(II)I" } : Jvm.MethodName) ({ cls := "AllotmentLedgerModel", name := "usedByFiles", desc := "(II)I" } : Jvm.MethodName)) ∈ lw_all := lw_g (lw_at lw_m7 36 rfl) rfl
theorem q1512 : (Jvm.Cond.code ({ cls := "AllotmentLedgerModel", name := "usedByFiles", desc := "(II)I" } : Jvm.MethodName) prog_7_method_42_code (3 : Nat) (Option.some Jvm.ClassFile.FieldType.int)) ∈ lw_all := lw_g (lw_at lw_m7 37 rfl) rfl
theorem q1513 : (Jvm.Cond.methodLink "AllotmentLedgerModel" (149 : Nat) ({ cls := "AllotmentLedgerModel", name := "used", desc := "(II)I" } : Jvm.MethodName)) ∈ lw_all := lw_g (lw_at lw_m7 38 rfl) rfl
theorem q1515 : (Jvm.Cond.instanceMethod ({ cls := "AllotmentLedgerModel", name := "grace", desc := "(II)I" } : Jvm.MethodName)) ∈ lw_all := lw_g (lw_at lw_m7 40 rfl) rfl
theorem q1516 : (Jvm.Cond.selects "AllotmentLedgerModel" ({ cls := "AllotmentLedgerModel", name := "grace", desc := "(II)I" } : Jvm.MethodName) ({ cls := "AllotmentLedgerModel", name := "grace", desc := "(II)I" } : Jvm.MethodName)) ∈ lw_all := lw_g (lw_at lw_m7 41 rfl) rfl
theorem q1517 : (Jvm.Cond.code ({ cls := "AllotmentLedgerModel", name := "grace", desc := "(II)I" } : Jvm.MethodName) prog_7_method_43_code (4 : Nat) (Option.some Jvm.ClassFile.FieldType.int)) ∈ lw_all := lw_g (lw_at lw_m7 42 rfl) rfl
theorem q1519 : (Jvm.Cond.instanceMethod ({ cls := "AllotmentLedgerModel", name := "room", desc := "(I)I" } : Jvm.MethodName)) ∈ lw_all := lw_g (lw_at lw_m7 44 rfl) rfl
theorem q1520 : (Jvm.Cond.selects "AllotmentLedgerModel" ({ cls := "AllotmentLedgerModel", name := "room", desc := "(I)I" } : Jvm.MethodName) ({ cls := "AllotmentLedgerModel", name := "room", desc := "(I)I" } : Jvm.MethodName)) ∈ lw_all := lw_g (lw_at lw_m7 45 rfl) rfl
theorem q1521 : (Jvm.Cond.code ({ cls := "AllotmentLedgerModel", name := "room", desc := "(I)I" } : Jvm.MethodName) prog_7_method_44_code (6 : Nat) (Option.some Jvm.ClassFile.FieldType.int)) ∈ lw_all := lw_g (lw_at lw_m7 46 rfl) rfl
theorem q1523 : (Jvm.Cond.instanceMethod ({ cls := "AllotmentLedgerModel", name := "beginRecount", desc := "()I" } : Jvm.MethodName)) ∈ lw_all := lw_g (lw_at lw_m7 48 rfl) rfl
theorem q1524 : (Jvm.Cond.selects "AllotmentLedgerModel" ({ cls := "AllotmentLedgerModel", name := "beginRecount", desc := "()I" } : Jvm.MethodName) ({ cls := "AllotmentLedgerModel", name := "beginRecount", desc := "()I" } : Jvm.MethodName)) ∈ lw_all := lw_g (lw_at lw_m7 49 rfl) rfl
theorem q1525 : (Jvm.Cond.code ({ cls := "AllotmentLedgerModel", name := "beginRecount", desc := "()I" } : Jvm.MethodName) prog_7_method_45_code (1 : Nat) (Option.some Jvm.ClassFile.FieldType.int)) ∈ lw_all := lw_g (lw_at lw_m7 50 rfl) rfl
theorem q1527 : (Jvm.Cond.instanceMethod ({ cls := "AllotmentLedgerModel", name := "recount", desc := "(I)I" } : Jvm.MethodName)) ∈ lw_all := lw_g (lw_at lw_m7 52 rfl) rfl
theorem q1528 : (Jvm.Cond.selects "AllotmentLedgerModel" ({ cls := "AllotmentLedgerModel", name := "recount", desc := "(I)I" } : Jvm.MethodName) ({ cls := "AllotmentLedgerModel", name := "recount", desc := "(I)I" } : Jvm.MethodName)) ∈ lw_all := lw_g (lw_at lw_m7 53 rfl) rfl
theorem q1529 : (Jvm.Cond.code ({ cls := "AllotmentLedgerModel", name := "recount", desc := "(I)I" } : Jvm.MethodName) prog_7_method_46_code (2 : Nat) (Option.some Jvm.ClassFile.FieldType.int)) ∈ lw_all := lw_g (lw_at lw_m7 54 rfl) rfl
theorem q1531 : (Jvm.Cond.instanceMethod ({ cls := "AllotmentLedgerModel", name := "counted", desc := "(II)I" } : Jvm.MethodName)) ∈ lw_all := lw_g (lw_at lw_m7 56 rfl) rfl
theorem q1532 : (Jvm.Cond.selects "AllotmentLedgerModel" ({ cls := "AllotmentLedgerModel", name := "counted", desc := "(II)I" } : Jvm.MethodName) ({ cls := "AllotmentLedgerModel", name := "counted", desc := "(II)I" } : Jvm.MethodName)) ∈ lw_all := lw_g (lw_at lw_m7 57 rfl) rfl
theorem q1533 : (Jvm.Cond.code ({ cls := "AllotmentLedgerModel", name := "counted", desc := "(II)I" } : Jvm.MethodName) prog_7_method_47_code (4 : Nat) (Option.some Jvm.ClassFile.FieldType.int)) ∈ lw_all := lw_g (lw_at lw_m7 58 rfl) rfl
theorem q1566 : (Jvm.Cond.castable "AllotmentLedgerModel" "java/lang/Object") ∈ lw_tbl := lw_at lw_m7 91 rfl
theorem in_X4 : ∀ w ∈ wsX40, w ∈ lw_all := lw_in wsX40 [1299, 1301, 1303, 1305, 1307, 1309, 1311, 1313, 1315, 1317, 1319, 1321, 1323, 1325, 1327, 1329, 1331, 1333, 1335, 1337, 1339, 1341, 1343] (by decide +kernel) (by decide +kernel)

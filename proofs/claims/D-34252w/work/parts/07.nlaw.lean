/-! AllotmentLedgerLaw -/
set_option maxRecDepth 100000
def RX0 : String := "AllotmentLedgerLaw"
abbrev cX0_type : ByteArray := method_3_code
def yX0_type : MethodName := ⟨RX0, "type", "(LAllotmentLedger;C[J)I"⟩
def dkwX0_type_0 : List UInt8 := [44, 3, 42, 27, 182, 0, 7, 133, 80, 167, 0, 9, 78, 4, 172, 78, 5, 172, 3, 172]
abbrev dktX0_type_0 : List UInt8 := dkwX0_type_0 ++ []
theorem dksX0_type_0 : cX0_type.data.toList.drop 0 = dktX0_type_0 := by decide +kernel
theorem dX0_type_0 : decode cX0_type 0 = .ok (.aload_n 2, 1) := dk_44 (dk_at dksX0_type_0 0 rfl rfl)
theorem dX0_type_1 : decode cX0_type 1 = .ok (.iconst 0, 1) := dk_3 (dk_at dksX0_type_0 1 rfl rfl)
theorem dX0_type_2 : decode cX0_type 2 = .ok (.aload_n 0, 1) := dk_42 (dk_at dksX0_type_0 2 rfl rfl)
theorem dX0_type_3 : decode cX0_type 3 = .ok (.iload_n 1, 1) := dk_27 (dk_at dksX0_type_0 3 rfl rfl)
theorem dX0_type_4 : decode cX0_type 4 = .ok (.invokevirtual 7, 3) := dk_182 0 7 (dk_at dksX0_type_0 4 rfl rfl)
theorem dX0_type_7 : decode cX0_type 7 = .ok (.i2l, 1) := dk_133 (dk_at dksX0_type_0 7 rfl rfl)
theorem dX0_type_8 : decode cX0_type 8 = .ok (.lastore, 1) := dk_80 (dk_at dksX0_type_0 8 rfl rfl)
theorem dX0_type_9 : decode cX0_type 9 = .ok (.goto 9, 3) := dk_167 0 9 (dk_at dksX0_type_0 9 rfl rfl)
theorem dX0_type_12 : decode cX0_type 12 = .ok (.astore_n 3, 1) := dk_78 (dk_at dksX0_type_0 12 rfl rfl)
theorem dX0_type_13 : decode cX0_type 13 = .ok (.iconst 1, 1) := dk_4 (dk_at dksX0_type_0 13 rfl rfl)
theorem dX0_type_14 : decode cX0_type 14 = .ok (.ireturn, 1) := dk_172 (dk_at dksX0_type_0 14 rfl rfl)
theorem dX0_type_15 : decode cX0_type 15 = .ok (.astore_n 3, 1) := dk_78 (dk_at dksX0_type_0 15 rfl rfl)
theorem dX0_type_16 : decode cX0_type 16 = .ok (.iconst 2, 1) := dk_5 (dk_at dksX0_type_0 16 rfl rfl)
theorem dX0_type_17 : decode cX0_type 17 = .ok (.ireturn, 1) := dk_172 (dk_at dksX0_type_0 17 rfl rfl)
theorem dX0_type_18 : decode cX0_type 18 = .ok (.iconst 0, 1) := dk_3 (dk_at dksX0_type_0 18 rfl rfl)
theorem dX0_type_19 : decode cX0_type 19 = .ok (.ireturn, 1) := dk_172 (dk_at dksX0_type_0 19 rfl rfl)
abbrev cX0_back : ByteArray := method_4_code
def yX0_back : MethodName := ⟨RX0, "back", "(LAllotmentLedger;[J)I"⟩
def dkwX0_back_0 : List UInt8 := [43, 3, 42, 182, 0, 17, 133, 80, 167, 0, 6, 77, 4, 172, 3, 172]
abbrev dktX0_back_0 : List UInt8 := dkwX0_back_0 ++ []
theorem dksX0_back_0 : cX0_back.data.toList.drop 0 = dktX0_back_0 := by decide +kernel
theorem dX0_back_0 : decode cX0_back 0 = .ok (.aload_n 1, 1) := dk_43 (dk_at dksX0_back_0 0 rfl rfl)
theorem dX0_back_1 : decode cX0_back 1 = .ok (.iconst 0, 1) := dk_3 (dk_at dksX0_back_0 1 rfl rfl)
theorem dX0_back_2 : decode cX0_back 2 = .ok (.aload_n 0, 1) := dk_42 (dk_at dksX0_back_0 2 rfl rfl)
theorem dX0_back_3 : decode cX0_back 3 = .ok (.invokevirtual 17, 3) := dk_182 0 17 (dk_at dksX0_back_0 3 rfl rfl)
theorem dX0_back_6 : decode cX0_back 6 = .ok (.i2l, 1) := dk_133 (dk_at dksX0_back_0 6 rfl rfl)
theorem dX0_back_7 : decode cX0_back 7 = .ok (.lastore, 1) := dk_80 (dk_at dksX0_back_0 7 rfl rfl)
theorem dX0_back_8 : decode cX0_back 8 = .ok (.goto 6, 3) := dk_167 0 6 (dk_at dksX0_back_0 8 rfl rfl)
theorem dX0_back_11 : decode cX0_back 11 = .ok (.astore_n 2, 1) := dk_77 (dk_at dksX0_back_0 11 rfl rfl)
theorem dX0_back_12 : decode cX0_back 12 = .ok (.iconst 1, 1) := dk_4 (dk_at dksX0_back_0 12 rfl rfl)
theorem dX0_back_13 : decode cX0_back 13 = .ok (.ireturn, 1) := dk_172 (dk_at dksX0_back_0 13 rfl rfl)
theorem dX0_back_14 : decode cX0_back 14 = .ok (.iconst 0, 1) := dk_3 (dk_at dksX0_back_0 14 rfl rfl)
theorem dX0_back_15 : decode cX0_back 15 = .ok (.ireturn, 1) := dk_172 (dk_at dksX0_back_0 15 rfl rfl)
abbrev cX0_makeProject : ByteArray := method_5_code
def yX0_makeProject : MethodName := ⟨RX0, "makeProject", "(LAllotmentLedger;[J)I"⟩
def dkwX0_makeProject_0 : List UInt8 := [43, 3, 42, 182, 0, 21, 133, 80, 167, 0, 6, 77, 4, 172, 3, 172]
abbrev dktX0_makeProject_0 : List UInt8 := dkwX0_makeProject_0 ++ []
theorem dksX0_makeProject_0 : cX0_makeProject.data.toList.drop 0 = dktX0_makeProject_0 := by decide +kernel
theorem dX0_makeProject_0 : decode cX0_makeProject 0 = .ok (.aload_n 1, 1) := dk_43 (dk_at dksX0_makeProject_0 0 rfl rfl)
theorem dX0_makeProject_1 : decode cX0_makeProject 1 = .ok (.iconst 0, 1) := dk_3 (dk_at dksX0_makeProject_0 1 rfl rfl)
theorem dX0_makeProject_2 : decode cX0_makeProject 2 = .ok (.aload_n 0, 1) := dk_42 (dk_at dksX0_makeProject_0 2 rfl rfl)
theorem dX0_makeProject_3 : decode cX0_makeProject 3 = .ok (.invokevirtual 21, 3) := dk_182 0 21 (dk_at dksX0_makeProject_0 3 rfl rfl)
theorem dX0_makeProject_6 : decode cX0_makeProject 6 = .ok (.i2l, 1) := dk_133 (dk_at dksX0_makeProject_0 6 rfl rfl)
theorem dX0_makeProject_7 : decode cX0_makeProject 7 = .ok (.lastore, 1) := dk_80 (dk_at dksX0_makeProject_0 7 rfl rfl)
theorem dX0_makeProject_8 : decode cX0_makeProject 8 = .ok (.goto 6, 3) := dk_167 0 6 (dk_at dksX0_makeProject_0 8 rfl rfl)
theorem dX0_makeProject_11 : decode cX0_makeProject 11 = .ok (.astore_n 2, 1) := dk_77 (dk_at dksX0_makeProject_0 11 rfl rfl)
theorem dX0_makeProject_12 : decode cX0_makeProject 12 = .ok (.iconst 1, 1) := dk_4 (dk_at dksX0_makeProject_0 12 rfl rfl)
theorem dX0_makeProject_13 : decode cX0_makeProject 13 = .ok (.ireturn, 1) := dk_172 (dk_at dksX0_makeProject_0 13 rfl rfl)
theorem dX0_makeProject_14 : decode cX0_makeProject 14 = .ok (.iconst 0, 1) := dk_3 (dk_at dksX0_makeProject_0 14 rfl rfl)
theorem dX0_makeProject_15 : decode cX0_makeProject 15 = .ok (.ireturn, 1) := dk_172 (dk_at dksX0_makeProject_0 15 rfl rfl)
abbrev cX0_moveProject : ByteArray := method_6_code
def yX0_moveProject : MethodName := ⟨RX0, "moveProject", "(LAllotmentLedger;I[J)I"⟩
def dkwX0_moveProject_0 : List UInt8 := [44, 3, 42, 27, 182, 0, 24, 133, 80, 167, 0, 9, 78, 4, 172, 78, 5, 172, 3, 172]
abbrev dktX0_moveProject_0 : List UInt8 := dkwX0_moveProject_0 ++ []
theorem dksX0_moveProject_0 : cX0_moveProject.data.toList.drop 0 = dktX0_moveProject_0 := by decide +kernel
theorem dX0_moveProject_0 : decode cX0_moveProject 0 = .ok (.aload_n 2, 1) := dk_44 (dk_at dksX0_moveProject_0 0 rfl rfl)
theorem dX0_moveProject_1 : decode cX0_moveProject 1 = .ok (.iconst 0, 1) := dk_3 (dk_at dksX0_moveProject_0 1 rfl rfl)
theorem dX0_moveProject_2 : decode cX0_moveProject 2 = .ok (.aload_n 0, 1) := dk_42 (dk_at dksX0_moveProject_0 2 rfl rfl)
theorem dX0_moveProject_3 : decode cX0_moveProject 3 = .ok (.iload_n 1, 1) := dk_27 (dk_at dksX0_moveProject_0 3 rfl rfl)
theorem dX0_moveProject_4 : decode cX0_moveProject 4 = .ok (.invokevirtual 24, 3) := dk_182 0 24 (dk_at dksX0_moveProject_0 4 rfl rfl)
theorem dX0_moveProject_7 : decode cX0_moveProject 7 = .ok (.i2l, 1) := dk_133 (dk_at dksX0_moveProject_0 7 rfl rfl)
theorem dX0_moveProject_8 : decode cX0_moveProject 8 = .ok (.lastore, 1) := dk_80 (dk_at dksX0_moveProject_0 8 rfl rfl)
theorem dX0_moveProject_9 : decode cX0_moveProject 9 = .ok (.goto 9, 3) := dk_167 0 9 (dk_at dksX0_moveProject_0 9 rfl rfl)
theorem dX0_moveProject_12 : decode cX0_moveProject 12 = .ok (.astore_n 3, 1) := dk_78 (dk_at dksX0_moveProject_0 12 rfl rfl)
theorem dX0_moveProject_13 : decode cX0_moveProject 13 = .ok (.iconst 1, 1) := dk_4 (dk_at dksX0_moveProject_0 13 rfl rfl)
theorem dX0_moveProject_14 : decode cX0_moveProject 14 = .ok (.ireturn, 1) := dk_172 (dk_at dksX0_moveProject_0 14 rfl rfl)
theorem dX0_moveProject_15 : decode cX0_moveProject 15 = .ok (.astore_n 3, 1) := dk_78 (dk_at dksX0_moveProject_0 15 rfl rfl)
theorem dX0_moveProject_16 : decode cX0_moveProject 16 = .ok (.iconst 2, 1) := dk_5 (dk_at dksX0_moveProject_0 16 rfl rfl)
theorem dX0_moveProject_17 : decode cX0_moveProject 17 = .ok (.ireturn, 1) := dk_172 (dk_at dksX0_moveProject_0 17 rfl rfl)
theorem dX0_moveProject_18 : decode cX0_moveProject 18 = .ok (.iconst 0, 1) := dk_3 (dk_at dksX0_moveProject_0 18 rfl rfl)
theorem dX0_moveProject_19 : decode cX0_moveProject 19 = .ok (.ireturn, 1) := dk_172 (dk_at dksX0_moveProject_0 19 rfl rfl)
abbrev cX0_letterAt : ByteArray := method_7_code
def yX0_letterAt : MethodName := ⟨RX0, "letterAt", "(LAllotmentLedger;II[J)I"⟩
def dkwX0_letterAt_0 : List UInt8 := [45, 3, 42, 27, 28, 182, 0, 30, 133, 80, 167, 0, 7, 58, 4, 4, 172, 3, 172]
abbrev dktX0_letterAt_0 : List UInt8 := dkwX0_letterAt_0 ++ []
theorem dksX0_letterAt_0 : cX0_letterAt.data.toList.drop 0 = dktX0_letterAt_0 := by decide +kernel
theorem dX0_letterAt_0 : decode cX0_letterAt 0 = .ok (.aload_n 3, 1) := dk_45 (dk_at dksX0_letterAt_0 0 rfl rfl)
theorem dX0_letterAt_1 : decode cX0_letterAt 1 = .ok (.iconst 0, 1) := dk_3 (dk_at dksX0_letterAt_0 1 rfl rfl)
theorem dX0_letterAt_2 : decode cX0_letterAt 2 = .ok (.aload_n 0, 1) := dk_42 (dk_at dksX0_letterAt_0 2 rfl rfl)
theorem dX0_letterAt_3 : decode cX0_letterAt 3 = .ok (.iload_n 1, 1) := dk_27 (dk_at dksX0_letterAt_0 3 rfl rfl)
theorem dX0_letterAt_4 : decode cX0_letterAt 4 = .ok (.iload_n 2, 1) := dk_28 (dk_at dksX0_letterAt_0 4 rfl rfl)
theorem dX0_letterAt_5 : decode cX0_letterAt 5 = .ok (.invokevirtual 30, 3) := dk_182 0 30 (dk_at dksX0_letterAt_0 5 rfl rfl)
theorem dX0_letterAt_8 : decode cX0_letterAt 8 = .ok (.i2l, 1) := dk_133 (dk_at dksX0_letterAt_0 8 rfl rfl)
theorem dX0_letterAt_9 : decode cX0_letterAt 9 = .ok (.lastore, 1) := dk_80 (dk_at dksX0_letterAt_0 9 rfl rfl)
theorem dX0_letterAt_10 : decode cX0_letterAt 10 = .ok (.goto 7, 3) := dk_167 0 7 (dk_at dksX0_letterAt_0 10 rfl rfl)
theorem dX0_letterAt_13 : decode cX0_letterAt 13 = .ok (.astore 4, 2) := dk_58 4 (dk_at dksX0_letterAt_0 13 rfl rfl)
theorem dX0_letterAt_15 : decode cX0_letterAt 15 = .ok (.iconst 1, 1) := dk_4 (dk_at dksX0_letterAt_0 15 rfl rfl)
theorem dX0_letterAt_16 : decode cX0_letterAt 16 = .ok (.ireturn, 1) := dk_172 (dk_at dksX0_letterAt_0 16 rfl rfl)
theorem dX0_letterAt_17 : decode cX0_letterAt 17 = .ok (.iconst 0, 1) := dk_3 (dk_at dksX0_letterAt_0 17 rfl rfl)
theorem dX0_letterAt_18 : decode cX0_letterAt 18 = .ok (.ireturn, 1) := dk_172 (dk_at dksX0_letterAt_0 18 rfl rfl)
abbrev cX0_makeFile : ByteArray := method_8_code
def yX0_makeFile : MethodName := ⟨RX0, "makeFile", "(LAllotmentLedger;II[J)I"⟩
def dkwX0_makeFile_0 : List UInt8 := [45, 3, 42, 27, 28, 182, 0, 34, 133, 80, 167, 0, 11, 58, 4, 4, 172, 58, 4, 5, 172, 3, 172]
abbrev dktX0_makeFile_0 : List UInt8 := dkwX0_makeFile_0 ++ []
theorem dksX0_makeFile_0 : cX0_makeFile.data.toList.drop 0 = dktX0_makeFile_0 := by decide +kernel
theorem dX0_makeFile_0 : decode cX0_makeFile 0 = .ok (.aload_n 3, 1) := dk_45 (dk_at dksX0_makeFile_0 0 rfl rfl)
theorem dX0_makeFile_1 : decode cX0_makeFile 1 = .ok (.iconst 0, 1) := dk_3 (dk_at dksX0_makeFile_0 1 rfl rfl)
theorem dX0_makeFile_2 : decode cX0_makeFile 2 = .ok (.aload_n 0, 1) := dk_42 (dk_at dksX0_makeFile_0 2 rfl rfl)
theorem dX0_makeFile_3 : decode cX0_makeFile 3 = .ok (.iload_n 1, 1) := dk_27 (dk_at dksX0_makeFile_0 3 rfl rfl)
theorem dX0_makeFile_4 : decode cX0_makeFile 4 = .ok (.iload_n 2, 1) := dk_28 (dk_at dksX0_makeFile_0 4 rfl rfl)
theorem dX0_makeFile_5 : decode cX0_makeFile 5 = .ok (.invokevirtual 34, 3) := dk_182 0 34 (dk_at dksX0_makeFile_0 5 rfl rfl)
theorem dX0_makeFile_8 : decode cX0_makeFile 8 = .ok (.i2l, 1) := dk_133 (dk_at dksX0_makeFile_0 8 rfl rfl)
theorem dX0_makeFile_9 : decode cX0_makeFile 9 = .ok (.lastore, 1) := dk_80 (dk_at dksX0_makeFile_0 9 rfl rfl)
theorem dX0_makeFile_10 : decode cX0_makeFile 10 = .ok (.goto 11, 3) := dk_167 0 11 (dk_at dksX0_makeFile_0 10 rfl rfl)
theorem dX0_makeFile_13 : decode cX0_makeFile 13 = .ok (.astore 4, 2) := dk_58 4 (dk_at dksX0_makeFile_0 13 rfl rfl)
theorem dX0_makeFile_15 : decode cX0_makeFile 15 = .ok (.iconst 1, 1) := dk_4 (dk_at dksX0_makeFile_0 15 rfl rfl)
theorem dX0_makeFile_16 : decode cX0_makeFile 16 = .ok (.ireturn, 1) := dk_172 (dk_at dksX0_makeFile_0 16 rfl rfl)
theorem dX0_makeFile_17 : decode cX0_makeFile 17 = .ok (.astore 4, 2) := dk_58 4 (dk_at dksX0_makeFile_0 17 rfl rfl)
theorem dX0_makeFile_19 : decode cX0_makeFile 19 = .ok (.iconst 2, 1) := dk_5 (dk_at dksX0_makeFile_0 19 rfl rfl)
theorem dX0_makeFile_20 : decode cX0_makeFile 20 = .ok (.ireturn, 1) := dk_172 (dk_at dksX0_makeFile_0 20 rfl rfl)
theorem dX0_makeFile_21 : decode cX0_makeFile 21 = .ok (.iconst 0, 1) := dk_3 (dk_at dksX0_makeFile_0 21 rfl rfl)
theorem dX0_makeFile_22 : decode cX0_makeFile 22 = .ok (.ireturn, 1) := dk_172 (dk_at dksX0_makeFile_0 22 rfl rfl)
abbrev cX0_write : ByteArray := method_9_code
def yX0_write : MethodName := ⟨RX0, "write", "(LAllotmentLedger;II[J)I"⟩
def dkwX0_write_0 : List UInt8 := [45, 3, 42, 27, 28, 182, 0, 38, 133, 80, 167, 0, 11, 58, 4, 4, 172, 58, 4, 5, 172, 3, 172]
abbrev dktX0_write_0 : List UInt8 := dkwX0_write_0 ++ []
theorem dksX0_write_0 : cX0_write.data.toList.drop 0 = dktX0_write_0 := by decide +kernel
theorem dX0_write_0 : decode cX0_write 0 = .ok (.aload_n 3, 1) := dk_45 (dk_at dksX0_write_0 0 rfl rfl)
theorem dX0_write_1 : decode cX0_write 1 = .ok (.iconst 0, 1) := dk_3 (dk_at dksX0_write_0 1 rfl rfl)
theorem dX0_write_2 : decode cX0_write 2 = .ok (.aload_n 0, 1) := dk_42 (dk_at dksX0_write_0 2 rfl rfl)
theorem dX0_write_3 : decode cX0_write 3 = .ok (.iload_n 1, 1) := dk_27 (dk_at dksX0_write_0 3 rfl rfl)
theorem dX0_write_4 : decode cX0_write 4 = .ok (.iload_n 2, 1) := dk_28 (dk_at dksX0_write_0 4 rfl rfl)
theorem dX0_write_5 : decode cX0_write 5 = .ok (.invokevirtual 38, 3) := dk_182 0 38 (dk_at dksX0_write_0 5 rfl rfl)
theorem dX0_write_8 : decode cX0_write 8 = .ok (.i2l, 1) := dk_133 (dk_at dksX0_write_0 8 rfl rfl)
theorem dX0_write_9 : decode cX0_write 9 = .ok (.lastore, 1) := dk_80 (dk_at dksX0_write_0 9 rfl rfl)
theorem dX0_write_10 : decode cX0_write 10 = .ok (.goto 11, 3) := dk_167 0 11 (dk_at dksX0_write_0 10 rfl rfl)
theorem dX0_write_13 : decode cX0_write 13 = .ok (.astore 4, 2) := dk_58 4 (dk_at dksX0_write_0 13 rfl rfl)
theorem dX0_write_15 : decode cX0_write 15 = .ok (.iconst 1, 1) := dk_4 (dk_at dksX0_write_0 15 rfl rfl)
theorem dX0_write_16 : decode cX0_write 16 = .ok (.ireturn, 1) := dk_172 (dk_at dksX0_write_0 16 rfl rfl)
theorem dX0_write_17 : decode cX0_write 17 = .ok (.astore 4, 2) := dk_58 4 (dk_at dksX0_write_0 17 rfl rfl)
theorem dX0_write_19 : decode cX0_write 19 = .ok (.iconst 2, 1) := dk_5 (dk_at dksX0_write_0 19 rfl rfl)
theorem dX0_write_20 : decode cX0_write 20 = .ok (.ireturn, 1) := dk_172 (dk_at dksX0_write_0 20 rfl rfl)
theorem dX0_write_21 : decode cX0_write 21 = .ok (.iconst 0, 1) := dk_3 (dk_at dksX0_write_0 21 rfl rfl)
theorem dX0_write_22 : decode cX0_write 22 = .ok (.ireturn, 1) := dk_172 (dk_at dksX0_write_0 22 rfl rfl)
abbrev cX0_delete : ByteArray := method_10_code
def yX0_delete : MethodName := ⟨RX0, "delete", "(LAllotmentLedger;I[J)I"⟩
def dkwX0_delete_0 : List UInt8 := [44, 3, 42, 27, 182, 0, 41, 133, 80, 167, 0, 6, 78, 4, 172, 3, 172]
abbrev dktX0_delete_0 : List UInt8 := dkwX0_delete_0 ++ []
theorem dksX0_delete_0 : cX0_delete.data.toList.drop 0 = dktX0_delete_0 := by decide +kernel
theorem dX0_delete_0 : decode cX0_delete 0 = .ok (.aload_n 2, 1) := dk_44 (dk_at dksX0_delete_0 0 rfl rfl)
theorem dX0_delete_1 : decode cX0_delete 1 = .ok (.iconst 0, 1) := dk_3 (dk_at dksX0_delete_0 1 rfl rfl)
theorem dX0_delete_2 : decode cX0_delete 2 = .ok (.aload_n 0, 1) := dk_42 (dk_at dksX0_delete_0 2 rfl rfl)
theorem dX0_delete_3 : decode cX0_delete 3 = .ok (.iload_n 1, 1) := dk_27 (dk_at dksX0_delete_0 3 rfl rfl)
theorem dX0_delete_4 : decode cX0_delete 4 = .ok (.invokevirtual 41, 3) := dk_182 0 41 (dk_at dksX0_delete_0 4 rfl rfl)
theorem dX0_delete_7 : decode cX0_delete 7 = .ok (.i2l, 1) := dk_133 (dk_at dksX0_delete_0 7 rfl rfl)
theorem dX0_delete_8 : decode cX0_delete 8 = .ok (.lastore, 1) := dk_80 (dk_at dksX0_delete_0 8 rfl rfl)
theorem dX0_delete_9 : decode cX0_delete 9 = .ok (.goto 6, 3) := dk_167 0 6 (dk_at dksX0_delete_0 9 rfl rfl)
theorem dX0_delete_12 : decode cX0_delete 12 = .ok (.astore_n 3, 1) := dk_78 (dk_at dksX0_delete_0 12 rfl rfl)
theorem dX0_delete_13 : decode cX0_delete 13 = .ok (.iconst 1, 1) := dk_4 (dk_at dksX0_delete_0 13 rfl rfl)
theorem dX0_delete_14 : decode cX0_delete 14 = .ok (.ireturn, 1) := dk_172 (dk_at dksX0_delete_0 14 rfl rfl)
theorem dX0_delete_15 : decode cX0_delete 15 = .ok (.iconst 0, 1) := dk_3 (dk_at dksX0_delete_0 15 rfl rfl)
theorem dX0_delete_16 : decode cX0_delete 16 = .ok (.ireturn, 1) := dk_172 (dk_at dksX0_delete_0 16 rfl rfl)
abbrev cX0_moveFile : ByteArray := method_11_code
def yX0_moveFile : MethodName := ⟨RX0, "moveFile", "(LAllotmentLedger;II[J)I"⟩
def dkwX0_moveFile_0 : List UInt8 := [45, 3, 42, 27, 28, 182, 0, 44, 133, 80, 167, 0, 7, 58, 4, 4, 172, 3, 172]
abbrev dktX0_moveFile_0 : List UInt8 := dkwX0_moveFile_0 ++ []
theorem dksX0_moveFile_0 : cX0_moveFile.data.toList.drop 0 = dktX0_moveFile_0 := by decide +kernel
theorem dX0_moveFile_0 : decode cX0_moveFile 0 = .ok (.aload_n 3, 1) := dk_45 (dk_at dksX0_moveFile_0 0 rfl rfl)
theorem dX0_moveFile_1 : decode cX0_moveFile 1 = .ok (.iconst 0, 1) := dk_3 (dk_at dksX0_moveFile_0 1 rfl rfl)
theorem dX0_moveFile_2 : decode cX0_moveFile 2 = .ok (.aload_n 0, 1) := dk_42 (dk_at dksX0_moveFile_0 2 rfl rfl)
theorem dX0_moveFile_3 : decode cX0_moveFile 3 = .ok (.iload_n 1, 1) := dk_27 (dk_at dksX0_moveFile_0 3 rfl rfl)
theorem dX0_moveFile_4 : decode cX0_moveFile 4 = .ok (.iload_n 2, 1) := dk_28 (dk_at dksX0_moveFile_0 4 rfl rfl)
theorem dX0_moveFile_5 : decode cX0_moveFile 5 = .ok (.invokevirtual 44, 3) := dk_182 0 44 (dk_at dksX0_moveFile_0 5 rfl rfl)
theorem dX0_moveFile_8 : decode cX0_moveFile 8 = .ok (.i2l, 1) := dk_133 (dk_at dksX0_moveFile_0 8 rfl rfl)
theorem dX0_moveFile_9 : decode cX0_moveFile 9 = .ok (.lastore, 1) := dk_80 (dk_at dksX0_moveFile_0 9 rfl rfl)
theorem dX0_moveFile_10 : decode cX0_moveFile 10 = .ok (.goto 7, 3) := dk_167 0 7 (dk_at dksX0_moveFile_0 10 rfl rfl)
theorem dX0_moveFile_13 : decode cX0_moveFile 13 = .ok (.astore 4, 2) := dk_58 4 (dk_at dksX0_moveFile_0 13 rfl rfl)
theorem dX0_moveFile_15 : decode cX0_moveFile 15 = .ok (.iconst 1, 1) := dk_4 (dk_at dksX0_moveFile_0 15 rfl rfl)
theorem dX0_moveFile_16 : decode cX0_moveFile 16 = .ok (.ireturn, 1) := dk_172 (dk_at dksX0_moveFile_0 16 rfl rfl)
theorem dX0_moveFile_17 : decode cX0_moveFile 17 = .ok (.iconst 0, 1) := dk_3 (dk_at dksX0_moveFile_0 17 rfl rfl)
theorem dX0_moveFile_18 : decode cX0_moveFile 18 = .ok (.ireturn, 1) := dk_172 (dk_at dksX0_moveFile_0 18 rfl rfl)
abbrev cX0_reserve : ByteArray := method_12_code
def yX0_reserve : MethodName := ⟨RX0, "reserve", "(LAllotmentLedger;II[J)I"⟩
def dkwX0_reserve_1 : List UInt8 := [172, 3, 172]
abbrev dktX0_reserve_1 : List UInt8 := dkwX0_reserve_1 ++ []
def dkwX0_reserve_0 : List UInt8 := [45, 3, 42, 27, 28, 182, 0, 47, 133, 80, 167, 0, 15, 58, 4, 4, 172, 58, 4, 5, 172, 58, 4, 6]
abbrev dktX0_reserve_0 : List UInt8 := dkwX0_reserve_0 ++ dktX0_reserve_1
theorem dksX0_reserve_0 : cX0_reserve.data.toList.drop 0 = dktX0_reserve_0 := by decide +kernel
theorem dksX0_reserve_1 : cX0_reserve.data.toList.drop 24 = dktX0_reserve_1 := dk_seg dksX0_reserve_0 24 rfl rfl
theorem dX0_reserve_0 : decode cX0_reserve 0 = .ok (.aload_n 3, 1) := dk_45 (dk_at dksX0_reserve_0 0 rfl rfl)
theorem dX0_reserve_1 : decode cX0_reserve 1 = .ok (.iconst 0, 1) := dk_3 (dk_at dksX0_reserve_0 1 rfl rfl)
theorem dX0_reserve_2 : decode cX0_reserve 2 = .ok (.aload_n 0, 1) := dk_42 (dk_at dksX0_reserve_0 2 rfl rfl)
theorem dX0_reserve_3 : decode cX0_reserve 3 = .ok (.iload_n 1, 1) := dk_27 (dk_at dksX0_reserve_0 3 rfl rfl)
theorem dX0_reserve_4 : decode cX0_reserve 4 = .ok (.iload_n 2, 1) := dk_28 (dk_at dksX0_reserve_0 4 rfl rfl)
theorem dX0_reserve_5 : decode cX0_reserve 5 = .ok (.invokevirtual 47, 3) := dk_182 0 47 (dk_at dksX0_reserve_0 5 rfl rfl)
theorem dX0_reserve_8 : decode cX0_reserve 8 = .ok (.i2l, 1) := dk_133 (dk_at dksX0_reserve_0 8 rfl rfl)
theorem dX0_reserve_9 : decode cX0_reserve 9 = .ok (.lastore, 1) := dk_80 (dk_at dksX0_reserve_0 9 rfl rfl)
theorem dX0_reserve_10 : decode cX0_reserve 10 = .ok (.goto 15, 3) := dk_167 0 15 (dk_at dksX0_reserve_0 10 rfl rfl)
theorem dX0_reserve_13 : decode cX0_reserve 13 = .ok (.astore 4, 2) := dk_58 4 (dk_at dksX0_reserve_0 13 rfl rfl)
theorem dX0_reserve_15 : decode cX0_reserve 15 = .ok (.iconst 1, 1) := dk_4 (dk_at dksX0_reserve_0 15 rfl rfl)
theorem dX0_reserve_16 : decode cX0_reserve 16 = .ok (.ireturn, 1) := dk_172 (dk_at dksX0_reserve_0 16 rfl rfl)
theorem dX0_reserve_17 : decode cX0_reserve 17 = .ok (.astore 4, 2) := dk_58 4 (dk_at dksX0_reserve_0 17 rfl rfl)
theorem dX0_reserve_19 : decode cX0_reserve 19 = .ok (.iconst 2, 1) := dk_5 (dk_at dksX0_reserve_0 19 rfl rfl)
theorem dX0_reserve_20 : decode cX0_reserve 20 = .ok (.ireturn, 1) := dk_172 (dk_at dksX0_reserve_0 20 rfl rfl)
theorem dX0_reserve_21 : decode cX0_reserve 21 = .ok (.astore 4, 2) := dk_58 4 (dk_at dksX0_reserve_0 21 rfl rfl)
theorem dX0_reserve_23 : decode cX0_reserve 23 = .ok (.iconst 3, 1) := dk_6 (dk_at dksX0_reserve_0 23 rfl rfl)
theorem dX0_reserve_24 : decode cX0_reserve 24 = .ok (.ireturn, 1) := dk_172 (dk_at dksX0_reserve_1 0 rfl rfl)
theorem dX0_reserve_25 : decode cX0_reserve 25 = .ok (.iconst 0, 1) := dk_3 (dk_at dksX0_reserve_1 1 rfl rfl)
theorem dX0_reserve_26 : decode cX0_reserve 26 = .ok (.ireturn, 1) := dk_172 (dk_at dksX0_reserve_1 2 rfl rfl)
abbrev cX0_settle : ByteArray := method_13_code
def yX0_settle : MethodName := ⟨RX0, "settle", "(LAllotmentLedger;II[J)I"⟩
def dkwX0_settle_0 : List UInt8 := [45, 3, 42, 27, 28, 182, 0, 50, 133, 80, 167, 0, 11, 58, 4, 4, 172, 58, 4, 5, 172, 3, 172]
abbrev dktX0_settle_0 : List UInt8 := dkwX0_settle_0 ++ []
theorem dksX0_settle_0 : cX0_settle.data.toList.drop 0 = dktX0_settle_0 := by decide +kernel
theorem dX0_settle_0 : decode cX0_settle 0 = .ok (.aload_n 3, 1) := dk_45 (dk_at dksX0_settle_0 0 rfl rfl)
theorem dX0_settle_1 : decode cX0_settle 1 = .ok (.iconst 0, 1) := dk_3 (dk_at dksX0_settle_0 1 rfl rfl)
theorem dX0_settle_2 : decode cX0_settle 2 = .ok (.aload_n 0, 1) := dk_42 (dk_at dksX0_settle_0 2 rfl rfl)
theorem dX0_settle_3 : decode cX0_settle 3 = .ok (.iload_n 1, 1) := dk_27 (dk_at dksX0_settle_0 3 rfl rfl)
theorem dX0_settle_4 : decode cX0_settle 4 = .ok (.iload_n 2, 1) := dk_28 (dk_at dksX0_settle_0 4 rfl rfl)
theorem dX0_settle_5 : decode cX0_settle 5 = .ok (.invokevirtual 50, 3) := dk_182 0 50 (dk_at dksX0_settle_0 5 rfl rfl)
theorem dX0_settle_8 : decode cX0_settle 8 = .ok (.i2l, 1) := dk_133 (dk_at dksX0_settle_0 8 rfl rfl)
theorem dX0_settle_9 : decode cX0_settle 9 = .ok (.lastore, 1) := dk_80 (dk_at dksX0_settle_0 9 rfl rfl)
theorem dX0_settle_10 : decode cX0_settle 10 = .ok (.goto 11, 3) := dk_167 0 11 (dk_at dksX0_settle_0 10 rfl rfl)
theorem dX0_settle_13 : decode cX0_settle 13 = .ok (.astore 4, 2) := dk_58 4 (dk_at dksX0_settle_0 13 rfl rfl)
theorem dX0_settle_15 : decode cX0_settle 15 = .ok (.iconst 1, 1) := dk_4 (dk_at dksX0_settle_0 15 rfl rfl)
theorem dX0_settle_16 : decode cX0_settle 16 = .ok (.ireturn, 1) := dk_172 (dk_at dksX0_settle_0 16 rfl rfl)
theorem dX0_settle_17 : decode cX0_settle 17 = .ok (.astore 4, 2) := dk_58 4 (dk_at dksX0_settle_0 17 rfl rfl)
theorem dX0_settle_19 : decode cX0_settle 19 = .ok (.iconst 2, 1) := dk_5 (dk_at dksX0_settle_0 19 rfl rfl)
theorem dX0_settle_20 : decode cX0_settle 20 = .ok (.ireturn, 1) := dk_172 (dk_at dksX0_settle_0 20 rfl rfl)
theorem dX0_settle_21 : decode cX0_settle 21 = .ok (.iconst 0, 1) := dk_3 (dk_at dksX0_settle_0 21 rfl rfl)
theorem dX0_settle_22 : decode cX0_settle 22 = .ok (.ireturn, 1) := dk_172 (dk_at dksX0_settle_0 22 rfl rfl)
abbrev cX0_setLimits : ByteArray := method_14_code
def yX0_setLimits : MethodName := ⟨RX0, "setLimits", "(LAllotmentLedger;IIIII)I"⟩
def dkwX0_setLimits_0 : List UInt8 := [42, 27, 28, 29, 21, 4, 21, 5, 182, 0, 53, 167, 0, 11, 58, 6, 4, 172, 58, 6, 5, 172, 3, 172]
abbrev dktX0_setLimits_0 : List UInt8 := dkwX0_setLimits_0 ++ []
theorem dksX0_setLimits_0 : cX0_setLimits.data.toList.drop 0 = dktX0_setLimits_0 := by decide +kernel
theorem dX0_setLimits_0 : decode cX0_setLimits 0 = .ok (.aload_n 0, 1) := dk_42 (dk_at dksX0_setLimits_0 0 rfl rfl)
theorem dX0_setLimits_1 : decode cX0_setLimits 1 = .ok (.iload_n 1, 1) := dk_27 (dk_at dksX0_setLimits_0 1 rfl rfl)
theorem dX0_setLimits_2 : decode cX0_setLimits 2 = .ok (.iload_n 2, 1) := dk_28 (dk_at dksX0_setLimits_0 2 rfl rfl)
theorem dX0_setLimits_3 : decode cX0_setLimits 3 = .ok (.iload_n 3, 1) := dk_29 (dk_at dksX0_setLimits_0 3 rfl rfl)
theorem dX0_setLimits_4 : decode cX0_setLimits 4 = .ok (.iload 4, 2) := dk_21 4 (dk_at dksX0_setLimits_0 4 rfl rfl)
theorem dX0_setLimits_6 : decode cX0_setLimits 6 = .ok (.iload 5, 2) := dk_21 5 (dk_at dksX0_setLimits_0 6 rfl rfl)
theorem dX0_setLimits_8 : decode cX0_setLimits 8 = .ok (.invokevirtual 53, 3) := dk_182 0 53 (dk_at dksX0_setLimits_0 8 rfl rfl)
theorem dX0_setLimits_11 : decode cX0_setLimits 11 = .ok (.goto 11, 3) := dk_167 0 11 (dk_at dksX0_setLimits_0 11 rfl rfl)
theorem dX0_setLimits_14 : decode cX0_setLimits 14 = .ok (.astore 6, 2) := dk_58 6 (dk_at dksX0_setLimits_0 14 rfl rfl)
theorem dX0_setLimits_16 : decode cX0_setLimits 16 = .ok (.iconst 1, 1) := dk_4 (dk_at dksX0_setLimits_0 16 rfl rfl)
theorem dX0_setLimits_17 : decode cX0_setLimits 17 = .ok (.ireturn, 1) := dk_172 (dk_at dksX0_setLimits_0 17 rfl rfl)
theorem dX0_setLimits_18 : decode cX0_setLimits 18 = .ok (.astore 6, 2) := dk_58 6 (dk_at dksX0_setLimits_0 18 rfl rfl)
theorem dX0_setLimits_20 : decode cX0_setLimits 20 = .ok (.iconst 2, 1) := dk_5 (dk_at dksX0_setLimits_0 20 rfl rfl)
theorem dX0_setLimits_21 : decode cX0_setLimits 21 = .ok (.ireturn, 1) := dk_172 (dk_at dksX0_setLimits_0 21 rfl rfl)
theorem dX0_setLimits_22 : decode cX0_setLimits 22 = .ok (.iconst 0, 1) := dk_3 (dk_at dksX0_setLimits_0 22 rfl rfl)
theorem dX0_setLimits_23 : decode cX0_setLimits 23 = .ok (.ireturn, 1) := dk_172 (dk_at dksX0_setLimits_0 23 rfl rfl)
abbrev cX0_pass : ByteArray := method_15_code
def yX0_pass : MethodName := ⟨RX0, "pass", "(LAllotmentLedger;I[J)I"⟩
def dkwX0_pass_0 : List UInt8 := [44, 3, 42, 27, 182, 0, 57, 133, 80, 167, 0, 9, 78, 4, 172, 78, 5, 172, 3, 172]
abbrev dktX0_pass_0 : List UInt8 := dkwX0_pass_0 ++ []
theorem dksX0_pass_0 : cX0_pass.data.toList.drop 0 = dktX0_pass_0 := by decide +kernel
theorem dX0_pass_0 : decode cX0_pass 0 = .ok (.aload_n 2, 1) := dk_44 (dk_at dksX0_pass_0 0 rfl rfl)
theorem dX0_pass_1 : decode cX0_pass 1 = .ok (.iconst 0, 1) := dk_3 (dk_at dksX0_pass_0 1 rfl rfl)
theorem dX0_pass_2 : decode cX0_pass 2 = .ok (.aload_n 0, 1) := dk_42 (dk_at dksX0_pass_0 2 rfl rfl)
theorem dX0_pass_3 : decode cX0_pass 3 = .ok (.iload_n 1, 1) := dk_27 (dk_at dksX0_pass_0 3 rfl rfl)
theorem dX0_pass_4 : decode cX0_pass 4 = .ok (.invokevirtual 57, 3) := dk_182 0 57 (dk_at dksX0_pass_0 4 rfl rfl)
theorem dX0_pass_7 : decode cX0_pass 7 = .ok (.i2l, 1) := dk_133 (dk_at dksX0_pass_0 7 rfl rfl)
theorem dX0_pass_8 : decode cX0_pass 8 = .ok (.lastore, 1) := dk_80 (dk_at dksX0_pass_0 8 rfl rfl)
theorem dX0_pass_9 : decode cX0_pass 9 = .ok (.goto 9, 3) := dk_167 0 9 (dk_at dksX0_pass_0 9 rfl rfl)
theorem dX0_pass_12 : decode cX0_pass 12 = .ok (.astore_n 3, 1) := dk_78 (dk_at dksX0_pass_0 12 rfl rfl)
theorem dX0_pass_13 : decode cX0_pass 13 = .ok (.iconst 1, 1) := dk_4 (dk_at dksX0_pass_0 13 rfl rfl)
theorem dX0_pass_14 : decode cX0_pass 14 = .ok (.ireturn, 1) := dk_172 (dk_at dksX0_pass_0 14 rfl rfl)
theorem dX0_pass_15 : decode cX0_pass 15 = .ok (.astore_n 3, 1) := dk_78 (dk_at dksX0_pass_0 15 rfl rfl)
theorem dX0_pass_16 : decode cX0_pass 16 = .ok (.iconst 2, 1) := dk_5 (dk_at dksX0_pass_0 16 rfl rfl)
theorem dX0_pass_17 : decode cX0_pass 17 = .ok (.ireturn, 1) := dk_172 (dk_at dksX0_pass_0 17 rfl rfl)
theorem dX0_pass_18 : decode cX0_pass 18 = .ok (.iconst 0, 1) := dk_3 (dk_at dksX0_pass_0 18 rfl rfl)
theorem dX0_pass_19 : decode cX0_pass 19 = .ok (.ireturn, 1) := dk_172 (dk_at dksX0_pass_0 19 rfl rfl)
abbrev cX0_used : ByteArray := method_16_code
def yX0_used : MethodName := ⟨RX0, "used", "(LAllotmentLedger;II[J)I"⟩
def dkwX0_used_0 : List UInt8 := [45, 3, 42, 27, 28, 182, 0, 60, 133, 80, 167, 0, 7, 58, 4, 4, 172, 3, 172]
abbrev dktX0_used_0 : List UInt8 := dkwX0_used_0 ++ []
theorem dksX0_used_0 : cX0_used.data.toList.drop 0 = dktX0_used_0 := by decide +kernel
theorem dX0_used_0 : decode cX0_used 0 = .ok (.aload_n 3, 1) := dk_45 (dk_at dksX0_used_0 0 rfl rfl)
theorem dX0_used_1 : decode cX0_used 1 = .ok (.iconst 0, 1) := dk_3 (dk_at dksX0_used_0 1 rfl rfl)
theorem dX0_used_2 : decode cX0_used 2 = .ok (.aload_n 0, 1) := dk_42 (dk_at dksX0_used_0 2 rfl rfl)
theorem dX0_used_3 : decode cX0_used 3 = .ok (.iload_n 1, 1) := dk_27 (dk_at dksX0_used_0 3 rfl rfl)
theorem dX0_used_4 : decode cX0_used 4 = .ok (.iload_n 2, 1) := dk_28 (dk_at dksX0_used_0 4 rfl rfl)
theorem dX0_used_5 : decode cX0_used 5 = .ok (.invokevirtual 60, 3) := dk_182 0 60 (dk_at dksX0_used_0 5 rfl rfl)
theorem dX0_used_8 : decode cX0_used 8 = .ok (.i2l, 1) := dk_133 (dk_at dksX0_used_0 8 rfl rfl)
theorem dX0_used_9 : decode cX0_used 9 = .ok (.lastore, 1) := dk_80 (dk_at dksX0_used_0 9 rfl rfl)
theorem dX0_used_10 : decode cX0_used 10 = .ok (.goto 7, 3) := dk_167 0 7 (dk_at dksX0_used_0 10 rfl rfl)
theorem dX0_used_13 : decode cX0_used 13 = .ok (.astore 4, 2) := dk_58 4 (dk_at dksX0_used_0 13 rfl rfl)
theorem dX0_used_15 : decode cX0_used 15 = .ok (.iconst 1, 1) := dk_4 (dk_at dksX0_used_0 15 rfl rfl)
theorem dX0_used_16 : decode cX0_used 16 = .ok (.ireturn, 1) := dk_172 (dk_at dksX0_used_0 16 rfl rfl)
theorem dX0_used_17 : decode cX0_used 17 = .ok (.iconst 0, 1) := dk_3 (dk_at dksX0_used_0 17 rfl rfl)
theorem dX0_used_18 : decode cX0_used 18 = .ok (.ireturn, 1) := dk_172 (dk_at dksX0_used_0 18 rfl rfl)
abbrev cX0_filesOf : ByteArray := method_17_code
def yX0_filesOf : MethodName := ⟨RX0, "filesOf", "(LAllotmentLedger;II[J)I"⟩
def dkwX0_filesOf_0 : List UInt8 := [45, 3, 42, 27, 28, 182, 0, 63, 133, 80, 167, 0, 7, 58, 4, 4, 172, 3, 172]
abbrev dktX0_filesOf_0 : List UInt8 := dkwX0_filesOf_0 ++ []
theorem dksX0_filesOf_0 : cX0_filesOf.data.toList.drop 0 = dktX0_filesOf_0 := by decide +kernel
theorem dX0_filesOf_0 : decode cX0_filesOf 0 = .ok (.aload_n 3, 1) := dk_45 (dk_at dksX0_filesOf_0 0 rfl rfl)
theorem dX0_filesOf_1 : decode cX0_filesOf 1 = .ok (.iconst 0, 1) := dk_3 (dk_at dksX0_filesOf_0 1 rfl rfl)
theorem dX0_filesOf_2 : decode cX0_filesOf 2 = .ok (.aload_n 0, 1) := dk_42 (dk_at dksX0_filesOf_0 2 rfl rfl)
theorem dX0_filesOf_3 : decode cX0_filesOf 3 = .ok (.iload_n 1, 1) := dk_27 (dk_at dksX0_filesOf_0 3 rfl rfl)
theorem dX0_filesOf_4 : decode cX0_filesOf 4 = .ok (.iload_n 2, 1) := dk_28 (dk_at dksX0_filesOf_0 4 rfl rfl)
theorem dX0_filesOf_5 : decode cX0_filesOf 5 = .ok (.invokevirtual 63, 3) := dk_182 0 63 (dk_at dksX0_filesOf_0 5 rfl rfl)
theorem dX0_filesOf_8 : decode cX0_filesOf 8 = .ok (.i2l, 1) := dk_133 (dk_at dksX0_filesOf_0 8 rfl rfl)
theorem dX0_filesOf_9 : decode cX0_filesOf 9 = .ok (.lastore, 1) := dk_80 (dk_at dksX0_filesOf_0 9 rfl rfl)
theorem dX0_filesOf_10 : decode cX0_filesOf 10 = .ok (.goto 7, 3) := dk_167 0 7 (dk_at dksX0_filesOf_0 10 rfl rfl)
theorem dX0_filesOf_13 : decode cX0_filesOf 13 = .ok (.astore 4, 2) := dk_58 4 (dk_at dksX0_filesOf_0 13 rfl rfl)
theorem dX0_filesOf_15 : decode cX0_filesOf 15 = .ok (.iconst 1, 1) := dk_4 (dk_at dksX0_filesOf_0 15 rfl rfl)
theorem dX0_filesOf_16 : decode cX0_filesOf 16 = .ok (.ireturn, 1) := dk_172 (dk_at dksX0_filesOf_0 16 rfl rfl)
theorem dX0_filesOf_17 : decode cX0_filesOf 17 = .ok (.iconst 0, 1) := dk_3 (dk_at dksX0_filesOf_0 17 rfl rfl)
theorem dX0_filesOf_18 : decode cX0_filesOf 18 = .ok (.ireturn, 1) := dk_172 (dk_at dksX0_filesOf_0 18 rfl rfl)
abbrev cX0_usedByFiles : ByteArray := method_18_code
def yX0_usedByFiles : MethodName := ⟨RX0, "usedByFiles", "(LAllotmentLedger;II[J)I"⟩
def dkwX0_usedByFiles_0 : List UInt8 := [45, 3, 42, 27, 28, 182, 0, 66, 133, 80, 167, 0, 7, 58, 4, 4, 172, 3, 172]
abbrev dktX0_usedByFiles_0 : List UInt8 := dkwX0_usedByFiles_0 ++ []
theorem dksX0_usedByFiles_0 : cX0_usedByFiles.data.toList.drop 0 = dktX0_usedByFiles_0 := by decide +kernel
theorem dX0_usedByFiles_0 : decode cX0_usedByFiles 0 = .ok (.aload_n 3, 1) := dk_45 (dk_at dksX0_usedByFiles_0 0 rfl rfl)
theorem dX0_usedByFiles_1 : decode cX0_usedByFiles 1 = .ok (.iconst 0, 1) := dk_3 (dk_at dksX0_usedByFiles_0 1 rfl rfl)
theorem dX0_usedByFiles_2 : decode cX0_usedByFiles 2 = .ok (.aload_n 0, 1) := dk_42 (dk_at dksX0_usedByFiles_0 2 rfl rfl)
theorem dX0_usedByFiles_3 : decode cX0_usedByFiles 3 = .ok (.iload_n 1, 1) := dk_27 (dk_at dksX0_usedByFiles_0 3 rfl rfl)
theorem dX0_usedByFiles_4 : decode cX0_usedByFiles 4 = .ok (.iload_n 2, 1) := dk_28 (dk_at dksX0_usedByFiles_0 4 rfl rfl)
theorem dX0_usedByFiles_5 : decode cX0_usedByFiles 5 = .ok (.invokevirtual 66, 3) := dk_182 0 66 (dk_at dksX0_usedByFiles_0 5 rfl rfl)
theorem dX0_usedByFiles_8 : decode cX0_usedByFiles 8 = .ok (.i2l, 1) := dk_133 (dk_at dksX0_usedByFiles_0 8 rfl rfl)
theorem dX0_usedByFiles_9 : decode cX0_usedByFiles 9 = .ok (.lastore, 1) := dk_80 (dk_at dksX0_usedByFiles_0 9 rfl rfl)
theorem dX0_usedByFiles_10 : decode cX0_usedByFiles 10 = .ok (.goto 7, 3) := dk_167 0 7 (dk_at dksX0_usedByFiles_0 10 rfl rfl)
theorem dX0_usedByFiles_13 : decode cX0_usedByFiles 13 = .ok (.astore 4, 2) := dk_58 4 (dk_at dksX0_usedByFiles_0 13 rfl rfl)
theorem dX0_usedByFiles_15 : decode cX0_usedByFiles 15 = .ok (.iconst 1, 1) := dk_4 (dk_at dksX0_usedByFiles_0 15 rfl rfl)
theorem dX0_usedByFiles_16 : decode cX0_usedByFiles 16 = .ok (.ireturn, 1) := dk_172 (dk_at dksX0_usedByFiles_0 16 rfl rfl)
theorem dX0_usedByFiles_17 : decode cX0_usedByFiles 17 = .ok (.iconst 0, 1) := dk_3 (dk_at dksX0_usedByFiles_0 17 rfl rfl)
theorem dX0_usedByFiles_18 : decode cX0_usedByFiles 18 = .ok (.ireturn, 1) := dk_172 (dk_at dksX0_usedByFiles_0 18 rfl rfl)
abbrev cX0_grace : ByteArray := method_19_code
def yX0_grace : MethodName := ⟨RX0, "grace", "(LAllotmentLedger;II[J)I"⟩
def dkwX0_grace_0 : List UInt8 := [45, 3, 42, 27, 28, 182, 0, 69, 133, 80, 167, 0, 7, 58, 4, 4, 172, 3, 172]
abbrev dktX0_grace_0 : List UInt8 := dkwX0_grace_0 ++ []
theorem dksX0_grace_0 : cX0_grace.data.toList.drop 0 = dktX0_grace_0 := by decide +kernel
theorem dX0_grace_0 : decode cX0_grace 0 = .ok (.aload_n 3, 1) := dk_45 (dk_at dksX0_grace_0 0 rfl rfl)
theorem dX0_grace_1 : decode cX0_grace 1 = .ok (.iconst 0, 1) := dk_3 (dk_at dksX0_grace_0 1 rfl rfl)
theorem dX0_grace_2 : decode cX0_grace 2 = .ok (.aload_n 0, 1) := dk_42 (dk_at dksX0_grace_0 2 rfl rfl)
theorem dX0_grace_3 : decode cX0_grace 3 = .ok (.iload_n 1, 1) := dk_27 (dk_at dksX0_grace_0 3 rfl rfl)
theorem dX0_grace_4 : decode cX0_grace 4 = .ok (.iload_n 2, 1) := dk_28 (dk_at dksX0_grace_0 4 rfl rfl)
theorem dX0_grace_5 : decode cX0_grace 5 = .ok (.invokevirtual 69, 3) := dk_182 0 69 (dk_at dksX0_grace_0 5 rfl rfl)
theorem dX0_grace_8 : decode cX0_grace 8 = .ok (.i2l, 1) := dk_133 (dk_at dksX0_grace_0 8 rfl rfl)
theorem dX0_grace_9 : decode cX0_grace 9 = .ok (.lastore, 1) := dk_80 (dk_at dksX0_grace_0 9 rfl rfl)
theorem dX0_grace_10 : decode cX0_grace 10 = .ok (.goto 7, 3) := dk_167 0 7 (dk_at dksX0_grace_0 10 rfl rfl)
theorem dX0_grace_13 : decode cX0_grace 13 = .ok (.astore 4, 2) := dk_58 4 (dk_at dksX0_grace_0 13 rfl rfl)
theorem dX0_grace_15 : decode cX0_grace 15 = .ok (.iconst 1, 1) := dk_4 (dk_at dksX0_grace_0 15 rfl rfl)
theorem dX0_grace_16 : decode cX0_grace 16 = .ok (.ireturn, 1) := dk_172 (dk_at dksX0_grace_0 16 rfl rfl)
theorem dX0_grace_17 : decode cX0_grace 17 = .ok (.iconst 0, 1) := dk_3 (dk_at dksX0_grace_0 17 rfl rfl)
theorem dX0_grace_18 : decode cX0_grace 18 = .ok (.ireturn, 1) := dk_172 (dk_at dksX0_grace_0 18 rfl rfl)
abbrev cX0_room : ByteArray := method_20_code
def yX0_room : MethodName := ⟨RX0, "room", "(LAllotmentLedger;I[J)I"⟩
def dkwX0_room_0 : List UInt8 := [44, 3, 42, 27, 182, 0, 72, 133, 80, 167, 0, 6, 78, 4, 172, 3, 172]
abbrev dktX0_room_0 : List UInt8 := dkwX0_room_0 ++ []
theorem dksX0_room_0 : cX0_room.data.toList.drop 0 = dktX0_room_0 := by decide +kernel
theorem dX0_room_0 : decode cX0_room 0 = .ok (.aload_n 2, 1) := dk_44 (dk_at dksX0_room_0 0 rfl rfl)
theorem dX0_room_1 : decode cX0_room 1 = .ok (.iconst 0, 1) := dk_3 (dk_at dksX0_room_0 1 rfl rfl)
theorem dX0_room_2 : decode cX0_room 2 = .ok (.aload_n 0, 1) := dk_42 (dk_at dksX0_room_0 2 rfl rfl)
theorem dX0_room_3 : decode cX0_room 3 = .ok (.iload_n 1, 1) := dk_27 (dk_at dksX0_room_0 3 rfl rfl)
theorem dX0_room_4 : decode cX0_room 4 = .ok (.invokevirtual 72, 3) := dk_182 0 72 (dk_at dksX0_room_0 4 rfl rfl)
theorem dX0_room_7 : decode cX0_room 7 = .ok (.i2l, 1) := dk_133 (dk_at dksX0_room_0 7 rfl rfl)
theorem dX0_room_8 : decode cX0_room 8 = .ok (.lastore, 1) := dk_80 (dk_at dksX0_room_0 8 rfl rfl)
theorem dX0_room_9 : decode cX0_room 9 = .ok (.goto 6, 3) := dk_167 0 6 (dk_at dksX0_room_0 9 rfl rfl)
theorem dX0_room_12 : decode cX0_room 12 = .ok (.astore_n 3, 1) := dk_78 (dk_at dksX0_room_0 12 rfl rfl)
theorem dX0_room_13 : decode cX0_room 13 = .ok (.iconst 1, 1) := dk_4 (dk_at dksX0_room_0 13 rfl rfl)
theorem dX0_room_14 : decode cX0_room 14 = .ok (.ireturn, 1) := dk_172 (dk_at dksX0_room_0 14 rfl rfl)
theorem dX0_room_15 : decode cX0_room 15 = .ok (.iconst 0, 1) := dk_3 (dk_at dksX0_room_0 15 rfl rfl)
theorem dX0_room_16 : decode cX0_room 16 = .ok (.ireturn, 1) := dk_172 (dk_at dksX0_room_0 16 rfl rfl)
abbrev cX0_recount : ByteArray := method_21_code
def yX0_recount : MethodName := ⟨RX0, "recount", "(LAllotmentLedger;I[J)I"⟩
def dkwX0_recount_0 : List UInt8 := [44, 3, 42, 27, 182, 0, 75, 133, 80, 167, 0, 9, 78, 4, 172, 78, 5, 172, 3, 172]
abbrev dktX0_recount_0 : List UInt8 := dkwX0_recount_0 ++ []
theorem dksX0_recount_0 : cX0_recount.data.toList.drop 0 = dktX0_recount_0 := by decide +kernel
theorem dX0_recount_0 : decode cX0_recount 0 = .ok (.aload_n 2, 1) := dk_44 (dk_at dksX0_recount_0 0 rfl rfl)
theorem dX0_recount_1 : decode cX0_recount 1 = .ok (.iconst 0, 1) := dk_3 (dk_at dksX0_recount_0 1 rfl rfl)
theorem dX0_recount_2 : decode cX0_recount 2 = .ok (.aload_n 0, 1) := dk_42 (dk_at dksX0_recount_0 2 rfl rfl)
theorem dX0_recount_3 : decode cX0_recount 3 = .ok (.iload_n 1, 1) := dk_27 (dk_at dksX0_recount_0 3 rfl rfl)
theorem dX0_recount_4 : decode cX0_recount 4 = .ok (.invokevirtual 75, 3) := dk_182 0 75 (dk_at dksX0_recount_0 4 rfl rfl)
theorem dX0_recount_7 : decode cX0_recount 7 = .ok (.i2l, 1) := dk_133 (dk_at dksX0_recount_0 7 rfl rfl)
theorem dX0_recount_8 : decode cX0_recount 8 = .ok (.lastore, 1) := dk_80 (dk_at dksX0_recount_0 8 rfl rfl)
theorem dX0_recount_9 : decode cX0_recount 9 = .ok (.goto 9, 3) := dk_167 0 9 (dk_at dksX0_recount_0 9 rfl rfl)
theorem dX0_recount_12 : decode cX0_recount 12 = .ok (.astore_n 3, 1) := dk_78 (dk_at dksX0_recount_0 12 rfl rfl)
theorem dX0_recount_13 : decode cX0_recount 13 = .ok (.iconst 1, 1) := dk_4 (dk_at dksX0_recount_0 13 rfl rfl)
theorem dX0_recount_14 : decode cX0_recount 14 = .ok (.ireturn, 1) := dk_172 (dk_at dksX0_recount_0 14 rfl rfl)
theorem dX0_recount_15 : decode cX0_recount 15 = .ok (.astore_n 3, 1) := dk_78 (dk_at dksX0_recount_0 15 rfl rfl)
theorem dX0_recount_16 : decode cX0_recount 16 = .ok (.iconst 2, 1) := dk_5 (dk_at dksX0_recount_0 16 rfl rfl)
theorem dX0_recount_17 : decode cX0_recount 17 = .ok (.ireturn, 1) := dk_172 (dk_at dksX0_recount_0 17 rfl rfl)
theorem dX0_recount_18 : decode cX0_recount 18 = .ok (.iconst 0, 1) := dk_3 (dk_at dksX0_recount_0 18 rfl rfl)
theorem dX0_recount_19 : decode cX0_recount 19 = .ok (.ireturn, 1) := dk_172 (dk_at dksX0_recount_0 19 rfl rfl)
abbrev cX0_counted : ByteArray := method_22_code
def yX0_counted : MethodName := ⟨RX0, "counted", "(LAllotmentLedger;II[J)I"⟩
def dkwX0_counted_0 : List UInt8 := [45, 3, 42, 27, 28, 182, 0, 78, 133, 80, 167, 0, 11, 58, 4, 4, 172, 58, 4, 5, 172, 3, 172]
abbrev dktX0_counted_0 : List UInt8 := dkwX0_counted_0 ++ []
theorem dksX0_counted_0 : cX0_counted.data.toList.drop 0 = dktX0_counted_0 := by decide +kernel
theorem dX0_counted_0 : decode cX0_counted 0 = .ok (.aload_n 3, 1) := dk_45 (dk_at dksX0_counted_0 0 rfl rfl)
theorem dX0_counted_1 : decode cX0_counted 1 = .ok (.iconst 0, 1) := dk_3 (dk_at dksX0_counted_0 1 rfl rfl)
theorem dX0_counted_2 : decode cX0_counted 2 = .ok (.aload_n 0, 1) := dk_42 (dk_at dksX0_counted_0 2 rfl rfl)
theorem dX0_counted_3 : decode cX0_counted 3 = .ok (.iload_n 1, 1) := dk_27 (dk_at dksX0_counted_0 3 rfl rfl)
theorem dX0_counted_4 : decode cX0_counted 4 = .ok (.iload_n 2, 1) := dk_28 (dk_at dksX0_counted_0 4 rfl rfl)
theorem dX0_counted_5 : decode cX0_counted 5 = .ok (.invokevirtual 78, 3) := dk_182 0 78 (dk_at dksX0_counted_0 5 rfl rfl)
theorem dX0_counted_8 : decode cX0_counted 8 = .ok (.i2l, 1) := dk_133 (dk_at dksX0_counted_0 8 rfl rfl)
theorem dX0_counted_9 : decode cX0_counted 9 = .ok (.lastore, 1) := dk_80 (dk_at dksX0_counted_0 9 rfl rfl)
theorem dX0_counted_10 : decode cX0_counted 10 = .ok (.goto 11, 3) := dk_167 0 11 (dk_at dksX0_counted_0 10 rfl rfl)
theorem dX0_counted_13 : decode cX0_counted 13 = .ok (.astore 4, 2) := dk_58 4 (dk_at dksX0_counted_0 13 rfl rfl)
theorem dX0_counted_15 : decode cX0_counted 15 = .ok (.iconst 1, 1) := dk_4 (dk_at dksX0_counted_0 15 rfl rfl)
theorem dX0_counted_16 : decode cX0_counted 16 = .ok (.ireturn, 1) := dk_172 (dk_at dksX0_counted_0 16 rfl rfl)
theorem dX0_counted_17 : decode cX0_counted 17 = .ok (.astore 4, 2) := dk_58 4 (dk_at dksX0_counted_0 17 rfl rfl)
theorem dX0_counted_19 : decode cX0_counted 19 = .ok (.iconst 2, 1) := dk_5 (dk_at dksX0_counted_0 19 rfl rfl)
theorem dX0_counted_20 : decode cX0_counted 20 = .ok (.ireturn, 1) := dk_172 (dk_at dksX0_counted_0 20 rfl rfl)
theorem dX0_counted_21 : decode cX0_counted 21 = .ok (.iconst 0, 1) := dk_3 (dk_at dksX0_counted_0 21 rfl rfl)
theorem dX0_counted_22 : decode cX0_counted 22 = .ok (.ireturn, 1) := dk_172 (dk_at dksX0_counted_0 22 rfl rfl)
theorem q35 : (Jvm.Cond.initialized "AllotmentLedgerLaw") ∈ lw_all := lw_g (lw_at lw_m1 0 rfl) rfl
theorem q69 : (Jvm.Cond.classLink "AllotmentLedgerLaw" (8 : Nat) "AllotmentLedger") ∈ lw_all := lw_g (lw_at lw_m1 34 rfl) rfl
theorem q71 : (Jvm.Cond.methodLink "AllotmentLedgerLaw" (81 : Nat) ({ cls := "AllotmentLedger", name := "<init>", desc := "()V" } : Jvm.MethodName)) ∈ lw_all := lw_g (lw_at lw_m1 36 rfl) rfl
theorem q281 : (Jvm.Cond.methodLink "AllotmentLedgerLaw" (98 : Nat) ({ cls := "AllotmentLedger", name := "clearPath", desc := "()I" } : Jvm.MethodName)) ∈ lw_all := lw_g (lw_at lw_m2 6 rfl) rfl
theorem q614 : (Jvm.Cond.methodLink "AllotmentLedgerLaw" (105 : Nat) ({ cls := "AllotmentLedger", name := "findProject", desc := "()I" } : Jvm.MethodName)) ∈ lw_all := lw_g (lw_at lw_m3 99 rfl) rfl
theorem q832 : (Jvm.Cond.methodLink "AllotmentLedgerLaw" (117 : Nat) ({ cls := "AllotmentLedger", name := "projects", desc := "()I" } : Jvm.MethodName)) ∈ lw_all := lw_g (lw_at lw_m4 77 rfl) rfl
theorem q836 : (Jvm.Cond.methodLink "AllotmentLedgerLaw" (161 : Nat) ({ cls := "AllotmentLedger", name := "beginRecount", desc := "()I" } : Jvm.MethodName)) ∈ lw_all := lw_g (lw_at lw_m4 81 rfl) rfl
theorem q840 : (Jvm.Cond.methodLink "AllotmentLedgerLaw" (85 : Nat) ({ cls := "AllotmentLedgerLaw", name := "type", desc := "(LAllotmentLedger;C[J)I" } : Jvm.MethodName)) ∈ lw_all := lw_g (lw_at lw_m4 85 rfl) rfl
theorem q841 : (Jvm.Cond.static ({ cls := "AllotmentLedgerLaw", name := "type", desc := "(LAllotmentLedger;C[J)I" } : Jvm.MethodName)) ∈ lw_all := lw_g (lw_at lw_m4 86 rfl) rfl
theorem q842 : (Jvm.Cond.codeWith ({ cls := "AllotmentLedgerLaw", name := "type", desc := "(LAllotmentLedger;C[J)I" } : Jvm.MethodName) method_3_code (4 : Nat) (Option.some Jvm.ClassFile.FieldType.int) [((0 : Nat), (9 : Nat), (12 : Nat), (13 : Nat)), ((0 : Nat), (9 : Nat), (15 : Nat), (15 : Nat))]) ∈ lw_all := lw_g (lw_at lw_m4 87 rfl) rfl
theorem q843 : (Jvm.Cond.classLink "AllotmentLedgerLaw" (13 : Nat) "java/lang/IllegalArgumentException") ∈ lw_all := lw_g (lw_at lw_m4 88 rfl) rfl
theorem q844 : (Jvm.Cond.classLink "AllotmentLedgerLaw" (15 : Nat) "java/lang/IllegalStateException") ∈ lw_all := lw_g (lw_at lw_m4 89 rfl) rfl
theorem q845 : (Jvm.Cond.methodLink "AllotmentLedgerLaw" (7 : Nat) ({ cls := "AllotmentLedger", name := "type", desc := "(C)I" } : Jvm.MethodName)) ∈ lw_all := lw_g (lw_at lw_m4 90 rfl) rfl
theorem q894 : (Jvm.Cond.methodLink "AllotmentLedgerLaw" (94 : Nat) ({ cls := "AllotmentLedgerLaw", name := "back", desc := "(LAllotmentLedger;[J)I" } : Jvm.MethodName)) ∈ lw_all := lw_g (lw_at lw_m4 139 rfl) rfl
theorem q895 : (Jvm.Cond.static ({ cls := "AllotmentLedgerLaw", name := "back", desc := "(LAllotmentLedger;[J)I" } : Jvm.MethodName)) ∈ lw_all := lw_g (lw_at lw_m4 140 rfl) rfl
theorem q896 : (Jvm.Cond.codeWith ({ cls := "AllotmentLedgerLaw", name := "back", desc := "(LAllotmentLedger;[J)I" } : Jvm.MethodName) method_4_code (3 : Nat) (Option.some Jvm.ClassFile.FieldType.int) [((0 : Nat), (8 : Nat), (11 : Nat), (15 : Nat))]) ∈ lw_all := lw_g (lw_at lw_m4 141 rfl) rfl
theorem q897 : (Jvm.Cond.methodLink "AllotmentLedgerLaw" (17 : Nat) ({ cls := "AllotmentLedger", name := "back", desc := "()I" } : Jvm.MethodName)) ∈ lw_all := lw_g (lw_at lw_m4 142 rfl) rfl
theorem q913 : (Jvm.Cond.methodLink "AllotmentLedgerLaw" (102 : Nat) ({ cls := "AllotmentLedgerLaw", name := "makeProject", desc := "(LAllotmentLedger;[J)I" } : Jvm.MethodName)) ∈ lw_all := lw_g (lw_at lw_m4 158 rfl) rfl
theorem q914 : (Jvm.Cond.static ({ cls := "AllotmentLedgerLaw", name := "makeProject", desc := "(LAllotmentLedger;[J)I" } : Jvm.MethodName)) ∈ lw_all := lw_g (lw_at lw_m4 159 rfl) rfl
theorem q915 : (Jvm.Cond.codeWith ({ cls := "AllotmentLedgerLaw", name := "makeProject", desc := "(LAllotmentLedger;[J)I" } : Jvm.MethodName) method_5_code (3 : Nat) (Option.some Jvm.ClassFile.FieldType.int) [((0 : Nat), (8 : Nat), (11 : Nat), (15 : Nat))]) ∈ lw_all := lw_g (lw_at lw_m4 160 rfl) rfl
theorem q916 : (Jvm.Cond.methodLink "AllotmentLedgerLaw" (21 : Nat) ({ cls := "AllotmentLedger", name := "makeProject", desc := "()I" } : Jvm.MethodName)) ∈ lw_all := lw_g (lw_at lw_m4 161 rfl) rfl
theorem q948 : (Jvm.Cond.methodLink "AllotmentLedgerLaw" (109 : Nat) ({ cls := "AllotmentLedgerLaw", name := "moveProject", desc := "(LAllotmentLedger;I[J)I" } : Jvm.MethodName)) ∈ lw_all := lw_g (lw_at lw_m4 193 rfl) rfl
theorem q949 : (Jvm.Cond.static ({ cls := "AllotmentLedgerLaw", name := "moveProject", desc := "(LAllotmentLedger;I[J)I" } : Jvm.MethodName)) ∈ lw_all := lw_g (lw_at lw_m4 194 rfl) rfl
theorem q950 : (Jvm.Cond.codeWith ({ cls := "AllotmentLedgerLaw", name := "moveProject", desc := "(LAllotmentLedger;I[J)I" } : Jvm.MethodName) method_6_code (4 : Nat) (Option.some Jvm.ClassFile.FieldType.int) [((0 : Nat), (9 : Nat), (12 : Nat), (28 : Nat)), ((0 : Nat), (9 : Nat), (15 : Nat), (15 : Nat))]) ∈ lw_all := lw_g (lw_at lw_m4 195 rfl) rfl
theorem q951 : (Jvm.Cond.classLink "AllotmentLedgerLaw" (28 : Nat) "java/lang/IndexOutOfBoundsException") ∈ lw_all := lw_g (lw_at lw_m4 196 rfl) rfl
theorem q954 : (Jvm.Cond.methodLink "AllotmentLedgerLaw" (24 : Nat) ({ cls := "AllotmentLedger", name := "moveProject", desc := "(I)I" } : Jvm.MethodName)) ∈ lw_all := lw_g (lw_at lw_m4 199 rfl) rfl
theorem q1072 : (Jvm.Cond.methodLink "AllotmentLedgerLaw" (113 : Nat) ({ cls := "AllotmentLedgerLaw", name := "letterAt", desc := "(LAllotmentLedger;II[J)I" } : Jvm.MethodName)) ∈ lw_all := lw_g (lw_at lw_m5 77 rfl) rfl
theorem q1073 : (Jvm.Cond.static ({ cls := "AllotmentLedgerLaw", name := "letterAt", desc := "(LAllotmentLedger;II[J)I" } : Jvm.MethodName)) ∈ lw_all := lw_g (lw_at lw_m5 78 rfl) rfl
theorem q1074 : (Jvm.Cond.codeWith ({ cls := "AllotmentLedgerLaw", name := "letterAt", desc := "(LAllotmentLedger;II[J)I" } : Jvm.MethodName) method_7_code (5 : Nat) (Option.some Jvm.ClassFile.FieldType.int) [((0 : Nat), (10 : Nat), (13 : Nat), (28 : Nat))]) ∈ lw_all := lw_g (lw_at lw_m5 79 rfl) rfl
theorem q1075 : (Jvm.Cond.methodLink "AllotmentLedgerLaw" (30 : Nat) ({ cls := "AllotmentLedger", name := "letterAt", desc := "(II)C" } : Jvm.MethodName)) ∈ lw_all := lw_g (lw_at lw_m5 80 rfl) rfl
theorem q1080 : (Jvm.Cond.methodLink "AllotmentLedgerLaw" (121 : Nat) ({ cls := "AllotmentLedgerLaw", name := "makeFile", desc := "(LAllotmentLedger;II[J)I" } : Jvm.MethodName)) ∈ lw_all := lw_g (lw_at lw_m5 85 rfl) rfl
theorem q1081 : (Jvm.Cond.static ({ cls := "AllotmentLedgerLaw", name := "makeFile", desc := "(LAllotmentLedger;II[J)I" } : Jvm.MethodName)) ∈ lw_all := lw_g (lw_at lw_m5 86 rfl) rfl
theorem q1082 : (Jvm.Cond.codeWith ({ cls := "AllotmentLedgerLaw", name := "makeFile", desc := "(LAllotmentLedger;II[J)I" } : Jvm.MethodName) method_8_code (5 : Nat) (Option.some Jvm.ClassFile.FieldType.int) [((0 : Nat), (10 : Nat), (13 : Nat), (28 : Nat)), ((0 : Nat), (10 : Nat), (17 : Nat), (15 : Nat))]) ∈ lw_all := lw_g (lw_at lw_m5 87 rfl) rfl
theorem q1083 : (Jvm.Cond.methodLink "AllotmentLedgerLaw" (34 : Nat) ({ cls := "AllotmentLedger", name := "makeFile", desc := "(II)I" } : Jvm.MethodName)) ∈ lw_all := lw_g (lw_at lw_m5 88 rfl) rfl
theorem q1122 : (Jvm.Cond.methodLink "AllotmentLedgerLaw" (124 : Nat) ({ cls := "AllotmentLedgerLaw", name := "write", desc := "(LAllotmentLedger;II[J)I" } : Jvm.MethodName)) ∈ lw_all := lw_g (lw_at lw_m5 127 rfl) rfl
theorem q1123 : (Jvm.Cond.static ({ cls := "AllotmentLedgerLaw", name := "write", desc := "(LAllotmentLedger;II[J)I" } : Jvm.MethodName)) ∈ lw_all := lw_g (lw_at lw_m5 128 rfl) rfl
theorem q1124 : (Jvm.Cond.codeWith ({ cls := "AllotmentLedgerLaw", name := "write", desc := "(LAllotmentLedger;II[J)I" } : Jvm.MethodName) method_9_code (5 : Nat) (Option.some Jvm.ClassFile.FieldType.int) [((0 : Nat), (10 : Nat), (13 : Nat), (28 : Nat)), ((0 : Nat), (10 : Nat), (17 : Nat), (13 : Nat))]) ∈ lw_all := lw_g (lw_at lw_m5 129 rfl) rfl
theorem q1125 : (Jvm.Cond.methodLink "AllotmentLedgerLaw" (38 : Nat) ({ cls := "AllotmentLedger", name := "write", desc := "(II)I" } : Jvm.MethodName)) ∈ lw_all := lw_g (lw_at lw_m5 130 rfl) rfl
theorem q1153 : (Jvm.Cond.methodLink "AllotmentLedgerLaw" (127 : Nat) ({ cls := "AllotmentLedgerLaw", name := "delete", desc := "(LAllotmentLedger;I[J)I" } : Jvm.MethodName)) ∈ lw_all := lw_g (lw_at lw_m5 158 rfl) rfl
theorem q1154 : (Jvm.Cond.static ({ cls := "AllotmentLedgerLaw", name := "delete", desc := "(LAllotmentLedger;I[J)I" } : Jvm.MethodName)) ∈ lw_all := lw_g (lw_at lw_m5 159 rfl) rfl
theorem q1155 : (Jvm.Cond.codeWith ({ cls := "AllotmentLedgerLaw", name := "delete", desc := "(LAllotmentLedger;I[J)I" } : Jvm.MethodName) method_10_code (4 : Nat) (Option.some Jvm.ClassFile.FieldType.int) [((0 : Nat), (9 : Nat), (12 : Nat), (28 : Nat))]) ∈ lw_all := lw_g (lw_at lw_m5 160 rfl) rfl
theorem q1156 : (Jvm.Cond.methodLink "AllotmentLedgerLaw" (41 : Nat) ({ cls := "AllotmentLedger", name := "delete", desc := "(I)I" } : Jvm.MethodName)) ∈ lw_all := lw_g (lw_at lw_m5 161 rfl) rfl
theorem q1161 : (Jvm.Cond.methodLink "AllotmentLedgerLaw" (130 : Nat) ({ cls := "AllotmentLedgerLaw", name := "moveFile", desc := "(LAllotmentLedger;II[J)I" } : Jvm.MethodName)) ∈ lw_all := lw_g (lw_at lw_m5 166 rfl) rfl
theorem q1162 : (Jvm.Cond.static ({ cls := "AllotmentLedgerLaw", name := "moveFile", desc := "(LAllotmentLedger;II[J)I" } : Jvm.MethodName)) ∈ lw_all := lw_g (lw_at lw_m5 167 rfl) rfl
theorem q1163 : (Jvm.Cond.codeWith ({ cls := "AllotmentLedgerLaw", name := "moveFile", desc := "(LAllotmentLedger;II[J)I" } : Jvm.MethodName) method_11_code (5 : Nat) (Option.some Jvm.ClassFile.FieldType.int) [((0 : Nat), (10 : Nat), (13 : Nat), (28 : Nat))]) ∈ lw_all := lw_g (lw_at lw_m5 168 rfl) rfl
theorem q1164 : (Jvm.Cond.methodLink "AllotmentLedgerLaw" (44 : Nat) ({ cls := "AllotmentLedger", name := "moveFile", desc := "(II)I" } : Jvm.MethodName)) ∈ lw_all := lw_g (lw_at lw_m5 169 rfl) rfl
theorem q1168 : (Jvm.Cond.methodLink "AllotmentLedgerLaw" (133 : Nat) ({ cls := "AllotmentLedgerLaw", name := "reserve", desc := "(LAllotmentLedger;II[J)I" } : Jvm.MethodName)) ∈ lw_all := lw_g (lw_at lw_m5 173 rfl) rfl
theorem q1169 : (Jvm.Cond.static ({ cls := "AllotmentLedgerLaw", name := "reserve", desc := "(LAllotmentLedger;II[J)I" } : Jvm.MethodName)) ∈ lw_all := lw_g (lw_at lw_m5 174 rfl) rfl
theorem q1170 : (Jvm.Cond.codeWith ({ cls := "AllotmentLedgerLaw", name := "reserve", desc := "(LAllotmentLedger;II[J)I" } : Jvm.MethodName) method_12_code (5 : Nat) (Option.some Jvm.ClassFile.FieldType.int) [((0 : Nat), (10 : Nat), (13 : Nat), (28 : Nat)), ((0 : Nat), (10 : Nat), (17 : Nat), (13 : Nat)), ((0 : Nat), (10 : Nat), (21 : Nat), (15 : Nat))]) ∈ lw_all := lw_g (lw_at lw_m5 175 rfl) rfl
theorem q1171 : (Jvm.Cond.methodLink "AllotmentLedgerLaw" (47 : Nat) ({ cls := "AllotmentLedger", name := "reserve", desc := "(II)I" } : Jvm.MethodName)) ∈ lw_all := lw_g (lw_at lw_m5 176 rfl) rfl
theorem q1192 : (Jvm.Cond.methodLink "AllotmentLedgerLaw" (136 : Nat) ({ cls := "AllotmentLedgerLaw", name := "settle", desc := "(LAllotmentLedger;II[J)I" } : Jvm.MethodName)) ∈ lw_all := lw_g (lw_at lw_m5 197 rfl) rfl
theorem q1193 : (Jvm.Cond.static ({ cls := "AllotmentLedgerLaw", name := "settle", desc := "(LAllotmentLedger;II[J)I" } : Jvm.MethodName)) ∈ lw_all := lw_g (lw_at lw_m5 198 rfl) rfl
theorem q1194 : (Jvm.Cond.codeWith ({ cls := "AllotmentLedgerLaw", name := "settle", desc := "(LAllotmentLedger;II[J)I" } : Jvm.MethodName) method_13_code (5 : Nat) (Option.some Jvm.ClassFile.FieldType.int) [((0 : Nat), (10 : Nat), (13 : Nat), (28 : Nat)), ((0 : Nat), (10 : Nat), (17 : Nat), (13 : Nat))]) ∈ lw_all := lw_g (lw_at lw_m5 199 rfl) rfl
theorem q1195 : (Jvm.Cond.methodLink "AllotmentLedgerLaw" (50 : Nat) ({ cls := "AllotmentLedger", name := "settle", desc := "(II)I" } : Jvm.MethodName)) ∈ lw_all := lw_g (lw_at lw_m5 200 rfl) rfl
theorem q1199 : (Jvm.Cond.methodLink "AllotmentLedgerLaw" (139 : Nat) ({ cls := "AllotmentLedgerLaw", name := "setLimits", desc := "(LAllotmentLedger;IIIII)I" } : Jvm.MethodName)) ∈ lw_all := lw_g (lw_at lw_m5 204 rfl) rfl
theorem q1200 : (Jvm.Cond.static ({ cls := "AllotmentLedgerLaw", name := "setLimits", desc := "(LAllotmentLedger;IIIII)I" } : Jvm.MethodName)) ∈ lw_all := lw_g (lw_at lw_m5 205 rfl) rfl
theorem q1201 : (Jvm.Cond.codeWith ({ cls := "AllotmentLedgerLaw", name := "setLimits", desc := "(LAllotmentLedger;IIIII)I" } : Jvm.MethodName) method_14_code (7 : Nat) (Option.some Jvm.ClassFile.FieldType.int) [((0 : Nat), (11 : Nat), (14 : Nat), (28 : Nat)), ((0 : Nat), (11 : Nat), (18 : Nat), (13 : Nat))]) ∈ lw_all := lw_g (lw_at lw_m5 206 rfl) rfl
theorem q1202 : (Jvm.Cond.methodLink "AllotmentLedgerLaw" (53 : Nat) ({ cls := "AllotmentLedger", name := "setLimits", desc := "(IIIII)V" } : Jvm.MethodName)) ∈ lw_all := lw_g (lw_at lw_m5 207 rfl) rfl
theorem q1211 : (Jvm.Cond.methodLink "AllotmentLedgerLaw" (143 : Nat) ({ cls := "AllotmentLedgerLaw", name := "pass", desc := "(LAllotmentLedger;I[J)I" } : Jvm.MethodName)) ∈ lw_all := lw_g (lw_at lw_m5 216 rfl) rfl
theorem q1212 : (Jvm.Cond.static ({ cls := "AllotmentLedgerLaw", name := "pass", desc := "(LAllotmentLedger;I[J)I" } : Jvm.MethodName)) ∈ lw_all := lw_g (lw_at lw_m5 217 rfl) rfl
theorem q1213 : (Jvm.Cond.codeWith ({ cls := "AllotmentLedgerLaw", name := "pass", desc := "(LAllotmentLedger;I[J)I" } : Jvm.MethodName) method_15_code (4 : Nat) (Option.some Jvm.ClassFile.FieldType.int) [((0 : Nat), (9 : Nat), (12 : Nat), (13 : Nat)), ((0 : Nat), (9 : Nat), (15 : Nat), (15 : Nat))]) ∈ lw_all := lw_g (lw_at lw_m5 218 rfl) rfl
theorem q1214 : (Jvm.Cond.methodLink "AllotmentLedgerLaw" (57 : Nat) ({ cls := "AllotmentLedger", name := "pass", desc := "(I)I" } : Jvm.MethodName)) ∈ lw_all := lw_g (lw_at lw_m5 219 rfl) rfl
theorem q1218 : (Jvm.Cond.methodLink "AllotmentLedgerLaw" (146 : Nat) ({ cls := "AllotmentLedgerLaw", name := "used", desc := "(LAllotmentLedger;II[J)I" } : Jvm.MethodName)) ∈ lw_all := lw_g (lw_at lw_m5 223 rfl) rfl
theorem q1219 : (Jvm.Cond.static ({ cls := "AllotmentLedgerLaw", name := "used", desc := "(LAllotmentLedger;II[J)I" } : Jvm.MethodName)) ∈ lw_all := lw_g (lw_at lw_m5 224 rfl) rfl
theorem q1220 : (Jvm.Cond.codeWith ({ cls := "AllotmentLedgerLaw", name := "used", desc := "(LAllotmentLedger;II[J)I" } : Jvm.MethodName) method_16_code (5 : Nat) (Option.some Jvm.ClassFile.FieldType.int) [((0 : Nat), (10 : Nat), (13 : Nat), (28 : Nat))]) ∈ lw_all := lw_g (lw_at lw_m5 225 rfl) rfl
theorem q1221 : (Jvm.Cond.methodLink "AllotmentLedgerLaw" (60 : Nat) ({ cls := "AllotmentLedger", name := "used", desc := "(II)I" } : Jvm.MethodName)) ∈ lw_all := lw_g (lw_at lw_m5 226 rfl) rfl
theorem q1225 : (Jvm.Cond.methodLink "AllotmentLedgerLaw" (149 : Nat) ({ cls := "AllotmentLedgerLaw", name := "filesOf", desc := "(LAllotmentLedger;II[J)I" } : Jvm.MethodName)) ∈ lw_all := lw_g (lw_at lw_m5 230 rfl) rfl
theorem q1226 : (Jvm.Cond.static ({ cls := "AllotmentLedgerLaw", name := "filesOf", desc := "(LAllotmentLedger;II[J)I" } : Jvm.MethodName)) ∈ lw_all := lw_g (lw_at lw_m5 231 rfl) rfl
theorem q1227 : (Jvm.Cond.codeWith ({ cls := "AllotmentLedgerLaw", name := "filesOf", desc := "(LAllotmentLedger;II[J)I" } : Jvm.MethodName) method_17_code (5 : Nat) (Option.some Jvm.ClassFile.FieldType.int) [((0 : Nat), (10 : Nat), (13 : Nat), (28 : Nat))]) ∈ lw_all := lw_g (lw_at lw_m5 232 rfl) rfl
theorem q1228 : (Jvm.Cond.methodLink "AllotmentLedgerLaw" (63 : Nat) ({ cls := "AllotmentLedger", name := "filesOf", desc := "(II)I" } : Jvm.MethodName)) ∈ lw_all := lw_g (lw_at lw_m5 233 rfl) rfl
theorem q1232 : (Jvm.Cond.methodLink "AllotmentLedgerLaw" (152 : Nat) ({ cls := "AllotmentLedgerLaw", name := "usedByFiles", desc := "(LAllotmentLedger;II[J)I" } : Jvm.MethodName)) ∈ lw_all := lw_g (lw_at lw_m5 237 rfl) rfl
theorem q1233 : (Jvm.Cond.static ({ cls := "AllotmentLedgerLaw", name := "usedByFiles", desc := "(LAllotmentLedger;II[J)I" } : Jvm.MethodName)) ∈ lw_all := lw_g (lw_at lw_m5 238 rfl) rfl
theorem q1234 : (Jvm.Cond.codeWith ({ cls := "AllotmentLedgerLaw", name := "usedByFiles", desc := "(LAllotmentLedger;II[J)I" } : Jvm.MethodName) method_18_code (5 : Nat) (Option.some Jvm.ClassFile.FieldType.int) [((0 : Nat), (10 : Nat), (13 : Nat), (28 : Nat))]) ∈ lw_all := lw_g (lw_at lw_m5 239 rfl) rfl
theorem q1235 : (Jvm.Cond.methodLink "AllotmentLedgerLaw" (66 : Nat) ({ cls := "AllotmentLedger", name := "usedByFiles", desc := "(II)I" } : Jvm.MethodName)) ∈ lw_all := lw_g (lw_at lw_m6 0 rfl) rfl
theorem q1239 : (Jvm.Cond.methodLink "AllotmentLedgerLaw" (155 : Nat) ({ cls := "AllotmentLedgerLaw", name := "grace", desc := "(LAllotmentLedger;II[J)I" } : Jvm.MethodName)) ∈ lw_all := lw_g (lw_at lw_m6 4 rfl) rfl
theorem q1240 : (Jvm.Cond.static ({ cls := "AllotmentLedgerLaw", name := "grace", desc := "(LAllotmentLedger;II[J)I" } : Jvm.MethodName)) ∈ lw_all := lw_g (lw_at lw_m6 5 rfl) rfl
theorem q1241 : (Jvm.Cond.codeWith ({ cls := "AllotmentLedgerLaw", name := "grace", desc := "(LAllotmentLedger;II[J)I" } : Jvm.MethodName) method_19_code (5 : Nat) (Option.some Jvm.ClassFile.FieldType.int) [((0 : Nat), (10 : Nat), (13 : Nat), (28 : Nat))]) ∈ lw_all := lw_g (lw_at lw_m6 6 rfl) rfl
theorem q1242 : (Jvm.Cond.methodLink "AllotmentLedgerLaw" (69 : Nat) ({ cls := "AllotmentLedger", name := "grace", desc := "(II)I" } : Jvm.MethodName)) ∈ lw_all := lw_g (lw_at lw_m6 7 rfl) rfl
theorem q1247 : (Jvm.Cond.methodLink "AllotmentLedgerLaw" (158 : Nat) ({ cls := "AllotmentLedgerLaw", name := "room", desc := "(LAllotmentLedger;I[J)I" } : Jvm.MethodName)) ∈ lw_all := lw_g (lw_at lw_m6 12 rfl) rfl
theorem q1248 : (Jvm.Cond.static ({ cls := "AllotmentLedgerLaw", name := "room", desc := "(LAllotmentLedger;I[J)I" } : Jvm.MethodName)) ∈ lw_all := lw_g (lw_at lw_m6 13 rfl) rfl
theorem q1249 : (Jvm.Cond.codeWith ({ cls := "AllotmentLedgerLaw", name := "room", desc := "(LAllotmentLedger;I[J)I" } : Jvm.MethodName) method_20_code (4 : Nat) (Option.some Jvm.ClassFile.FieldType.int) [((0 : Nat), (9 : Nat), (12 : Nat), (28 : Nat))]) ∈ lw_all := lw_g (lw_at lw_m6 14 rfl) rfl
theorem q1250 : (Jvm.Cond.methodLink "AllotmentLedgerLaw" (72 : Nat) ({ cls := "AllotmentLedger", name := "room", desc := "(I)I" } : Jvm.MethodName)) ∈ lw_all := lw_g (lw_at lw_m6 15 rfl) rfl
theorem q1256 : (Jvm.Cond.methodLink "AllotmentLedgerLaw" (165 : Nat) ({ cls := "AllotmentLedgerLaw", name := "recount", desc := "(LAllotmentLedger;I[J)I" } : Jvm.MethodName)) ∈ lw_all := lw_g (lw_at lw_m6 21 rfl) rfl
theorem q1257 : (Jvm.Cond.static ({ cls := "AllotmentLedgerLaw", name := "recount", desc := "(LAllotmentLedger;I[J)I" } : Jvm.MethodName)) ∈ lw_all := lw_g (lw_at lw_m6 22 rfl) rfl
theorem q1258 : (Jvm.Cond.codeWith ({ cls := "AllotmentLedgerLaw", name := "recount", desc := "(LAllotmentLedger;I[J)I" } : Jvm.MethodName) method_21_code (4 : Nat) (Option.some Jvm.ClassFile.FieldType.int) [((0 : Nat), (9 : Nat), (12 : Nat), (13 : Nat)), ((0 : Nat), (9 : Nat), (15 : Nat), (15 : Nat))]) ∈ lw_all := lw_g (lw_at lw_m6 23 rfl) rfl
theorem q1259 : (Jvm.Cond.methodLink "AllotmentLedgerLaw" (75 : Nat) ({ cls := "AllotmentLedger", name := "recount", desc := "(I)I" } : Jvm.MethodName)) ∈ lw_all := lw_g (lw_at lw_m6 24 rfl) rfl
theorem q1263 : (Jvm.Cond.methodLink "AllotmentLedgerLaw" (168 : Nat) ({ cls := "AllotmentLedgerLaw", name := "counted", desc := "(LAllotmentLedger;II[J)I" } : Jvm.MethodName)) ∈ lw_all := lw_g (lw_at lw_m6 28 rfl) rfl
theorem q1264 : (Jvm.Cond.static ({ cls := "AllotmentLedgerLaw", name := "counted", desc := "(LAllotmentLedger;II[J)I" } : Jvm.MethodName)) ∈ lw_all := lw_g (lw_at lw_m6 29 rfl) rfl
theorem q1265 : (Jvm.Cond.codeWith ({ cls := "AllotmentLedgerLaw", name := "counted", desc := "(LAllotmentLedger;II[J)I" } : Jvm.MethodName) method_22_code (5 : Nat) (Option.some Jvm.ClassFile.FieldType.int) [((0 : Nat), (10 : Nat), (13 : Nat), (28 : Nat)), ((0 : Nat), (10 : Nat), (17 : Nat), (15 : Nat))]) ∈ lw_all := lw_g (lw_at lw_m6 30 rfl) rfl
theorem q1266 : (Jvm.Cond.methodLink "AllotmentLedgerLaw" (78 : Nat) ({ cls := "AllotmentLedger", name := "counted", desc := "(II)I" } : Jvm.MethodName)) ∈ lw_all := lw_g (lw_at lw_m6 31 rfl) rfl
theorem q1270 : (Jvm.Cond.classLink "AllotmentLedgerLaw" (82 : Nat) "AllotmentLedgerModel") ∈ lw_all := lw_g (lw_at lw_m6 35 rfl) rfl
theorem q1272 : (Jvm.Cond.methodLink "AllotmentLedgerLaw" (84 : Nat) ({ cls := "AllotmentLedgerModel", name := "<init>", desc := "()V" } : Jvm.MethodName)) ∈ lw_all := lw_g (lw_at lw_m6 37 rfl) rfl
theorem q1349 : (Jvm.Cond.methodLink "AllotmentLedgerLaw" (91 : Nat) ({ cls := "AllotmentLedgerModel", name := "thrown", desc := "()I" } : Jvm.MethodName)) ∈ lw_all := lw_g (lw_at lw_m6 114 rfl) rfl
theorem q1353 : (Jvm.Cond.methodLink "AllotmentLedgerLaw" (90 : Nat) ({ cls := "AllotmentLedgerModel", name := "type", desc := "(C)I" } : Jvm.MethodName)) ∈ lw_all := lw_g (lw_at lw_m6 118 rfl) rfl
theorem q1361 : (Jvm.Cond.methodLink "AllotmentLedgerLaw" (97 : Nat) ({ cls := "AllotmentLedgerModel", name := "back", desc := "()I" } : Jvm.MethodName)) ∈ lw_all := lw_g (lw_at lw_m6 126 rfl) rfl
theorem q1365 : (Jvm.Cond.methodLink "AllotmentLedgerLaw" (101 : Nat) ({ cls := "AllotmentLedgerModel", name := "clearPath", desc := "()I" } : Jvm.MethodName)) ∈ lw_all := lw_g (lw_at lw_m6 130 rfl) rfl
theorem q1373 : (Jvm.Cond.methodLink "AllotmentLedgerLaw" (104 : Nat) ({ cls := "AllotmentLedgerModel", name := "makeProject", desc := "()I" } : Jvm.MethodName)) ∈ lw_all := lw_g (lw_at lw_m6 138 rfl) rfl
theorem q1381 : (Jvm.Cond.methodLink "AllotmentLedgerLaw" (108 : Nat) ({ cls := "AllotmentLedgerModel", name := "findProject", desc := "()I" } : Jvm.MethodName)) ∈ lw_all := lw_g (lw_at lw_m6 146 rfl) rfl
theorem q1385 : (Jvm.Cond.methodLink "AllotmentLedgerLaw" (112 : Nat) ({ cls := "AllotmentLedgerModel", name := "moveProject", desc := "(I)I" } : Jvm.MethodName)) ∈ lw_all := lw_g (lw_at lw_m6 150 rfl) rfl
theorem q1432 : (Jvm.Cond.methodLink "AllotmentLedgerLaw" (116 : Nat) ({ cls := "AllotmentLedgerModel", name := "letterAt", desc := "(II)C" } : Jvm.MethodName)) ∈ lw_all := lw_g (lw_at lw_m6 197 rfl) rfl
theorem q1436 : (Jvm.Cond.methodLink "AllotmentLedgerLaw" (120 : Nat) ({ cls := "AllotmentLedgerModel", name := "projects", desc := "()I" } : Jvm.MethodName)) ∈ lw_all := lw_g (lw_at lw_m6 201 rfl) rfl
theorem q1440 : (Jvm.Cond.methodLink "AllotmentLedgerLaw" (123 : Nat) ({ cls := "AllotmentLedgerModel", name := "makeFile", desc := "(II)I" } : Jvm.MethodName)) ∈ lw_all := lw_g (lw_at lw_m6 205 rfl) rfl
theorem q1460 : (Jvm.Cond.methodLink "AllotmentLedgerLaw" (126 : Nat) ({ cls := "AllotmentLedgerModel", name := "write", desc := "(II)I" } : Jvm.MethodName)) ∈ lw_all := lw_g (lw_at lw_m6 225 rfl) rfl
theorem q1468 : (Jvm.Cond.methodLink "AllotmentLedgerLaw" (129 : Nat) ({ cls := "AllotmentLedgerModel", name := "delete", desc := "(I)I" } : Jvm.MethodName)) ∈ lw_all := lw_g (lw_at lw_m6 233 rfl) rfl
theorem q1472 : (Jvm.Cond.methodLink "AllotmentLedgerLaw" (132 : Nat) ({ cls := "AllotmentLedgerModel", name := "moveFile", desc := "(II)I" } : Jvm.MethodName)) ∈ lw_all := lw_g (lw_at lw_m6 237 rfl) rfl
theorem q1476 : (Jvm.Cond.methodLink "AllotmentLedgerLaw" (135 : Nat) ({ cls := "AllotmentLedgerModel", name := "reserve", desc := "(II)I" } : Jvm.MethodName)) ∈ lw_all := lw_g (lw_at lw_m7 1 rfl) rfl
theorem q1480 : (Jvm.Cond.methodLink "AllotmentLedgerLaw" (138 : Nat) ({ cls := "AllotmentLedgerModel", name := "settle", desc := "(II)I" } : Jvm.MethodName)) ∈ lw_all := lw_g (lw_at lw_m7 5 rfl) rfl
theorem q1484 : (Jvm.Cond.methodLink "AllotmentLedgerLaw" (142 : Nat) ({ cls := "AllotmentLedgerModel", name := "setLimits", desc := "(IIIII)V" } : Jvm.MethodName)) ∈ lw_all := lw_g (lw_at lw_m7 9 rfl) rfl
theorem q1493 : (Jvm.Cond.methodLink "AllotmentLedgerLaw" (145 : Nat) ({ cls := "AllotmentLedgerModel", name := "pass", desc := "(I)I" } : Jvm.MethodName)) ∈ lw_all := lw_g (lw_at lw_m7 18 rfl) rfl
theorem q1497 : (Jvm.Cond.methodLink "AllotmentLedgerLaw" (148 : Nat) ({ cls := "AllotmentLedgerModel", name := "used", desc := "(II)I" } : Jvm.MethodName)) ∈ lw_all := lw_g (lw_at lw_m7 22 rfl) rfl
theorem q1505 : (Jvm.Cond.methodLink "AllotmentLedgerLaw" (151 : Nat) ({ cls := "AllotmentLedgerModel", name := "filesOf", desc := "(II)I" } : Jvm.MethodName)) ∈ lw_all := lw_g (lw_at lw_m7 30 rfl) rfl
theorem q1509 : (Jvm.Cond.methodLink "AllotmentLedgerLaw" (154 : Nat) ({ cls := "AllotmentLedgerModel", name := "usedByFiles", desc := "(II)I" } : Jvm.MethodName)) ∈ lw_all := lw_g (lw_at lw_m7 34 rfl) rfl
theorem q1514 : (Jvm.Cond.methodLink "AllotmentLedgerLaw" (157 : Nat) ({ cls := "AllotmentLedgerModel", name := "grace", desc := "(II)I" } : Jvm.MethodName)) ∈ lw_all := lw_g (lw_at lw_m7 39 rfl) rfl
theorem q1518 : (Jvm.Cond.methodLink "AllotmentLedgerLaw" (160 : Nat) ({ cls := "AllotmentLedgerModel", name := "room", desc := "(I)I" } : Jvm.MethodName)) ∈ lw_all := lw_g (lw_at lw_m7 43 rfl) rfl
theorem q1522 : (Jvm.Cond.methodLink "AllotmentLedgerLaw" (164 : Nat) ({ cls := "AllotmentLedgerModel", name := "beginRecount", desc := "()I" } : Jvm.MethodName)) ∈ lw_all := lw_g (lw_at lw_m7 47 rfl) rfl
theorem q1526 : (Jvm.Cond.methodLink "AllotmentLedgerLaw" (167 : Nat) ({ cls := "AllotmentLedgerModel", name := "recount", desc := "(I)I" } : Jvm.MethodName)) ∈ lw_all := lw_g (lw_at lw_m7 51 rfl) rfl
theorem q1530 : (Jvm.Cond.methodLink "AllotmentLedgerLaw" (170 : Nat) ({ cls := "AllotmentLedgerModel", name := "counted", desc := "(II)I" } : Jvm.MethodName)) ∈ lw_all := lw_g (lw_at lw_m7 55 rfl) rfl

/-! the law's own entry -/
set_option maxRecDepth 100000
abbrev cL_law : ByteArray := code
def dkwL_law_59 : List UInt8 := [3, 47, 21, 6, 133, 148, 153, 0, 5, 3, 172, 167, 0, 3, 132, 4, 6, 167, 250, 94, 4, 172]
abbrev dktL_law_59 : List UInt8 := dkwL_law_59 ++ []
def dkwL_law_58 : List UInt8 := [96, 46, 182, 0, 170, 54, 6, 44, 182, 0, 91, 21, 5, 159, 0, 5, 3, 172, 21, 5, 154, 0, 15, 45]
abbrev dktL_law_58 : List UInt8 := dkwL_law_58 ++ dktL_law_59
def dkwL_law_57 : List UInt8 := [46, 42, 21, 4, 5, 96, 46, 45, 184, 0, 168, 54, 5, 44, 42, 21, 4, 4, 96, 46, 42, 21, 4, 5]
abbrev dktL_law_57 : List UInt8 := dkwL_law_57 ++ dktL_law_58
def dkwL_law_56 : List UInt8 := [154, 0, 15, 45, 3, 47, 21, 6, 133, 148, 153, 0, 5, 3, 172, 167, 0, 71, 43, 42, 21, 4, 4, 96]
abbrev dktL_law_56 : List UInt8 := dkwL_law_56 ++ dktL_law_57
def dkwL_law_55 : List UInt8 := [21, 4, 4, 96, 46, 182, 0, 167, 54, 6, 44, 182, 0, 91, 21, 5, 159, 0, 5, 3, 172, 21, 5]
abbrev dktL_law_55 : List UInt8 := dkwL_law_55 ++ dktL_law_56
def dkwL_law_54 : List UInt8 := [182, 0, 164, 159, 0, 129, 3, 172, 43, 42, 21, 4, 4, 96, 46, 45, 184, 0, 165, 54, 5, 44, 42]
abbrev dktL_law_54 : List UInt8 := dkwL_law_54 ++ dktL_law_55
def dkwL_law_53 : List UInt8 := [154, 0, 15, 45, 3, 47, 21, 6, 133, 148, 153, 0, 5, 3, 172, 167, 0, 140, 43, 182, 0, 161, 44]
abbrev dktL_law_53 : List UInt8 := dkwL_law_53 ++ dktL_law_54
def dkwL_law_52 : List UInt8 := [21, 4, 4, 96, 46, 182, 0, 160, 54, 6, 44, 182, 0, 91, 21, 5, 159, 0, 5, 3, 172, 21, 5]
abbrev dktL_law_52 : List UInt8 := dkwL_law_52 ++ dktL_law_53
def dkwL_law_51 : List UInt8 := [153, 0, 5, 3, 172, 167, 0, 196, 43, 42, 21, 4, 4, 96, 46, 45, 184, 0, 158, 54, 5, 44, 42]
abbrev dktL_law_51 : List UInt8 := dkwL_law_51 ++ dktL_law_52
def dkwL_law_50 : List UInt8 := [182, 0, 91, 21, 5, 159, 0, 5, 3, 172, 21, 5, 154, 0, 15, 45, 3, 47, 21, 6, 133, 148]
abbrev dktL_law_50 : List UInt8 := dkwL_law_50 ++ dktL_law_51
def dkwL_law_49 : List UInt8 := [184, 0, 155, 54, 5, 44, 42, 21, 4, 4, 96, 46, 42, 21, 4, 5, 96, 46, 182, 0, 157, 54, 6, 44]
abbrev dktL_law_49 : List UInt8 := dkwL_law_49 ++ dktL_law_50
def dkwL_law_48 : List UInt8 := [153, 0, 5, 3, 172, 167, 1, 8, 43, 42, 21, 4, 4, 96, 46, 42, 21, 4, 5, 96, 46, 45]
abbrev dktL_law_48 : List UInt8 := dkwL_law_48 ++ dktL_law_49
def dkwL_law_47 : List UInt8 := [182, 0, 91, 21, 5, 159, 0, 5, 3, 172, 21, 5, 154, 0, 15, 45, 3, 47, 21, 6, 133, 148]
abbrev dktL_law_47 : List UInt8 := dkwL_law_47 ++ dktL_law_48
def dkwL_law_46 : List UInt8 := [184, 0, 152, 54, 5, 44, 42, 21, 4, 4, 96, 46, 42, 21, 4, 5, 96, 46, 182, 0, 154, 54, 6, 44]
abbrev dktL_law_46 : List UInt8 := dkwL_law_46 ++ dktL_law_47
def dkwL_law_45 : List UInt8 := [153, 0, 5, 3, 172, 167, 1, 76, 43, 42, 21, 4, 4, 96, 46, 42, 21, 4, 5, 96, 46, 45]
abbrev dktL_law_45 : List UInt8 := dkwL_law_45 ++ dktL_law_46
def dkwL_law_44 : List UInt8 := [182, 0, 91, 21, 5, 159, 0, 5, 3, 172, 21, 5, 154, 0, 15, 45, 3, 47, 21, 6, 133, 148]
abbrev dktL_law_44 : List UInt8 := dkwL_law_44 ++ dktL_law_45
def dkwL_law_43 : List UInt8 := [184, 0, 149, 54, 5, 44, 42, 21, 4, 4, 96, 46, 42, 21, 4, 5, 96, 46, 182, 0, 151, 54, 6, 44]
abbrev dktL_law_43 : List UInt8 := dkwL_law_43 ++ dktL_law_44
def dkwL_law_42 : List UInt8 := [153, 0, 5, 3, 172, 167, 1, 144, 43, 42, 21, 4, 4, 96, 46, 42, 21, 4, 5, 96, 46, 45]
abbrev dktL_law_42 : List UInt8 := dkwL_law_42 ++ dktL_law_43
def dkwL_law_41 : List UInt8 := [182, 0, 91, 21, 5, 159, 0, 5, 3, 172, 21, 5, 154, 0, 15, 45, 3, 47, 21, 6, 133, 148]
abbrev dktL_law_41 : List UInt8 := dkwL_law_41 ++ dktL_law_42
def dkwL_law_40 : List UInt8 := [184, 0, 146, 54, 5, 44, 42, 21, 4, 4, 96, 46, 42, 21, 4, 5, 96, 46, 182, 0, 148, 54, 6, 44]
abbrev dktL_law_40 : List UInt8 := dkwL_law_40 ++ dktL_law_41
def dkwL_law_39 : List UInt8 := [153, 0, 5, 3, 172, 167, 1, 212, 43, 42, 21, 4, 4, 96, 46, 42, 21, 4, 5, 96, 46, 45]
abbrev dktL_law_39 : List UInt8 := dkwL_law_39 ++ dktL_law_40
def dkwL_law_38 : List UInt8 := [182, 0, 91, 21, 5, 159, 0, 5, 3, 172, 21, 5, 154, 0, 15, 45, 3, 47, 21, 6, 133, 148]
abbrev dktL_law_38 : List UInt8 := dkwL_law_38 ++ dktL_law_39
def dkwL_law_37 : List UInt8 := [4, 96, 46, 45, 184, 0, 143, 54, 5, 44, 42, 21, 4, 4, 96, 46, 182, 0, 145, 54, 6, 44]
abbrev dktL_law_37 : List UInt8 := dkwL_law_37 ++ dktL_law_38
def dkwL_law_36 : List UInt8 := [8, 96, 46, 182, 0, 142, 44, 182, 0, 91, 21, 5, 159, 0, 5, 3, 172, 167, 2, 12, 43, 42, 21, 4]
abbrev dktL_law_36 : List UInt8 := dkwL_law_36 ++ dktL_law_37
def dkwL_law_35 : List UInt8 := [4, 96, 46, 42, 21, 4, 5, 96, 46, 42, 21, 4, 6, 96, 46, 42, 21, 4, 7, 96, 46, 42, 21, 4]
abbrev dktL_law_35 : List UInt8 := dkwL_law_35 ++ dktL_law_36
def dkwL_law_34 : List UInt8 := [6, 96, 46, 42, 21, 4, 7, 96, 46, 42, 21, 4, 8, 96, 46, 184, 0, 139, 54, 5, 44, 42, 21, 4]
abbrev dktL_law_34 : List UInt8 := dkwL_law_34 ++ dktL_law_35
def dkwL_law_33 : List UInt8 := [153, 0, 5, 3, 172, 167, 2, 96, 43, 42, 21, 4, 4, 96, 46, 42, 21, 4, 5, 96, 46, 42, 21, 4]
abbrev dktL_law_33 : List UInt8 := dkwL_law_33 ++ dktL_law_34
def dkwL_law_32 : List UInt8 := [182, 0, 91, 21, 5, 159, 0, 5, 3, 172, 21, 5, 154, 0, 15, 45, 3, 47, 21, 6, 133, 148]
abbrev dktL_law_32 : List UInt8 := dkwL_law_32 ++ dktL_law_33
def dkwL_law_31 : List UInt8 := [184, 0, 136, 54, 5, 44, 42, 21, 4, 4, 96, 46, 42, 21, 4, 5, 96, 46, 182, 0, 138, 54, 6, 44]
abbrev dktL_law_31 : List UInt8 := dkwL_law_31 ++ dktL_law_32
def dkwL_law_30 : List UInt8 := [153, 0, 5, 3, 172, 167, 2, 164, 43, 42, 21, 4, 4, 96, 46, 42, 21, 4, 5, 96, 46, 45]
abbrev dktL_law_30 : List UInt8 := dkwL_law_30 ++ dktL_law_31
def dkwL_law_29 : List UInt8 := [182, 0, 91, 21, 5, 159, 0, 5, 3, 172, 21, 5, 154, 0, 15, 45, 3, 47, 21, 6, 133, 148]
abbrev dktL_law_29 : List UInt8 := dkwL_law_29 ++ dktL_law_30
def dkwL_law_28 : List UInt8 := [184, 0, 133, 54, 5, 44, 42, 21, 4, 4, 96, 46, 42, 21, 4, 5, 96, 46, 182, 0, 135, 54, 6, 44]
abbrev dktL_law_28 : List UInt8 := dkwL_law_28 ++ dktL_law_29
def dkwL_law_27 : List UInt8 := [148, 153, 0, 5, 3, 172, 167, 2, 232, 43, 42, 21, 4, 4, 96, 46, 42, 21, 4, 5, 96, 46, 45]
abbrev dktL_law_27 : List UInt8 := dkwL_law_27 ++ dktL_law_28
def dkwL_law_26 : List UInt8 := [54, 6, 44, 182, 0, 91, 21, 5, 159, 0, 5, 3, 172, 21, 5, 154, 0, 15, 45, 3, 47, 21, 6, 133]
abbrev dktL_law_26 : List UInt8 := dkwL_law_26 ++ dktL_law_27
def dkwL_law_25 : List UInt8 := [46, 45, 184, 0, 130, 54, 5, 44, 42, 21, 4, 4, 96, 46, 42, 21, 4, 5, 96, 46, 182, 0, 132]
abbrev dktL_law_25 : List UInt8 := dkwL_law_25 ++ dktL_law_26
def dkwL_law_24 : List UInt8 := [21, 6, 133, 148, 153, 0, 5, 3, 172, 167, 3, 44, 43, 42, 21, 4, 4, 96, 46, 42, 21, 4, 5, 96]
abbrev dktL_law_24 : List UInt8 := dkwL_law_24 ++ dktL_law_25
def dkwL_law_23 : List UInt8 := [182, 0, 129, 54, 6, 44, 182, 0, 91, 21, 5, 159, 0, 5, 3, 172, 21, 5, 154, 0, 15, 45, 3, 47]
abbrev dktL_law_23 : List UInt8 := dkwL_law_23 ++ dktL_law_24
def dkwL_law_22 : List UInt8 := [167, 3, 100, 43, 42, 21, 4, 4, 96, 46, 45, 184, 0, 127, 54, 5, 44, 42, 21, 4, 4, 96, 46]
abbrev dktL_law_22 : List UInt8 := dkwL_law_22 ++ dktL_law_23
def dkwL_law_21 : List UInt8 := [159, 0, 5, 3, 172, 21, 5, 154, 0, 15, 45, 3, 47, 21, 6, 133, 148, 153, 0, 5, 3, 172]
abbrev dktL_law_21 : List UInt8 := dkwL_law_21 ++ dktL_law_22
def dkwL_law_20 : List UInt8 := [21, 4, 4, 96, 46, 42, 21, 4, 5, 96, 46, 182, 0, 126, 54, 6, 44, 182, 0, 91, 21, 5]
abbrev dktL_law_20 : List UInt8 := dkwL_law_20 ++ dktL_law_21
def dkwL_law_19 : List UInt8 := [167, 3, 168, 43, 42, 21, 4, 4, 96, 46, 42, 21, 4, 5, 96, 46, 45, 184, 0, 124, 54, 5, 44, 42]
abbrev dktL_law_19 : List UInt8 := dkwL_law_19 ++ dktL_law_20
def dkwL_law_18 : List UInt8 := [159, 0, 5, 3, 172, 21, 5, 154, 0, 15, 45, 3, 47, 21, 6, 133, 148, 153, 0, 5, 3, 172]
abbrev dktL_law_18 : List UInt8 := dkwL_law_18 ++ dktL_law_19
def dkwL_law_17 : List UInt8 := [44, 42, 21, 4, 4, 96, 46, 42, 21, 4, 5, 96, 46, 182, 0, 123, 54, 6, 44, 182, 0, 91, 21, 5]
abbrev dktL_law_17 : List UInt8 := dkwL_law_17 ++ dktL_law_18
def dkwL_law_16 : List UInt8 := [159, 3, 238, 3, 172, 43, 42, 21, 4, 4, 96, 46, 42, 21, 4, 5, 96, 46, 45, 184, 0, 121, 54, 5]
abbrev dktL_law_16 : List UInt8 := dkwL_law_16 ++ dktL_law_17
def dkwL_law_15 : List UInt8 := [3, 47, 21, 6, 133, 148, 153, 0, 5, 3, 172, 167, 3, 249, 43, 182, 0, 117, 44, 182, 0, 120]
abbrev dktL_law_15 : List UInt8 := dkwL_law_15 ++ dktL_law_16
def dkwL_law_14 : List UInt8 := [96, 46, 182, 0, 116, 54, 6, 44, 182, 0, 91, 21, 5, 159, 0, 5, 3, 172, 21, 5, 154, 0, 15, 45]
abbrev dktL_law_14 : List UInt8 := dkwL_law_14 ++ dktL_law_15
def dkwL_law_13 : List UInt8 := [46, 42, 21, 4, 5, 96, 46, 45, 184, 0, 113, 54, 5, 44, 42, 21, 4, 4, 96, 46, 42, 21, 4, 5]
abbrev dktL_law_13 : List UInt8 := dkwL_law_13 ++ dktL_law_14
def dkwL_law_12 : List UInt8 := [154, 0, 15, 45, 3, 47, 21, 6, 133, 148, 153, 0, 5, 3, 172, 167, 4, 61, 43, 42, 21, 4, 4, 96]
abbrev dktL_law_12 : List UInt8 := dkwL_law_12 ++ dktL_law_13
def dkwL_law_11 : List UInt8 := [21, 4, 4, 96, 46, 182, 0, 112, 54, 6, 44, 182, 0, 91, 21, 5, 159, 0, 5, 3, 172, 21, 5]
abbrev dktL_law_11 : List UInt8 := dkwL_law_11 ++ dktL_law_12
def dkwL_law_10 : List UInt8 := [182, 0, 108, 159, 4, 119, 3, 172, 43, 42, 21, 4, 4, 96, 46, 45, 184, 0, 109, 54, 5, 44, 42]
abbrev dktL_law_10 : List UInt8 := dkwL_law_10 ++ dktL_law_11
def dkwL_law_9 : List UInt8 := [154, 0, 15, 45, 3, 47, 21, 6, 133, 148, 153, 0, 5, 3, 172, 167, 4, 130, 43, 182, 0, 105, 44]
abbrev dktL_law_9 : List UInt8 := dkwL_law_9 ++ dktL_law_10
def dkwL_law_8 : List UInt8 := [184, 0, 102, 54, 5, 44, 182, 0, 104, 54, 6, 44, 182, 0, 91, 21, 5, 159, 0, 5, 3, 172, 21, 5]
abbrev dktL_law_8 : List UInt8 := dkwL_law_8 ++ dktL_law_9
def dkwL_law_7 : List UInt8 := [148, 153, 0, 5, 3, 172, 167, 4, 187, 43, 182, 0, 98, 44, 182, 0, 101, 159, 4, 176, 3, 172, 43, 45]
abbrev dktL_law_7 : List UInt8 := dkwL_law_7 ++ dktL_law_8
def dkwL_law_6 : List UInt8 := [54, 6, 44, 182, 0, 91, 21, 5, 159, 0, 5, 3, 172, 21, 5, 154, 0, 15, 45, 3, 47, 21, 6, 133]
abbrev dktL_law_6 : List UInt8 := dkwL_law_6 ++ dktL_law_7
def dkwL_law_5 : List UInt8 := [21, 6, 133, 148, 153, 0, 5, 3, 172, 167, 4, 231, 43, 45, 184, 0, 94, 54, 5, 44, 182, 0, 97]
abbrev dktL_law_5 : List UInt8 := dkwL_law_5 ++ dktL_law_6
def dkwL_law_4 : List UInt8 := [182, 0, 90, 54, 6, 44, 182, 0, 91, 21, 5, 159, 0, 5, 3, 172, 21, 5, 154, 0, 15, 45, 3, 47]
abbrev dktL_law_4 : List UInt8 := dkwL_law_4 ++ dktL_law_5
def dkwL_law_3 : List UInt8 := [43, 42, 21, 4, 4, 96, 46, 146, 45, 184, 0, 85, 54, 5, 44, 42, 21, 4, 4, 96, 46, 146]
abbrev dktL_law_3 : List UInt8 := dkwL_law_3 ++ dktL_law_4
def dkwL_law_2 : List UInt8 := [170, 0, 0, 0, 0, 0, 5, 142, 0, 0, 0, 0, 0, 0, 0, 23, 0, 0, 0, 112, 0, 0, 0, 170, 0, 0, 0, 214, 0, 0, 0, 227, 0, 0, 1, 15, 0, 0, 1, 28, 0, 0, 1, 84, 0, 0, 1, 152, 0, 0, 1, 165, 0, 0, 1, 233, 0, 0, 2, 45, 0, 0, 2, 101, 0, 0, 2, 169, 0, 0, 2, 237, 0, 0, 3, 49, 0, 0, 3, 133, 0, 0, 3, 189, 0, 0, 4, 1, 0, 0, 4, 69, 0, 0, 4, 137, 0, 0, 4, 205, 0, 0, 5, 5, 0, 0, 5, 18, 0, 0, 5, 74]
abbrev dktL_law_2 : List UInt8 := dkwL_law_2 ++ dktL_law_3
def dkwL_law_1 : List UInt8 := [21, 4, 42, 190, 16, 6, 100, 163, 5, 158, 42, 21, 4, 46, 16, 31, 126]
abbrev dktL_law_1 : List UInt8 := dkwL_law_1 ++ dktL_law_2
def dkwL_law_0 : List UInt8 := [187, 0, 8, 89, 183, 0, 81, 76, 187, 0, 82, 89, 183, 0, 84, 77, 4, 188, 11, 78, 3, 54, 4]
abbrev dktL_law_0 : List UInt8 := dkwL_law_0 ++ dktL_law_1
theorem dksL_law_0 : cL_law.data.toList.drop 0 = dktL_law_0 := by decide +kernel
theorem dksL_law_1 : cL_law.data.toList.drop 23 = dktL_law_1 := dk_seg dksL_law_0 23 rfl rfl
theorem dksL_law_2 : cL_law.data.toList.drop 40 = dktL_law_2 := dk_seg dksL_law_1 17 rfl rfl
theorem dksL_law_3 : cL_law.data.toList.drop 152 = dktL_law_3 := dk_seg dksL_law_2 112 rfl rfl
theorem dksL_law_4 : cL_law.data.toList.drop 174 = dktL_law_4 := dk_seg dksL_law_3 22 rfl rfl
theorem dksL_law_5 : cL_law.data.toList.drop 198 = dktL_law_5 := dk_seg dksL_law_4 24 rfl rfl
theorem dksL_law_6 : cL_law.data.toList.drop 221 = dktL_law_6 := dk_seg dksL_law_5 23 rfl rfl
theorem dksL_law_7 : cL_law.data.toList.drop 245 = dktL_law_7 := dk_seg dksL_law_6 24 rfl rfl
theorem dksL_law_8 : cL_law.data.toList.drop 269 = dktL_law_8 := dk_seg dksL_law_7 24 rfl rfl
theorem dksL_law_9 : cL_law.data.toList.drop 293 = dktL_law_9 := dk_seg dksL_law_8 24 rfl rfl
theorem dksL_law_10 : cL_law.data.toList.drop 316 = dktL_law_10 := dk_seg dksL_law_9 23 rfl rfl
theorem dksL_law_11 : cL_law.data.toList.drop 339 = dktL_law_11 := dk_seg dksL_law_10 23 rfl rfl
theorem dksL_law_12 : cL_law.data.toList.drop 362 = dktL_law_12 := dk_seg dksL_law_11 23 rfl rfl
theorem dksL_law_13 : cL_law.data.toList.drop 386 = dktL_law_13 := dk_seg dksL_law_12 24 rfl rfl
theorem dksL_law_14 : cL_law.data.toList.drop 410 = dktL_law_14 := dk_seg dksL_law_13 24 rfl rfl
theorem dksL_law_15 : cL_law.data.toList.drop 434 = dktL_law_15 := dk_seg dksL_law_14 24 rfl rfl
theorem dksL_law_16 : cL_law.data.toList.drop 456 = dktL_law_16 := dk_seg dksL_law_15 22 rfl rfl
theorem dksL_law_17 : cL_law.data.toList.drop 480 = dktL_law_17 := dk_seg dksL_law_16 24 rfl rfl
theorem dksL_law_18 : cL_law.data.toList.drop 504 = dktL_law_18 := dk_seg dksL_law_17 24 rfl rfl
theorem dksL_law_19 : cL_law.data.toList.drop 526 = dktL_law_19 := dk_seg dksL_law_18 22 rfl rfl
theorem dksL_law_20 : cL_law.data.toList.drop 550 = dktL_law_20 := dk_seg dksL_law_19 24 rfl rfl
theorem dksL_law_21 : cL_law.data.toList.drop 572 = dktL_law_21 := dk_seg dksL_law_20 22 rfl rfl
theorem dksL_law_22 : cL_law.data.toList.drop 594 = dktL_law_22 := dk_seg dksL_law_21 22 rfl rfl
theorem dksL_law_23 : cL_law.data.toList.drop 617 = dktL_law_23 := dk_seg dksL_law_22 23 rfl rfl
theorem dksL_law_24 : cL_law.data.toList.drop 641 = dktL_law_24 := dk_seg dksL_law_23 24 rfl rfl
theorem dksL_law_25 : cL_law.data.toList.drop 665 = dktL_law_25 := dk_seg dksL_law_24 24 rfl rfl
theorem dksL_law_26 : cL_law.data.toList.drop 688 = dktL_law_26 := dk_seg dksL_law_25 23 rfl rfl
theorem dksL_law_27 : cL_law.data.toList.drop 712 = dktL_law_27 := dk_seg dksL_law_26 24 rfl rfl
theorem dksL_law_28 : cL_law.data.toList.drop 735 = dktL_law_28 := dk_seg dksL_law_27 23 rfl rfl
theorem dksL_law_29 : cL_law.data.toList.drop 759 = dktL_law_29 := dk_seg dksL_law_28 24 rfl rfl
theorem dksL_law_30 : cL_law.data.toList.drop 781 = dktL_law_30 := dk_seg dksL_law_29 22 rfl rfl
theorem dksL_law_31 : cL_law.data.toList.drop 803 = dktL_law_31 := dk_seg dksL_law_30 22 rfl rfl
theorem dksL_law_32 : cL_law.data.toList.drop 827 = dktL_law_32 := dk_seg dksL_law_31 24 rfl rfl
theorem dksL_law_33 : cL_law.data.toList.drop 849 = dktL_law_33 := dk_seg dksL_law_32 22 rfl rfl
theorem dksL_law_34 : cL_law.data.toList.drop 873 = dktL_law_34 := dk_seg dksL_law_33 24 rfl rfl
theorem dksL_law_35 : cL_law.data.toList.drop 897 = dktL_law_35 := dk_seg dksL_law_34 24 rfl rfl
theorem dksL_law_36 : cL_law.data.toList.drop 921 = dktL_law_36 := dk_seg dksL_law_35 24 rfl rfl
theorem dksL_law_37 : cL_law.data.toList.drop 945 = dktL_law_37 := dk_seg dksL_law_36 24 rfl rfl
theorem dksL_law_38 : cL_law.data.toList.drop 967 = dktL_law_38 := dk_seg dksL_law_37 22 rfl rfl
theorem dksL_law_39 : cL_law.data.toList.drop 989 = dktL_law_39 := dk_seg dksL_law_38 22 rfl rfl
theorem dksL_law_40 : cL_law.data.toList.drop 1011 = dktL_law_40 := dk_seg dksL_law_39 22 rfl rfl
theorem dksL_law_41 : cL_law.data.toList.drop 1035 = dktL_law_41 := dk_seg dksL_law_40 24 rfl rfl
theorem dksL_law_42 : cL_law.data.toList.drop 1057 = dktL_law_42 := dk_seg dksL_law_41 22 rfl rfl
theorem dksL_law_43 : cL_law.data.toList.drop 1079 = dktL_law_43 := dk_seg dksL_law_42 22 rfl rfl
theorem dksL_law_44 : cL_law.data.toList.drop 1103 = dktL_law_44 := dk_seg dksL_law_43 24 rfl rfl
theorem dksL_law_45 : cL_law.data.toList.drop 1125 = dktL_law_45 := dk_seg dksL_law_44 22 rfl rfl
theorem dksL_law_46 : cL_law.data.toList.drop 1147 = dktL_law_46 := dk_seg dksL_law_45 22 rfl rfl
theorem dksL_law_47 : cL_law.data.toList.drop 1171 = dktL_law_47 := dk_seg dksL_law_46 24 rfl rfl
theorem dksL_law_48 : cL_law.data.toList.drop 1193 = dktL_law_48 := dk_seg dksL_law_47 22 rfl rfl
theorem dksL_law_49 : cL_law.data.toList.drop 1215 = dktL_law_49 := dk_seg dksL_law_48 22 rfl rfl
theorem dksL_law_50 : cL_law.data.toList.drop 1239 = dktL_law_50 := dk_seg dksL_law_49 24 rfl rfl
theorem dksL_law_51 : cL_law.data.toList.drop 1261 = dktL_law_51 := dk_seg dksL_law_50 22 rfl rfl
theorem dksL_law_52 : cL_law.data.toList.drop 1284 = dktL_law_52 := dk_seg dksL_law_51 23 rfl rfl
theorem dksL_law_53 : cL_law.data.toList.drop 1307 = dktL_law_53 := dk_seg dksL_law_52 23 rfl rfl
theorem dksL_law_54 : cL_law.data.toList.drop 1330 = dktL_law_54 := dk_seg dksL_law_53 23 rfl rfl
theorem dksL_law_55 : cL_law.data.toList.drop 1353 = dktL_law_55 := dk_seg dksL_law_54 23 rfl rfl
theorem dksL_law_56 : cL_law.data.toList.drop 1376 = dktL_law_56 := dk_seg dksL_law_55 23 rfl rfl
theorem dksL_law_57 : cL_law.data.toList.drop 1400 = dktL_law_57 := dk_seg dksL_law_56 24 rfl rfl
theorem dksL_law_58 : cL_law.data.toList.drop 1424 = dktL_law_58 := dk_seg dksL_law_57 24 rfl rfl
theorem dksL_law_59 : cL_law.data.toList.drop 1448 = dktL_law_59 := dk_seg dksL_law_58 24 rfl rfl
theorem dL_law_0 : decode cL_law 0 = .ok (.new 8, 3) := dk_187 0 8 (dk_at dksL_law_0 0 rfl rfl)
theorem dL_law_3 : decode cL_law 3 = .ok (.dup, 1) := dk_89 (dk_at dksL_law_0 3 rfl rfl)
theorem dL_law_4 : decode cL_law 4 = .ok (.invokespecial 81, 3) := dk_183 0 81 (dk_at dksL_law_0 4 rfl rfl)
theorem dL_law_7 : decode cL_law 7 = .ok (.astore_n 1, 1) := dk_76 (dk_at dksL_law_0 7 rfl rfl)
theorem dL_law_8 : decode cL_law 8 = .ok (.new 82, 3) := dk_187 0 82 (dk_at dksL_law_0 8 rfl rfl)
theorem dL_law_11 : decode cL_law 11 = .ok (.dup, 1) := dk_89 (dk_at dksL_law_0 11 rfl rfl)
theorem dL_law_12 : decode cL_law 12 = .ok (.invokespecial 84, 3) := dk_183 0 84 (dk_at dksL_law_0 12 rfl rfl)
theorem dL_law_15 : decode cL_law 15 = .ok (.astore_n 2, 1) := dk_77 (dk_at dksL_law_0 15 rfl rfl)
theorem dL_law_16 : decode cL_law 16 = .ok (.iconst 1, 1) := dk_4 (dk_at dksL_law_0 16 rfl rfl)
theorem dL_law_17 : decode cL_law 17 = .ok (.newarray .long, 2) := dk_188_11 (dk_at dksL_law_0 17 rfl rfl)
theorem dL_law_19 : decode cL_law 19 = .ok (.astore_n 3, 1) := dk_78 (dk_at dksL_law_0 19 rfl rfl)
theorem dL_law_20 : decode cL_law 20 = .ok (.iconst 0, 1) := dk_3 (dk_at dksL_law_0 20 rfl rfl)
theorem dL_law_21 : decode cL_law 21 = .ok (.istore 4, 2) := dk_54 4 (dk_at dksL_law_0 21 rfl rfl)
theorem dL_law_23 : decode cL_law 23 = .ok (.iload 4, 2) := dk_21 4 (dk_at dksL_law_1 0 rfl rfl)
theorem dL_law_25 : decode cL_law 25 = .ok (.aload_n 0, 1) := dk_42 (dk_at dksL_law_1 2 rfl rfl)
theorem dL_law_26 : decode cL_law 26 = .ok (.arraylength, 1) := dk_190 (dk_at dksL_law_1 3 rfl rfl)
theorem dL_law_27 : decode cL_law 27 = .ok (.bipush 6, 2) := dk_16 6 (dk_at dksL_law_1 4 rfl rfl)
theorem dL_law_29 : decode cL_law 29 = .ok (.isub, 1) := dk_100 (dk_at dksL_law_1 6 rfl rfl)
theorem dL_law_30 : decode cL_law 30 = .ok (.if_icmp .gt 1438, 3) := dk_163 5 158 (dk_at dksL_law_1 7 rfl rfl)
theorem dL_law_33 : decode cL_law 33 = .ok (.aload_n 0, 1) := dk_42 (dk_at dksL_law_1 10 rfl rfl)
theorem dL_law_34 : decode cL_law 34 = .ok (.iload 4, 2) := dk_21 4 (dk_at dksL_law_1 11 rfl rfl)
theorem dL_law_36 : decode cL_law 36 = .ok (.iaload, 1) := dk_46 (dk_at dksL_law_1 13 rfl rfl)
theorem dL_law_37 : decode cL_law 37 = .ok (.bipush 31, 2) := dk_16 31 (dk_at dksL_law_1 14 rfl rfl)
theorem dL_law_39 : decode cL_law 39 = .ok (.iand, 1) := dk_126 (dk_at dksL_law_1 16 rfl rfl)
theorem dL_law_40 : decode cL_law 40 = .ok (.tableswitch 1422 0 23 #[112, 170, 214, 227, 271, 284, 340, 408, 421, 489, 557, 613, 681, 749, 817, 901, 957, 1025, 1093, 1161, 1229, 1285, 1298, 1354], 112) := by decide +kernel
theorem dL_law_152 : decode cL_law 152 = .ok (.aload_n 1, 1) := dk_43 (dk_at dksL_law_3 0 rfl rfl)
theorem dL_law_153 : decode cL_law 153 = .ok (.aload_n 0, 1) := dk_42 (dk_at dksL_law_3 1 rfl rfl)
theorem dL_law_154 : decode cL_law 154 = .ok (.iload 4, 2) := dk_21 4 (dk_at dksL_law_3 2 rfl rfl)
theorem dL_law_156 : decode cL_law 156 = .ok (.iconst 1, 1) := dk_4 (dk_at dksL_law_3 4 rfl rfl)
theorem dL_law_157 : decode cL_law 157 = .ok (.iadd, 1) := dk_96 (dk_at dksL_law_3 5 rfl rfl)
theorem dL_law_158 : decode cL_law 158 = .ok (.iaload, 1) := dk_46 (dk_at dksL_law_3 6 rfl rfl)
theorem dL_law_159 : decode cL_law 159 = .ok (.i2c, 1) := dk_146 (dk_at dksL_law_3 7 rfl rfl)
theorem dL_law_160 : decode cL_law 160 = .ok (.aload_n 3, 1) := dk_45 (dk_at dksL_law_3 8 rfl rfl)
theorem dL_law_161 : decode cL_law 161 = .ok (.invokestatic 85, 3) := dk_184 0 85 (dk_at dksL_law_3 9 rfl rfl)
theorem dL_law_164 : decode cL_law 164 = .ok (.istore 5, 2) := dk_54 5 (dk_at dksL_law_3 12 rfl rfl)
theorem dL_law_166 : decode cL_law 166 = .ok (.aload_n 2, 1) := dk_44 (dk_at dksL_law_3 14 rfl rfl)
theorem dL_law_167 : decode cL_law 167 = .ok (.aload_n 0, 1) := dk_42 (dk_at dksL_law_3 15 rfl rfl)
theorem dL_law_168 : decode cL_law 168 = .ok (.iload 4, 2) := dk_21 4 (dk_at dksL_law_3 16 rfl rfl)
theorem dL_law_170 : decode cL_law 170 = .ok (.iconst 1, 1) := dk_4 (dk_at dksL_law_3 18 rfl rfl)
theorem dL_law_171 : decode cL_law 171 = .ok (.iadd, 1) := dk_96 (dk_at dksL_law_3 19 rfl rfl)
theorem dL_law_172 : decode cL_law 172 = .ok (.iaload, 1) := dk_46 (dk_at dksL_law_3 20 rfl rfl)
theorem dL_law_173 : decode cL_law 173 = .ok (.i2c, 1) := dk_146 (dk_at dksL_law_3 21 rfl rfl)
theorem dL_law_174 : decode cL_law 174 = .ok (.invokevirtual 90, 3) := dk_182 0 90 (dk_at dksL_law_4 0 rfl rfl)
theorem dL_law_177 : decode cL_law 177 = .ok (.istore 6, 2) := dk_54 6 (dk_at dksL_law_4 3 rfl rfl)
theorem dL_law_179 : decode cL_law 179 = .ok (.aload_n 2, 1) := dk_44 (dk_at dksL_law_4 5 rfl rfl)
theorem dL_law_180 : decode cL_law 180 = .ok (.invokevirtual 91, 3) := dk_182 0 91 (dk_at dksL_law_4 6 rfl rfl)
theorem dL_law_183 : decode cL_law 183 = .ok (.iload 5, 2) := dk_21 5 (dk_at dksL_law_4 9 rfl rfl)
theorem dL_law_185 : decode cL_law 185 = .ok (.if_icmp .eq 5, 3) := dk_159 0 5 (dk_at dksL_law_4 11 rfl rfl)
theorem dL_law_188 : decode cL_law 188 = .ok (.iconst 0, 1) := dk_3 (dk_at dksL_law_4 14 rfl rfl)
theorem dL_law_189 : decode cL_law 189 = .ok (.ireturn, 1) := dk_172 (dk_at dksL_law_4 15 rfl rfl)
theorem dL_law_190 : decode cL_law 190 = .ok (.iload 5, 2) := dk_21 5 (dk_at dksL_law_4 16 rfl rfl)
theorem dL_law_192 : decode cL_law 192 = .ok (.ifCond .ne 15, 3) := dk_154 0 15 (dk_at dksL_law_4 18 rfl rfl)
theorem dL_law_195 : decode cL_law 195 = .ok (.aload_n 3, 1) := dk_45 (dk_at dksL_law_4 21 rfl rfl)
theorem dL_law_196 : decode cL_law 196 = .ok (.iconst 0, 1) := dk_3 (dk_at dksL_law_4 22 rfl rfl)
theorem dL_law_197 : decode cL_law 197 = .ok (.laload, 1) := dk_47 (dk_at dksL_law_4 23 rfl rfl)
theorem dL_law_198 : decode cL_law 198 = .ok (.iload 6, 2) := dk_21 6 (dk_at dksL_law_5 0 rfl rfl)
theorem dL_law_200 : decode cL_law 200 = .ok (.i2l, 1) := dk_133 (dk_at dksL_law_5 2 rfl rfl)
theorem dL_law_201 : decode cL_law 201 = .ok (.lcmp, 1) := dk_148 (dk_at dksL_law_5 3 rfl rfl)
theorem dL_law_202 : decode cL_law 202 = .ok (.ifCond .eq 5, 3) := dk_153 0 5 (dk_at dksL_law_5 4 rfl rfl)
theorem dL_law_205 : decode cL_law 205 = .ok (.iconst 0, 1) := dk_3 (dk_at dksL_law_5 7 rfl rfl)
theorem dL_law_206 : decode cL_law 206 = .ok (.ireturn, 1) := dk_172 (dk_at dksL_law_5 8 rfl rfl)
theorem dL_law_207 : decode cL_law 207 = .ok (.goto 1255, 3) := dk_167 4 231 (dk_at dksL_law_5 9 rfl rfl)
theorem dL_law_210 : decode cL_law 210 = .ok (.aload_n 1, 1) := dk_43 (dk_at dksL_law_5 12 rfl rfl)
theorem dL_law_211 : decode cL_law 211 = .ok (.aload_n 3, 1) := dk_45 (dk_at dksL_law_5 13 rfl rfl)
theorem dL_law_212 : decode cL_law 212 = .ok (.invokestatic 94, 3) := dk_184 0 94 (dk_at dksL_law_5 14 rfl rfl)
theorem dL_law_215 : decode cL_law 215 = .ok (.istore 5, 2) := dk_54 5 (dk_at dksL_law_5 17 rfl rfl)
theorem dL_law_217 : decode cL_law 217 = .ok (.aload_n 2, 1) := dk_44 (dk_at dksL_law_5 19 rfl rfl)
theorem dL_law_218 : decode cL_law 218 = .ok (.invokevirtual 97, 3) := dk_182 0 97 (dk_at dksL_law_5 20 rfl rfl)
theorem dL_law_221 : decode cL_law 221 = .ok (.istore 6, 2) := dk_54 6 (dk_at dksL_law_6 0 rfl rfl)
theorem dL_law_223 : decode cL_law 223 = .ok (.aload_n 2, 1) := dk_44 (dk_at dksL_law_6 2 rfl rfl)
theorem dL_law_224 : decode cL_law 224 = .ok (.invokevirtual 91, 3) := dk_182 0 91 (dk_at dksL_law_6 3 rfl rfl)
theorem dL_law_227 : decode cL_law 227 = .ok (.iload 5, 2) := dk_21 5 (dk_at dksL_law_6 6 rfl rfl)
theorem dL_law_229 : decode cL_law 229 = .ok (.if_icmp .eq 5, 3) := dk_159 0 5 (dk_at dksL_law_6 8 rfl rfl)
theorem dL_law_232 : decode cL_law 232 = .ok (.iconst 0, 1) := dk_3 (dk_at dksL_law_6 11 rfl rfl)
theorem dL_law_233 : decode cL_law 233 = .ok (.ireturn, 1) := dk_172 (dk_at dksL_law_6 12 rfl rfl)
theorem dL_law_234 : decode cL_law 234 = .ok (.iload 5, 2) := dk_21 5 (dk_at dksL_law_6 13 rfl rfl)
theorem dL_law_236 : decode cL_law 236 = .ok (.ifCond .ne 15, 3) := dk_154 0 15 (dk_at dksL_law_6 15 rfl rfl)
theorem dL_law_239 : decode cL_law 239 = .ok (.aload_n 3, 1) := dk_45 (dk_at dksL_law_6 18 rfl rfl)
theorem dL_law_240 : decode cL_law 240 = .ok (.iconst 0, 1) := dk_3 (dk_at dksL_law_6 19 rfl rfl)
theorem dL_law_241 : decode cL_law 241 = .ok (.laload, 1) := dk_47 (dk_at dksL_law_6 20 rfl rfl)
theorem dL_law_242 : decode cL_law 242 = .ok (.iload 6, 2) := dk_21 6 (dk_at dksL_law_6 21 rfl rfl)
theorem dL_law_244 : decode cL_law 244 = .ok (.i2l, 1) := dk_133 (dk_at dksL_law_6 23 rfl rfl)
theorem dL_law_245 : decode cL_law 245 = .ok (.lcmp, 1) := dk_148 (dk_at dksL_law_7 0 rfl rfl)
theorem dL_law_246 : decode cL_law 246 = .ok (.ifCond .eq 5, 3) := dk_153 0 5 (dk_at dksL_law_7 1 rfl rfl)
theorem dL_law_249 : decode cL_law 249 = .ok (.iconst 0, 1) := dk_3 (dk_at dksL_law_7 4 rfl rfl)
theorem dL_law_250 : decode cL_law 250 = .ok (.ireturn, 1) := dk_172 (dk_at dksL_law_7 5 rfl rfl)
theorem dL_law_251 : decode cL_law 251 = .ok (.goto 1211, 3) := dk_167 4 187 (dk_at dksL_law_7 6 rfl rfl)
theorem dL_law_254 : decode cL_law 254 = .ok (.aload_n 1, 1) := dk_43 (dk_at dksL_law_7 9 rfl rfl)
theorem dL_law_255 : decode cL_law 255 = .ok (.invokevirtual 98, 3) := dk_182 0 98 (dk_at dksL_law_7 10 rfl rfl)
theorem dL_law_258 : decode cL_law 258 = .ok (.aload_n 2, 1) := dk_44 (dk_at dksL_law_7 13 rfl rfl)
theorem dL_law_259 : decode cL_law 259 = .ok (.invokevirtual 101, 3) := dk_182 0 101 (dk_at dksL_law_7 14 rfl rfl)
theorem dL_law_262 : decode cL_law 262 = .ok (.if_icmp .eq 1200, 3) := dk_159 4 176 (dk_at dksL_law_7 17 rfl rfl)
theorem dL_law_265 : decode cL_law 265 = .ok (.iconst 0, 1) := dk_3 (dk_at dksL_law_7 20 rfl rfl)
theorem dL_law_266 : decode cL_law 266 = .ok (.ireturn, 1) := dk_172 (dk_at dksL_law_7 21 rfl rfl)
theorem dL_law_267 : decode cL_law 267 = .ok (.aload_n 1, 1) := dk_43 (dk_at dksL_law_7 22 rfl rfl)
theorem dL_law_268 : decode cL_law 268 = .ok (.aload_n 3, 1) := dk_45 (dk_at dksL_law_7 23 rfl rfl)
theorem dL_law_269 : decode cL_law 269 = .ok (.invokestatic 102, 3) := dk_184 0 102 (dk_at dksL_law_8 0 rfl rfl)
theorem dL_law_272 : decode cL_law 272 = .ok (.istore 5, 2) := dk_54 5 (dk_at dksL_law_8 3 rfl rfl)
theorem dL_law_274 : decode cL_law 274 = .ok (.aload_n 2, 1) := dk_44 (dk_at dksL_law_8 5 rfl rfl)
theorem dL_law_275 : decode cL_law 275 = .ok (.invokevirtual 104, 3) := dk_182 0 104 (dk_at dksL_law_8 6 rfl rfl)
theorem dL_law_278 : decode cL_law 278 = .ok (.istore 6, 2) := dk_54 6 (dk_at dksL_law_8 9 rfl rfl)
theorem dL_law_280 : decode cL_law 280 = .ok (.aload_n 2, 1) := dk_44 (dk_at dksL_law_8 11 rfl rfl)
theorem dL_law_281 : decode cL_law 281 = .ok (.invokevirtual 91, 3) := dk_182 0 91 (dk_at dksL_law_8 12 rfl rfl)
theorem dL_law_284 : decode cL_law 284 = .ok (.iload 5, 2) := dk_21 5 (dk_at dksL_law_8 15 rfl rfl)
theorem dL_law_286 : decode cL_law 286 = .ok (.if_icmp .eq 5, 3) := dk_159 0 5 (dk_at dksL_law_8 17 rfl rfl)
theorem dL_law_289 : decode cL_law 289 = .ok (.iconst 0, 1) := dk_3 (dk_at dksL_law_8 20 rfl rfl)
theorem dL_law_290 : decode cL_law 290 = .ok (.ireturn, 1) := dk_172 (dk_at dksL_law_8 21 rfl rfl)
theorem dL_law_291 : decode cL_law 291 = .ok (.iload 5, 2) := dk_21 5 (dk_at dksL_law_8 22 rfl rfl)
theorem dL_law_293 : decode cL_law 293 = .ok (.ifCond .ne 15, 3) := dk_154 0 15 (dk_at dksL_law_9 0 rfl rfl)
theorem dL_law_296 : decode cL_law 296 = .ok (.aload_n 3, 1) := dk_45 (dk_at dksL_law_9 3 rfl rfl)
theorem dL_law_297 : decode cL_law 297 = .ok (.iconst 0, 1) := dk_3 (dk_at dksL_law_9 4 rfl rfl)
theorem dL_law_298 : decode cL_law 298 = .ok (.laload, 1) := dk_47 (dk_at dksL_law_9 5 rfl rfl)
theorem dL_law_299 : decode cL_law 299 = .ok (.iload 6, 2) := dk_21 6 (dk_at dksL_law_9 6 rfl rfl)
theorem dL_law_301 : decode cL_law 301 = .ok (.i2l, 1) := dk_133 (dk_at dksL_law_9 8 rfl rfl)
theorem dL_law_302 : decode cL_law 302 = .ok (.lcmp, 1) := dk_148 (dk_at dksL_law_9 9 rfl rfl)
theorem dL_law_303 : decode cL_law 303 = .ok (.ifCond .eq 5, 3) := dk_153 0 5 (dk_at dksL_law_9 10 rfl rfl)
theorem dL_law_306 : decode cL_law 306 = .ok (.iconst 0, 1) := dk_3 (dk_at dksL_law_9 13 rfl rfl)
theorem dL_law_307 : decode cL_law 307 = .ok (.ireturn, 1) := dk_172 (dk_at dksL_law_9 14 rfl rfl)
theorem dL_law_308 : decode cL_law 308 = .ok (.goto 1154, 3) := dk_167 4 130 (dk_at dksL_law_9 15 rfl rfl)
theorem dL_law_311 : decode cL_law 311 = .ok (.aload_n 1, 1) := dk_43 (dk_at dksL_law_9 18 rfl rfl)
theorem dL_law_312 : decode cL_law 312 = .ok (.invokevirtual 105, 3) := dk_182 0 105 (dk_at dksL_law_9 19 rfl rfl)
theorem dL_law_315 : decode cL_law 315 = .ok (.aload_n 2, 1) := dk_44 (dk_at dksL_law_9 22 rfl rfl)
theorem dL_law_316 : decode cL_law 316 = .ok (.invokevirtual 108, 3) := dk_182 0 108 (dk_at dksL_law_10 0 rfl rfl)
theorem dL_law_319 : decode cL_law 319 = .ok (.if_icmp .eq 1143, 3) := dk_159 4 119 (dk_at dksL_law_10 3 rfl rfl)
theorem dL_law_322 : decode cL_law 322 = .ok (.iconst 0, 1) := dk_3 (dk_at dksL_law_10 6 rfl rfl)
theorem dL_law_323 : decode cL_law 323 = .ok (.ireturn, 1) := dk_172 (dk_at dksL_law_10 7 rfl rfl)
theorem dL_law_324 : decode cL_law 324 = .ok (.aload_n 1, 1) := dk_43 (dk_at dksL_law_10 8 rfl rfl)
theorem dL_law_325 : decode cL_law 325 = .ok (.aload_n 0, 1) := dk_42 (dk_at dksL_law_10 9 rfl rfl)
theorem dL_law_326 : decode cL_law 326 = .ok (.iload 4, 2) := dk_21 4 (dk_at dksL_law_10 10 rfl rfl)
theorem dL_law_328 : decode cL_law 328 = .ok (.iconst 1, 1) := dk_4 (dk_at dksL_law_10 12 rfl rfl)
theorem dL_law_329 : decode cL_law 329 = .ok (.iadd, 1) := dk_96 (dk_at dksL_law_10 13 rfl rfl)
theorem dL_law_330 : decode cL_law 330 = .ok (.iaload, 1) := dk_46 (dk_at dksL_law_10 14 rfl rfl)
theorem dL_law_331 : decode cL_law 331 = .ok (.aload_n 3, 1) := dk_45 (dk_at dksL_law_10 15 rfl rfl)
theorem dL_law_332 : decode cL_law 332 = .ok (.invokestatic 109, 3) := dk_184 0 109 (dk_at dksL_law_10 16 rfl rfl)
theorem dL_law_335 : decode cL_law 335 = .ok (.istore 5, 2) := dk_54 5 (dk_at dksL_law_10 19 rfl rfl)
theorem dL_law_337 : decode cL_law 337 = .ok (.aload_n 2, 1) := dk_44 (dk_at dksL_law_10 21 rfl rfl)
theorem dL_law_338 : decode cL_law 338 = .ok (.aload_n 0, 1) := dk_42 (dk_at dksL_law_10 22 rfl rfl)
theorem dL_law_339 : decode cL_law 339 = .ok (.iload 4, 2) := dk_21 4 (dk_at dksL_law_11 0 rfl rfl)
theorem dL_law_341 : decode cL_law 341 = .ok (.iconst 1, 1) := dk_4 (dk_at dksL_law_11 2 rfl rfl)
theorem dL_law_342 : decode cL_law 342 = .ok (.iadd, 1) := dk_96 (dk_at dksL_law_11 3 rfl rfl)
theorem dL_law_343 : decode cL_law 343 = .ok (.iaload, 1) := dk_46 (dk_at dksL_law_11 4 rfl rfl)
theorem dL_law_344 : decode cL_law 344 = .ok (.invokevirtual 112, 3) := dk_182 0 112 (dk_at dksL_law_11 5 rfl rfl)
theorem dL_law_347 : decode cL_law 347 = .ok (.istore 6, 2) := dk_54 6 (dk_at dksL_law_11 8 rfl rfl)
theorem dL_law_349 : decode cL_law 349 = .ok (.aload_n 2, 1) := dk_44 (dk_at dksL_law_11 10 rfl rfl)
theorem dL_law_350 : decode cL_law 350 = .ok (.invokevirtual 91, 3) := dk_182 0 91 (dk_at dksL_law_11 11 rfl rfl)
theorem dL_law_353 : decode cL_law 353 = .ok (.iload 5, 2) := dk_21 5 (dk_at dksL_law_11 14 rfl rfl)
theorem dL_law_355 : decode cL_law 355 = .ok (.if_icmp .eq 5, 3) := dk_159 0 5 (dk_at dksL_law_11 16 rfl rfl)
theorem dL_law_358 : decode cL_law 358 = .ok (.iconst 0, 1) := dk_3 (dk_at dksL_law_11 19 rfl rfl)
theorem dL_law_359 : decode cL_law 359 = .ok (.ireturn, 1) := dk_172 (dk_at dksL_law_11 20 rfl rfl)
theorem dL_law_360 : decode cL_law 360 = .ok (.iload 5, 2) := dk_21 5 (dk_at dksL_law_11 21 rfl rfl)
theorem dL_law_362 : decode cL_law 362 = .ok (.ifCond .ne 15, 3) := dk_154 0 15 (dk_at dksL_law_12 0 rfl rfl)
theorem dL_law_365 : decode cL_law 365 = .ok (.aload_n 3, 1) := dk_45 (dk_at dksL_law_12 3 rfl rfl)
theorem dL_law_366 : decode cL_law 366 = .ok (.iconst 0, 1) := dk_3 (dk_at dksL_law_12 4 rfl rfl)
theorem dL_law_367 : decode cL_law 367 = .ok (.laload, 1) := dk_47 (dk_at dksL_law_12 5 rfl rfl)
theorem dL_law_368 : decode cL_law 368 = .ok (.iload 6, 2) := dk_21 6 (dk_at dksL_law_12 6 rfl rfl)
theorem dL_law_370 : decode cL_law 370 = .ok (.i2l, 1) := dk_133 (dk_at dksL_law_12 8 rfl rfl)
theorem dL_law_371 : decode cL_law 371 = .ok (.lcmp, 1) := dk_148 (dk_at dksL_law_12 9 rfl rfl)
theorem dL_law_372 : decode cL_law 372 = .ok (.ifCond .eq 5, 3) := dk_153 0 5 (dk_at dksL_law_12 10 rfl rfl)
theorem dL_law_375 : decode cL_law 375 = .ok (.iconst 0, 1) := dk_3 (dk_at dksL_law_12 13 rfl rfl)
theorem dL_law_376 : decode cL_law 376 = .ok (.ireturn, 1) := dk_172 (dk_at dksL_law_12 14 rfl rfl)
theorem dL_law_377 : decode cL_law 377 = .ok (.goto 1085, 3) := dk_167 4 61 (dk_at dksL_law_12 15 rfl rfl)
theorem dL_law_380 : decode cL_law 380 = .ok (.aload_n 1, 1) := dk_43 (dk_at dksL_law_12 18 rfl rfl)
theorem dL_law_381 : decode cL_law 381 = .ok (.aload_n 0, 1) := dk_42 (dk_at dksL_law_12 19 rfl rfl)
theorem dL_law_382 : decode cL_law 382 = .ok (.iload 4, 2) := dk_21 4 (dk_at dksL_law_12 20 rfl rfl)
theorem dL_law_384 : decode cL_law 384 = .ok (.iconst 1, 1) := dk_4 (dk_at dksL_law_12 22 rfl rfl)
theorem dL_law_385 : decode cL_law 385 = .ok (.iadd, 1) := dk_96 (dk_at dksL_law_12 23 rfl rfl)
theorem dL_law_386 : decode cL_law 386 = .ok (.iaload, 1) := dk_46 (dk_at dksL_law_13 0 rfl rfl)
theorem dL_law_387 : decode cL_law 387 = .ok (.aload_n 0, 1) := dk_42 (dk_at dksL_law_13 1 rfl rfl)
theorem dL_law_388 : decode cL_law 388 = .ok (.iload 4, 2) := dk_21 4 (dk_at dksL_law_13 2 rfl rfl)
theorem dL_law_390 : decode cL_law 390 = .ok (.iconst 2, 1) := dk_5 (dk_at dksL_law_13 4 rfl rfl)
theorem dL_law_391 : decode cL_law 391 = .ok (.iadd, 1) := dk_96 (dk_at dksL_law_13 5 rfl rfl)
theorem dL_law_392 : decode cL_law 392 = .ok (.iaload, 1) := dk_46 (dk_at dksL_law_13 6 rfl rfl)
theorem dL_law_393 : decode cL_law 393 = .ok (.aload_n 3, 1) := dk_45 (dk_at dksL_law_13 7 rfl rfl)
theorem dL_law_394 : decode cL_law 394 = .ok (.invokestatic 113, 3) := dk_184 0 113 (dk_at dksL_law_13 8 rfl rfl)
theorem dL_law_397 : decode cL_law 397 = .ok (.istore 5, 2) := dk_54 5 (dk_at dksL_law_13 11 rfl rfl)
theorem dL_law_399 : decode cL_law 399 = .ok (.aload_n 2, 1) := dk_44 (dk_at dksL_law_13 13 rfl rfl)
theorem dL_law_400 : decode cL_law 400 = .ok (.aload_n 0, 1) := dk_42 (dk_at dksL_law_13 14 rfl rfl)
theorem dL_law_401 : decode cL_law 401 = .ok (.iload 4, 2) := dk_21 4 (dk_at dksL_law_13 15 rfl rfl)
theorem dL_law_403 : decode cL_law 403 = .ok (.iconst 1, 1) := dk_4 (dk_at dksL_law_13 17 rfl rfl)
theorem dL_law_404 : decode cL_law 404 = .ok (.iadd, 1) := dk_96 (dk_at dksL_law_13 18 rfl rfl)
theorem dL_law_405 : decode cL_law 405 = .ok (.iaload, 1) := dk_46 (dk_at dksL_law_13 19 rfl rfl)
theorem dL_law_406 : decode cL_law 406 = .ok (.aload_n 0, 1) := dk_42 (dk_at dksL_law_13 20 rfl rfl)
theorem dL_law_407 : decode cL_law 407 = .ok (.iload 4, 2) := dk_21 4 (dk_at dksL_law_13 21 rfl rfl)
theorem dL_law_409 : decode cL_law 409 = .ok (.iconst 2, 1) := dk_5 (dk_at dksL_law_13 23 rfl rfl)
theorem dL_law_410 : decode cL_law 410 = .ok (.iadd, 1) := dk_96 (dk_at dksL_law_14 0 rfl rfl)
theorem dL_law_411 : decode cL_law 411 = .ok (.iaload, 1) := dk_46 (dk_at dksL_law_14 1 rfl rfl)
theorem dL_law_412 : decode cL_law 412 = .ok (.invokevirtual 116, 3) := dk_182 0 116 (dk_at dksL_law_14 2 rfl rfl)
theorem dL_law_415 : decode cL_law 415 = .ok (.istore 6, 2) := dk_54 6 (dk_at dksL_law_14 5 rfl rfl)
theorem dL_law_417 : decode cL_law 417 = .ok (.aload_n 2, 1) := dk_44 (dk_at dksL_law_14 7 rfl rfl)
theorem dL_law_418 : decode cL_law 418 = .ok (.invokevirtual 91, 3) := dk_182 0 91 (dk_at dksL_law_14 8 rfl rfl)
theorem dL_law_421 : decode cL_law 421 = .ok (.iload 5, 2) := dk_21 5 (dk_at dksL_law_14 11 rfl rfl)
theorem dL_law_423 : decode cL_law 423 = .ok (.if_icmp .eq 5, 3) := dk_159 0 5 (dk_at dksL_law_14 13 rfl rfl)
theorem dL_law_426 : decode cL_law 426 = .ok (.iconst 0, 1) := dk_3 (dk_at dksL_law_14 16 rfl rfl)
theorem dL_law_427 : decode cL_law 427 = .ok (.ireturn, 1) := dk_172 (dk_at dksL_law_14 17 rfl rfl)
theorem dL_law_428 : decode cL_law 428 = .ok (.iload 5, 2) := dk_21 5 (dk_at dksL_law_14 18 rfl rfl)
theorem dL_law_430 : decode cL_law 430 = .ok (.ifCond .ne 15, 3) := dk_154 0 15 (dk_at dksL_law_14 20 rfl rfl)
theorem dL_law_433 : decode cL_law 433 = .ok (.aload_n 3, 1) := dk_45 (dk_at dksL_law_14 23 rfl rfl)
theorem dL_law_434 : decode cL_law 434 = .ok (.iconst 0, 1) := dk_3 (dk_at dksL_law_15 0 rfl rfl)
theorem dL_law_435 : decode cL_law 435 = .ok (.laload, 1) := dk_47 (dk_at dksL_law_15 1 rfl rfl)
theorem dL_law_436 : decode cL_law 436 = .ok (.iload 6, 2) := dk_21 6 (dk_at dksL_law_15 2 rfl rfl)
theorem dL_law_438 : decode cL_law 438 = .ok (.i2l, 1) := dk_133 (dk_at dksL_law_15 4 rfl rfl)
theorem dL_law_439 : decode cL_law 439 = .ok (.lcmp, 1) := dk_148 (dk_at dksL_law_15 5 rfl rfl)
theorem dL_law_440 : decode cL_law 440 = .ok (.ifCond .eq 5, 3) := dk_153 0 5 (dk_at dksL_law_15 6 rfl rfl)
theorem dL_law_443 : decode cL_law 443 = .ok (.iconst 0, 1) := dk_3 (dk_at dksL_law_15 9 rfl rfl)
theorem dL_law_444 : decode cL_law 444 = .ok (.ireturn, 1) := dk_172 (dk_at dksL_law_15 10 rfl rfl)
theorem dL_law_445 : decode cL_law 445 = .ok (.goto 1017, 3) := dk_167 3 249 (dk_at dksL_law_15 11 rfl rfl)
theorem dL_law_448 : decode cL_law 448 = .ok (.aload_n 1, 1) := dk_43 (dk_at dksL_law_15 14 rfl rfl)
theorem dL_law_449 : decode cL_law 449 = .ok (.invokevirtual 117, 3) := dk_182 0 117 (dk_at dksL_law_15 15 rfl rfl)
theorem dL_law_452 : decode cL_law 452 = .ok (.aload_n 2, 1) := dk_44 (dk_at dksL_law_15 18 rfl rfl)
theorem dL_law_453 : decode cL_law 453 = .ok (.invokevirtual 120, 3) := dk_182 0 120 (dk_at dksL_law_15 19 rfl rfl)
theorem dL_law_456 : decode cL_law 456 = .ok (.if_icmp .eq 1006, 3) := dk_159 3 238 (dk_at dksL_law_16 0 rfl rfl)
theorem dL_law_459 : decode cL_law 459 = .ok (.iconst 0, 1) := dk_3 (dk_at dksL_law_16 3 rfl rfl)
theorem dL_law_460 : decode cL_law 460 = .ok (.ireturn, 1) := dk_172 (dk_at dksL_law_16 4 rfl rfl)
theorem dL_law_461 : decode cL_law 461 = .ok (.aload_n 1, 1) := dk_43 (dk_at dksL_law_16 5 rfl rfl)
theorem dL_law_462 : decode cL_law 462 = .ok (.aload_n 0, 1) := dk_42 (dk_at dksL_law_16 6 rfl rfl)
theorem dL_law_463 : decode cL_law 463 = .ok (.iload 4, 2) := dk_21 4 (dk_at dksL_law_16 7 rfl rfl)
theorem dL_law_465 : decode cL_law 465 = .ok (.iconst 1, 1) := dk_4 (dk_at dksL_law_16 9 rfl rfl)
theorem dL_law_466 : decode cL_law 466 = .ok (.iadd, 1) := dk_96 (dk_at dksL_law_16 10 rfl rfl)
theorem dL_law_467 : decode cL_law 467 = .ok (.iaload, 1) := dk_46 (dk_at dksL_law_16 11 rfl rfl)
theorem dL_law_468 : decode cL_law 468 = .ok (.aload_n 0, 1) := dk_42 (dk_at dksL_law_16 12 rfl rfl)
theorem dL_law_469 : decode cL_law 469 = .ok (.iload 4, 2) := dk_21 4 (dk_at dksL_law_16 13 rfl rfl)
theorem dL_law_471 : decode cL_law 471 = .ok (.iconst 2, 1) := dk_5 (dk_at dksL_law_16 15 rfl rfl)
theorem dL_law_472 : decode cL_law 472 = .ok (.iadd, 1) := dk_96 (dk_at dksL_law_16 16 rfl rfl)
theorem dL_law_473 : decode cL_law 473 = .ok (.iaload, 1) := dk_46 (dk_at dksL_law_16 17 rfl rfl)
theorem dL_law_474 : decode cL_law 474 = .ok (.aload_n 3, 1) := dk_45 (dk_at dksL_law_16 18 rfl rfl)
theorem dL_law_475 : decode cL_law 475 = .ok (.invokestatic 121, 3) := dk_184 0 121 (dk_at dksL_law_16 19 rfl rfl)
theorem dL_law_478 : decode cL_law 478 = .ok (.istore 5, 2) := dk_54 5 (dk_at dksL_law_16 22 rfl rfl)
theorem dL_law_480 : decode cL_law 480 = .ok (.aload_n 2, 1) := dk_44 (dk_at dksL_law_17 0 rfl rfl)
theorem dL_law_481 : decode cL_law 481 = .ok (.aload_n 0, 1) := dk_42 (dk_at dksL_law_17 1 rfl rfl)
theorem dL_law_482 : decode cL_law 482 = .ok (.iload 4, 2) := dk_21 4 (dk_at dksL_law_17 2 rfl rfl)
theorem dL_law_484 : decode cL_law 484 = .ok (.iconst 1, 1) := dk_4 (dk_at dksL_law_17 4 rfl rfl)
theorem dL_law_485 : decode cL_law 485 = .ok (.iadd, 1) := dk_96 (dk_at dksL_law_17 5 rfl rfl)
theorem dL_law_486 : decode cL_law 486 = .ok (.iaload, 1) := dk_46 (dk_at dksL_law_17 6 rfl rfl)
theorem dL_law_487 : decode cL_law 487 = .ok (.aload_n 0, 1) := dk_42 (dk_at dksL_law_17 7 rfl rfl)
theorem dL_law_488 : decode cL_law 488 = .ok (.iload 4, 2) := dk_21 4 (dk_at dksL_law_17 8 rfl rfl)
theorem dL_law_490 : decode cL_law 490 = .ok (.iconst 2, 1) := dk_5 (dk_at dksL_law_17 10 rfl rfl)
theorem dL_law_491 : decode cL_law 491 = .ok (.iadd, 1) := dk_96 (dk_at dksL_law_17 11 rfl rfl)
theorem dL_law_492 : decode cL_law 492 = .ok (.iaload, 1) := dk_46 (dk_at dksL_law_17 12 rfl rfl)
theorem dL_law_493 : decode cL_law 493 = .ok (.invokevirtual 123, 3) := dk_182 0 123 (dk_at dksL_law_17 13 rfl rfl)
theorem dL_law_496 : decode cL_law 496 = .ok (.istore 6, 2) := dk_54 6 (dk_at dksL_law_17 16 rfl rfl)
theorem dL_law_498 : decode cL_law 498 = .ok (.aload_n 2, 1) := dk_44 (dk_at dksL_law_17 18 rfl rfl)
theorem dL_law_499 : decode cL_law 499 = .ok (.invokevirtual 91, 3) := dk_182 0 91 (dk_at dksL_law_17 19 rfl rfl)
theorem dL_law_502 : decode cL_law 502 = .ok (.iload 5, 2) := dk_21 5 (dk_at dksL_law_17 22 rfl rfl)
theorem dL_law_504 : decode cL_law 504 = .ok (.if_icmp .eq 5, 3) := dk_159 0 5 (dk_at dksL_law_18 0 rfl rfl)
theorem dL_law_507 : decode cL_law 507 = .ok (.iconst 0, 1) := dk_3 (dk_at dksL_law_18 3 rfl rfl)
theorem dL_law_508 : decode cL_law 508 = .ok (.ireturn, 1) := dk_172 (dk_at dksL_law_18 4 rfl rfl)
theorem dL_law_509 : decode cL_law 509 = .ok (.iload 5, 2) := dk_21 5 (dk_at dksL_law_18 5 rfl rfl)
theorem dL_law_511 : decode cL_law 511 = .ok (.ifCond .ne 15, 3) := dk_154 0 15 (dk_at dksL_law_18 7 rfl rfl)
theorem dL_law_514 : decode cL_law 514 = .ok (.aload_n 3, 1) := dk_45 (dk_at dksL_law_18 10 rfl rfl)
theorem dL_law_515 : decode cL_law 515 = .ok (.iconst 0, 1) := dk_3 (dk_at dksL_law_18 11 rfl rfl)
theorem dL_law_516 : decode cL_law 516 = .ok (.laload, 1) := dk_47 (dk_at dksL_law_18 12 rfl rfl)
theorem dL_law_517 : decode cL_law 517 = .ok (.iload 6, 2) := dk_21 6 (dk_at dksL_law_18 13 rfl rfl)
theorem dL_law_519 : decode cL_law 519 = .ok (.i2l, 1) := dk_133 (dk_at dksL_law_18 15 rfl rfl)
theorem dL_law_520 : decode cL_law 520 = .ok (.lcmp, 1) := dk_148 (dk_at dksL_law_18 16 rfl rfl)
theorem dL_law_521 : decode cL_law 521 = .ok (.ifCond .eq 5, 3) := dk_153 0 5 (dk_at dksL_law_18 17 rfl rfl)
theorem dL_law_524 : decode cL_law 524 = .ok (.iconst 0, 1) := dk_3 (dk_at dksL_law_18 20 rfl rfl)
theorem dL_law_525 : decode cL_law 525 = .ok (.ireturn, 1) := dk_172 (dk_at dksL_law_18 21 rfl rfl)
theorem dL_law_526 : decode cL_law 526 = .ok (.goto 936, 3) := dk_167 3 168 (dk_at dksL_law_19 0 rfl rfl)
theorem dL_law_529 : decode cL_law 529 = .ok (.aload_n 1, 1) := dk_43 (dk_at dksL_law_19 3 rfl rfl)
theorem dL_law_530 : decode cL_law 530 = .ok (.aload_n 0, 1) := dk_42 (dk_at dksL_law_19 4 rfl rfl)
theorem dL_law_531 : decode cL_law 531 = .ok (.iload 4, 2) := dk_21 4 (dk_at dksL_law_19 5 rfl rfl)
theorem dL_law_533 : decode cL_law 533 = .ok (.iconst 1, 1) := dk_4 (dk_at dksL_law_19 7 rfl rfl)
theorem dL_law_534 : decode cL_law 534 = .ok (.iadd, 1) := dk_96 (dk_at dksL_law_19 8 rfl rfl)
theorem dL_law_535 : decode cL_law 535 = .ok (.iaload, 1) := dk_46 (dk_at dksL_law_19 9 rfl rfl)
theorem dL_law_536 : decode cL_law 536 = .ok (.aload_n 0, 1) := dk_42 (dk_at dksL_law_19 10 rfl rfl)
theorem dL_law_537 : decode cL_law 537 = .ok (.iload 4, 2) := dk_21 4 (dk_at dksL_law_19 11 rfl rfl)
theorem dL_law_539 : decode cL_law 539 = .ok (.iconst 2, 1) := dk_5 (dk_at dksL_law_19 13 rfl rfl)
theorem dL_law_540 : decode cL_law 540 = .ok (.iadd, 1) := dk_96 (dk_at dksL_law_19 14 rfl rfl)
theorem dL_law_541 : decode cL_law 541 = .ok (.iaload, 1) := dk_46 (dk_at dksL_law_19 15 rfl rfl)
theorem dL_law_542 : decode cL_law 542 = .ok (.aload_n 3, 1) := dk_45 (dk_at dksL_law_19 16 rfl rfl)
theorem dL_law_543 : decode cL_law 543 = .ok (.invokestatic 124, 3) := dk_184 0 124 (dk_at dksL_law_19 17 rfl rfl)
theorem dL_law_546 : decode cL_law 546 = .ok (.istore 5, 2) := dk_54 5 (dk_at dksL_law_19 20 rfl rfl)
theorem dL_law_548 : decode cL_law 548 = .ok (.aload_n 2, 1) := dk_44 (dk_at dksL_law_19 22 rfl rfl)
theorem dL_law_549 : decode cL_law 549 = .ok (.aload_n 0, 1) := dk_42 (dk_at dksL_law_19 23 rfl rfl)
theorem dL_law_550 : decode cL_law 550 = .ok (.iload 4, 2) := dk_21 4 (dk_at dksL_law_20 0 rfl rfl)
theorem dL_law_552 : decode cL_law 552 = .ok (.iconst 1, 1) := dk_4 (dk_at dksL_law_20 2 rfl rfl)
theorem dL_law_553 : decode cL_law 553 = .ok (.iadd, 1) := dk_96 (dk_at dksL_law_20 3 rfl rfl)
theorem dL_law_554 : decode cL_law 554 = .ok (.iaload, 1) := dk_46 (dk_at dksL_law_20 4 rfl rfl)
theorem dL_law_555 : decode cL_law 555 = .ok (.aload_n 0, 1) := dk_42 (dk_at dksL_law_20 5 rfl rfl)
theorem dL_law_556 : decode cL_law 556 = .ok (.iload 4, 2) := dk_21 4 (dk_at dksL_law_20 6 rfl rfl)
theorem dL_law_558 : decode cL_law 558 = .ok (.iconst 2, 1) := dk_5 (dk_at dksL_law_20 8 rfl rfl)
theorem dL_law_559 : decode cL_law 559 = .ok (.iadd, 1) := dk_96 (dk_at dksL_law_20 9 rfl rfl)
theorem dL_law_560 : decode cL_law 560 = .ok (.iaload, 1) := dk_46 (dk_at dksL_law_20 10 rfl rfl)
theorem dL_law_561 : decode cL_law 561 = .ok (.invokevirtual 126, 3) := dk_182 0 126 (dk_at dksL_law_20 11 rfl rfl)
theorem dL_law_564 : decode cL_law 564 = .ok (.istore 6, 2) := dk_54 6 (dk_at dksL_law_20 14 rfl rfl)
theorem dL_law_566 : decode cL_law 566 = .ok (.aload_n 2, 1) := dk_44 (dk_at dksL_law_20 16 rfl rfl)
theorem dL_law_567 : decode cL_law 567 = .ok (.invokevirtual 91, 3) := dk_182 0 91 (dk_at dksL_law_20 17 rfl rfl)
theorem dL_law_570 : decode cL_law 570 = .ok (.iload 5, 2) := dk_21 5 (dk_at dksL_law_20 20 rfl rfl)
theorem dL_law_572 : decode cL_law 572 = .ok (.if_icmp .eq 5, 3) := dk_159 0 5 (dk_at dksL_law_21 0 rfl rfl)
theorem dL_law_575 : decode cL_law 575 = .ok (.iconst 0, 1) := dk_3 (dk_at dksL_law_21 3 rfl rfl)
theorem dL_law_576 : decode cL_law 576 = .ok (.ireturn, 1) := dk_172 (dk_at dksL_law_21 4 rfl rfl)
theorem dL_law_577 : decode cL_law 577 = .ok (.iload 5, 2) := dk_21 5 (dk_at dksL_law_21 5 rfl rfl)
theorem dL_law_579 : decode cL_law 579 = .ok (.ifCond .ne 15, 3) := dk_154 0 15 (dk_at dksL_law_21 7 rfl rfl)
theorem dL_law_582 : decode cL_law 582 = .ok (.aload_n 3, 1) := dk_45 (dk_at dksL_law_21 10 rfl rfl)
theorem dL_law_583 : decode cL_law 583 = .ok (.iconst 0, 1) := dk_3 (dk_at dksL_law_21 11 rfl rfl)
theorem dL_law_584 : decode cL_law 584 = .ok (.laload, 1) := dk_47 (dk_at dksL_law_21 12 rfl rfl)
theorem dL_law_585 : decode cL_law 585 = .ok (.iload 6, 2) := dk_21 6 (dk_at dksL_law_21 13 rfl rfl)
theorem dL_law_587 : decode cL_law 587 = .ok (.i2l, 1) := dk_133 (dk_at dksL_law_21 15 rfl rfl)
theorem dL_law_588 : decode cL_law 588 = .ok (.lcmp, 1) := dk_148 (dk_at dksL_law_21 16 rfl rfl)
theorem dL_law_589 : decode cL_law 589 = .ok (.ifCond .eq 5, 3) := dk_153 0 5 (dk_at dksL_law_21 17 rfl rfl)
theorem dL_law_592 : decode cL_law 592 = .ok (.iconst 0, 1) := dk_3 (dk_at dksL_law_21 20 rfl rfl)
theorem dL_law_593 : decode cL_law 593 = .ok (.ireturn, 1) := dk_172 (dk_at dksL_law_21 21 rfl rfl)
theorem dL_law_594 : decode cL_law 594 = .ok (.goto 868, 3) := dk_167 3 100 (dk_at dksL_law_22 0 rfl rfl)
theorem dL_law_597 : decode cL_law 597 = .ok (.aload_n 1, 1) := dk_43 (dk_at dksL_law_22 3 rfl rfl)
theorem dL_law_598 : decode cL_law 598 = .ok (.aload_n 0, 1) := dk_42 (dk_at dksL_law_22 4 rfl rfl)
theorem dL_law_599 : decode cL_law 599 = .ok (.iload 4, 2) := dk_21 4 (dk_at dksL_law_22 5 rfl rfl)
theorem dL_law_601 : decode cL_law 601 = .ok (.iconst 1, 1) := dk_4 (dk_at dksL_law_22 7 rfl rfl)
theorem dL_law_602 : decode cL_law 602 = .ok (.iadd, 1) := dk_96 (dk_at dksL_law_22 8 rfl rfl)
theorem dL_law_603 : decode cL_law 603 = .ok (.iaload, 1) := dk_46 (dk_at dksL_law_22 9 rfl rfl)
theorem dL_law_604 : decode cL_law 604 = .ok (.aload_n 3, 1) := dk_45 (dk_at dksL_law_22 10 rfl rfl)
theorem dL_law_605 : decode cL_law 605 = .ok (.invokestatic 127, 3) := dk_184 0 127 (dk_at dksL_law_22 11 rfl rfl)
theorem dL_law_608 : decode cL_law 608 = .ok (.istore 5, 2) := dk_54 5 (dk_at dksL_law_22 14 rfl rfl)
theorem dL_law_610 : decode cL_law 610 = .ok (.aload_n 2, 1) := dk_44 (dk_at dksL_law_22 16 rfl rfl)
theorem dL_law_611 : decode cL_law 611 = .ok (.aload_n 0, 1) := dk_42 (dk_at dksL_law_22 17 rfl rfl)
theorem dL_law_612 : decode cL_law 612 = .ok (.iload 4, 2) := dk_21 4 (dk_at dksL_law_22 18 rfl rfl)
theorem dL_law_614 : decode cL_law 614 = .ok (.iconst 1, 1) := dk_4 (dk_at dksL_law_22 20 rfl rfl)
theorem dL_law_615 : decode cL_law 615 = .ok (.iadd, 1) := dk_96 (dk_at dksL_law_22 21 rfl rfl)
theorem dL_law_616 : decode cL_law 616 = .ok (.iaload, 1) := dk_46 (dk_at dksL_law_22 22 rfl rfl)
theorem dL_law_617 : decode cL_law 617 = .ok (.invokevirtual 129, 3) := dk_182 0 129 (dk_at dksL_law_23 0 rfl rfl)
theorem dL_law_620 : decode cL_law 620 = .ok (.istore 6, 2) := dk_54 6 (dk_at dksL_law_23 3 rfl rfl)
theorem dL_law_622 : decode cL_law 622 = .ok (.aload_n 2, 1) := dk_44 (dk_at dksL_law_23 5 rfl rfl)
theorem dL_law_623 : decode cL_law 623 = .ok (.invokevirtual 91, 3) := dk_182 0 91 (dk_at dksL_law_23 6 rfl rfl)
theorem dL_law_626 : decode cL_law 626 = .ok (.iload 5, 2) := dk_21 5 (dk_at dksL_law_23 9 rfl rfl)
theorem dL_law_628 : decode cL_law 628 = .ok (.if_icmp .eq 5, 3) := dk_159 0 5 (dk_at dksL_law_23 11 rfl rfl)
theorem dL_law_631 : decode cL_law 631 = .ok (.iconst 0, 1) := dk_3 (dk_at dksL_law_23 14 rfl rfl)
theorem dL_law_632 : decode cL_law 632 = .ok (.ireturn, 1) := dk_172 (dk_at dksL_law_23 15 rfl rfl)
theorem dL_law_633 : decode cL_law 633 = .ok (.iload 5, 2) := dk_21 5 (dk_at dksL_law_23 16 rfl rfl)
theorem dL_law_635 : decode cL_law 635 = .ok (.ifCond .ne 15, 3) := dk_154 0 15 (dk_at dksL_law_23 18 rfl rfl)
theorem dL_law_638 : decode cL_law 638 = .ok (.aload_n 3, 1) := dk_45 (dk_at dksL_law_23 21 rfl rfl)
theorem dL_law_639 : decode cL_law 639 = .ok (.iconst 0, 1) := dk_3 (dk_at dksL_law_23 22 rfl rfl)
theorem dL_law_640 : decode cL_law 640 = .ok (.laload, 1) := dk_47 (dk_at dksL_law_23 23 rfl rfl)
theorem dL_law_641 : decode cL_law 641 = .ok (.iload 6, 2) := dk_21 6 (dk_at dksL_law_24 0 rfl rfl)
theorem dL_law_643 : decode cL_law 643 = .ok (.i2l, 1) := dk_133 (dk_at dksL_law_24 2 rfl rfl)
theorem dL_law_644 : decode cL_law 644 = .ok (.lcmp, 1) := dk_148 (dk_at dksL_law_24 3 rfl rfl)
theorem dL_law_645 : decode cL_law 645 = .ok (.ifCond .eq 5, 3) := dk_153 0 5 (dk_at dksL_law_24 4 rfl rfl)
theorem dL_law_648 : decode cL_law 648 = .ok (.iconst 0, 1) := dk_3 (dk_at dksL_law_24 7 rfl rfl)
theorem dL_law_649 : decode cL_law 649 = .ok (.ireturn, 1) := dk_172 (dk_at dksL_law_24 8 rfl rfl)
theorem dL_law_650 : decode cL_law 650 = .ok (.goto 812, 3) := dk_167 3 44 (dk_at dksL_law_24 9 rfl rfl)
theorem dL_law_653 : decode cL_law 653 = .ok (.aload_n 1, 1) := dk_43 (dk_at dksL_law_24 12 rfl rfl)
theorem dL_law_654 : decode cL_law 654 = .ok (.aload_n 0, 1) := dk_42 (dk_at dksL_law_24 13 rfl rfl)
theorem dL_law_655 : decode cL_law 655 = .ok (.iload 4, 2) := dk_21 4 (dk_at dksL_law_24 14 rfl rfl)
theorem dL_law_657 : decode cL_law 657 = .ok (.iconst 1, 1) := dk_4 (dk_at dksL_law_24 16 rfl rfl)
theorem dL_law_658 : decode cL_law 658 = .ok (.iadd, 1) := dk_96 (dk_at dksL_law_24 17 rfl rfl)
theorem dL_law_659 : decode cL_law 659 = .ok (.iaload, 1) := dk_46 (dk_at dksL_law_24 18 rfl rfl)
theorem dL_law_660 : decode cL_law 660 = .ok (.aload_n 0, 1) := dk_42 (dk_at dksL_law_24 19 rfl rfl)
theorem dL_law_661 : decode cL_law 661 = .ok (.iload 4, 2) := dk_21 4 (dk_at dksL_law_24 20 rfl rfl)
theorem dL_law_663 : decode cL_law 663 = .ok (.iconst 2, 1) := dk_5 (dk_at dksL_law_24 22 rfl rfl)
theorem dL_law_664 : decode cL_law 664 = .ok (.iadd, 1) := dk_96 (dk_at dksL_law_24 23 rfl rfl)
theorem dL_law_665 : decode cL_law 665 = .ok (.iaload, 1) := dk_46 (dk_at dksL_law_25 0 rfl rfl)
theorem dL_law_666 : decode cL_law 666 = .ok (.aload_n 3, 1) := dk_45 (dk_at dksL_law_25 1 rfl rfl)
theorem dL_law_667 : decode cL_law 667 = .ok (.invokestatic 130, 3) := dk_184 0 130 (dk_at dksL_law_25 2 rfl rfl)
theorem dL_law_670 : decode cL_law 670 = .ok (.istore 5, 2) := dk_54 5 (dk_at dksL_law_25 5 rfl rfl)
theorem dL_law_672 : decode cL_law 672 = .ok (.aload_n 2, 1) := dk_44 (dk_at dksL_law_25 7 rfl rfl)
theorem dL_law_673 : decode cL_law 673 = .ok (.aload_n 0, 1) := dk_42 (dk_at dksL_law_25 8 rfl rfl)
theorem dL_law_674 : decode cL_law 674 = .ok (.iload 4, 2) := dk_21 4 (dk_at dksL_law_25 9 rfl rfl)
theorem dL_law_676 : decode cL_law 676 = .ok (.iconst 1, 1) := dk_4 (dk_at dksL_law_25 11 rfl rfl)
theorem dL_law_677 : decode cL_law 677 = .ok (.iadd, 1) := dk_96 (dk_at dksL_law_25 12 rfl rfl)
theorem dL_law_678 : decode cL_law 678 = .ok (.iaload, 1) := dk_46 (dk_at dksL_law_25 13 rfl rfl)
theorem dL_law_679 : decode cL_law 679 = .ok (.aload_n 0, 1) := dk_42 (dk_at dksL_law_25 14 rfl rfl)
theorem dL_law_680 : decode cL_law 680 = .ok (.iload 4, 2) := dk_21 4 (dk_at dksL_law_25 15 rfl rfl)
theorem dL_law_682 : decode cL_law 682 = .ok (.iconst 2, 1) := dk_5 (dk_at dksL_law_25 17 rfl rfl)
theorem dL_law_683 : decode cL_law 683 = .ok (.iadd, 1) := dk_96 (dk_at dksL_law_25 18 rfl rfl)
theorem dL_law_684 : decode cL_law 684 = .ok (.iaload, 1) := dk_46 (dk_at dksL_law_25 19 rfl rfl)
theorem dL_law_685 : decode cL_law 685 = .ok (.invokevirtual 132, 3) := dk_182 0 132 (dk_at dksL_law_25 20 rfl rfl)
theorem dL_law_688 : decode cL_law 688 = .ok (.istore 6, 2) := dk_54 6 (dk_at dksL_law_26 0 rfl rfl)
theorem dL_law_690 : decode cL_law 690 = .ok (.aload_n 2, 1) := dk_44 (dk_at dksL_law_26 2 rfl rfl)
theorem dL_law_691 : decode cL_law 691 = .ok (.invokevirtual 91, 3) := dk_182 0 91 (dk_at dksL_law_26 3 rfl rfl)
theorem dL_law_694 : decode cL_law 694 = .ok (.iload 5, 2) := dk_21 5 (dk_at dksL_law_26 6 rfl rfl)
theorem dL_law_696 : decode cL_law 696 = .ok (.if_icmp .eq 5, 3) := dk_159 0 5 (dk_at dksL_law_26 8 rfl rfl)
theorem dL_law_699 : decode cL_law 699 = .ok (.iconst 0, 1) := dk_3 (dk_at dksL_law_26 11 rfl rfl)
theorem dL_law_700 : decode cL_law 700 = .ok (.ireturn, 1) := dk_172 (dk_at dksL_law_26 12 rfl rfl)
theorem dL_law_701 : decode cL_law 701 = .ok (.iload 5, 2) := dk_21 5 (dk_at dksL_law_26 13 rfl rfl)
theorem dL_law_703 : decode cL_law 703 = .ok (.ifCond .ne 15, 3) := dk_154 0 15 (dk_at dksL_law_26 15 rfl rfl)
theorem dL_law_706 : decode cL_law 706 = .ok (.aload_n 3, 1) := dk_45 (dk_at dksL_law_26 18 rfl rfl)
theorem dL_law_707 : decode cL_law 707 = .ok (.iconst 0, 1) := dk_3 (dk_at dksL_law_26 19 rfl rfl)
theorem dL_law_708 : decode cL_law 708 = .ok (.laload, 1) := dk_47 (dk_at dksL_law_26 20 rfl rfl)
theorem dL_law_709 : decode cL_law 709 = .ok (.iload 6, 2) := dk_21 6 (dk_at dksL_law_26 21 rfl rfl)
theorem dL_law_711 : decode cL_law 711 = .ok (.i2l, 1) := dk_133 (dk_at dksL_law_26 23 rfl rfl)
theorem dL_law_712 : decode cL_law 712 = .ok (.lcmp, 1) := dk_148 (dk_at dksL_law_27 0 rfl rfl)
theorem dL_law_713 : decode cL_law 713 = .ok (.ifCond .eq 5, 3) := dk_153 0 5 (dk_at dksL_law_27 1 rfl rfl)
theorem dL_law_716 : decode cL_law 716 = .ok (.iconst 0, 1) := dk_3 (dk_at dksL_law_27 4 rfl rfl)
theorem dL_law_717 : decode cL_law 717 = .ok (.ireturn, 1) := dk_172 (dk_at dksL_law_27 5 rfl rfl)
theorem dL_law_718 : decode cL_law 718 = .ok (.goto 744, 3) := dk_167 2 232 (dk_at dksL_law_27 6 rfl rfl)
theorem dL_law_721 : decode cL_law 721 = .ok (.aload_n 1, 1) := dk_43 (dk_at dksL_law_27 9 rfl rfl)
theorem dL_law_722 : decode cL_law 722 = .ok (.aload_n 0, 1) := dk_42 (dk_at dksL_law_27 10 rfl rfl)
theorem dL_law_723 : decode cL_law 723 = .ok (.iload 4, 2) := dk_21 4 (dk_at dksL_law_27 11 rfl rfl)
theorem dL_law_725 : decode cL_law 725 = .ok (.iconst 1, 1) := dk_4 (dk_at dksL_law_27 13 rfl rfl)
theorem dL_law_726 : decode cL_law 726 = .ok (.iadd, 1) := dk_96 (dk_at dksL_law_27 14 rfl rfl)
theorem dL_law_727 : decode cL_law 727 = .ok (.iaload, 1) := dk_46 (dk_at dksL_law_27 15 rfl rfl)
theorem dL_law_728 : decode cL_law 728 = .ok (.aload_n 0, 1) := dk_42 (dk_at dksL_law_27 16 rfl rfl)
theorem dL_law_729 : decode cL_law 729 = .ok (.iload 4, 2) := dk_21 4 (dk_at dksL_law_27 17 rfl rfl)
theorem dL_law_731 : decode cL_law 731 = .ok (.iconst 2, 1) := dk_5 (dk_at dksL_law_27 19 rfl rfl)
theorem dL_law_732 : decode cL_law 732 = .ok (.iadd, 1) := dk_96 (dk_at dksL_law_27 20 rfl rfl)
theorem dL_law_733 : decode cL_law 733 = .ok (.iaload, 1) := dk_46 (dk_at dksL_law_27 21 rfl rfl)
theorem dL_law_734 : decode cL_law 734 = .ok (.aload_n 3, 1) := dk_45 (dk_at dksL_law_27 22 rfl rfl)
theorem dL_law_735 : decode cL_law 735 = .ok (.invokestatic 133, 3) := dk_184 0 133 (dk_at dksL_law_28 0 rfl rfl)
theorem dL_law_738 : decode cL_law 738 = .ok (.istore 5, 2) := dk_54 5 (dk_at dksL_law_28 3 rfl rfl)
theorem dL_law_740 : decode cL_law 740 = .ok (.aload_n 2, 1) := dk_44 (dk_at dksL_law_28 5 rfl rfl)
theorem dL_law_741 : decode cL_law 741 = .ok (.aload_n 0, 1) := dk_42 (dk_at dksL_law_28 6 rfl rfl)
theorem dL_law_742 : decode cL_law 742 = .ok (.iload 4, 2) := dk_21 4 (dk_at dksL_law_28 7 rfl rfl)
theorem dL_law_744 : decode cL_law 744 = .ok (.iconst 1, 1) := dk_4 (dk_at dksL_law_28 9 rfl rfl)
theorem dL_law_745 : decode cL_law 745 = .ok (.iadd, 1) := dk_96 (dk_at dksL_law_28 10 rfl rfl)
theorem dL_law_746 : decode cL_law 746 = .ok (.iaload, 1) := dk_46 (dk_at dksL_law_28 11 rfl rfl)
theorem dL_law_747 : decode cL_law 747 = .ok (.aload_n 0, 1) := dk_42 (dk_at dksL_law_28 12 rfl rfl)
theorem dL_law_748 : decode cL_law 748 = .ok (.iload 4, 2) := dk_21 4 (dk_at dksL_law_28 13 rfl rfl)
theorem dL_law_750 : decode cL_law 750 = .ok (.iconst 2, 1) := dk_5 (dk_at dksL_law_28 15 rfl rfl)
theorem dL_law_751 : decode cL_law 751 = .ok (.iadd, 1) := dk_96 (dk_at dksL_law_28 16 rfl rfl)
theorem dL_law_752 : decode cL_law 752 = .ok (.iaload, 1) := dk_46 (dk_at dksL_law_28 17 rfl rfl)
theorem dL_law_753 : decode cL_law 753 = .ok (.invokevirtual 135, 3) := dk_182 0 135 (dk_at dksL_law_28 18 rfl rfl)
theorem dL_law_756 : decode cL_law 756 = .ok (.istore 6, 2) := dk_54 6 (dk_at dksL_law_28 21 rfl rfl)
theorem dL_law_758 : decode cL_law 758 = .ok (.aload_n 2, 1) := dk_44 (dk_at dksL_law_28 23 rfl rfl)
theorem dL_law_759 : decode cL_law 759 = .ok (.invokevirtual 91, 3) := dk_182 0 91 (dk_at dksL_law_29 0 rfl rfl)
theorem dL_law_762 : decode cL_law 762 = .ok (.iload 5, 2) := dk_21 5 (dk_at dksL_law_29 3 rfl rfl)
theorem dL_law_764 : decode cL_law 764 = .ok (.if_icmp .eq 5, 3) := dk_159 0 5 (dk_at dksL_law_29 5 rfl rfl)
theorem dL_law_767 : decode cL_law 767 = .ok (.iconst 0, 1) := dk_3 (dk_at dksL_law_29 8 rfl rfl)
theorem dL_law_768 : decode cL_law 768 = .ok (.ireturn, 1) := dk_172 (dk_at dksL_law_29 9 rfl rfl)
theorem dL_law_769 : decode cL_law 769 = .ok (.iload 5, 2) := dk_21 5 (dk_at dksL_law_29 10 rfl rfl)
theorem dL_law_771 : decode cL_law 771 = .ok (.ifCond .ne 15, 3) := dk_154 0 15 (dk_at dksL_law_29 12 rfl rfl)
theorem dL_law_774 : decode cL_law 774 = .ok (.aload_n 3, 1) := dk_45 (dk_at dksL_law_29 15 rfl rfl)
theorem dL_law_775 : decode cL_law 775 = .ok (.iconst 0, 1) := dk_3 (dk_at dksL_law_29 16 rfl rfl)
theorem dL_law_776 : decode cL_law 776 = .ok (.laload, 1) := dk_47 (dk_at dksL_law_29 17 rfl rfl)
theorem dL_law_777 : decode cL_law 777 = .ok (.iload 6, 2) := dk_21 6 (dk_at dksL_law_29 18 rfl rfl)
theorem dL_law_779 : decode cL_law 779 = .ok (.i2l, 1) := dk_133 (dk_at dksL_law_29 20 rfl rfl)
theorem dL_law_780 : decode cL_law 780 = .ok (.lcmp, 1) := dk_148 (dk_at dksL_law_29 21 rfl rfl)
theorem dL_law_781 : decode cL_law 781 = .ok (.ifCond .eq 5, 3) := dk_153 0 5 (dk_at dksL_law_30 0 rfl rfl)
theorem dL_law_784 : decode cL_law 784 = .ok (.iconst 0, 1) := dk_3 (dk_at dksL_law_30 3 rfl rfl)
theorem dL_law_785 : decode cL_law 785 = .ok (.ireturn, 1) := dk_172 (dk_at dksL_law_30 4 rfl rfl)
theorem dL_law_786 : decode cL_law 786 = .ok (.goto 676, 3) := dk_167 2 164 (dk_at dksL_law_30 5 rfl rfl)
theorem dL_law_789 : decode cL_law 789 = .ok (.aload_n 1, 1) := dk_43 (dk_at dksL_law_30 8 rfl rfl)
theorem dL_law_790 : decode cL_law 790 = .ok (.aload_n 0, 1) := dk_42 (dk_at dksL_law_30 9 rfl rfl)
theorem dL_law_791 : decode cL_law 791 = .ok (.iload 4, 2) := dk_21 4 (dk_at dksL_law_30 10 rfl rfl)
theorem dL_law_793 : decode cL_law 793 = .ok (.iconst 1, 1) := dk_4 (dk_at dksL_law_30 12 rfl rfl)
theorem dL_law_794 : decode cL_law 794 = .ok (.iadd, 1) := dk_96 (dk_at dksL_law_30 13 rfl rfl)
theorem dL_law_795 : decode cL_law 795 = .ok (.iaload, 1) := dk_46 (dk_at dksL_law_30 14 rfl rfl)
theorem dL_law_796 : decode cL_law 796 = .ok (.aload_n 0, 1) := dk_42 (dk_at dksL_law_30 15 rfl rfl)
theorem dL_law_797 : decode cL_law 797 = .ok (.iload 4, 2) := dk_21 4 (dk_at dksL_law_30 16 rfl rfl)
theorem dL_law_799 : decode cL_law 799 = .ok (.iconst 2, 1) := dk_5 (dk_at dksL_law_30 18 rfl rfl)
theorem dL_law_800 : decode cL_law 800 = .ok (.iadd, 1) := dk_96 (dk_at dksL_law_30 19 rfl rfl)
theorem dL_law_801 : decode cL_law 801 = .ok (.iaload, 1) := dk_46 (dk_at dksL_law_30 20 rfl rfl)
theorem dL_law_802 : decode cL_law 802 = .ok (.aload_n 3, 1) := dk_45 (dk_at dksL_law_30 21 rfl rfl)
theorem dL_law_803 : decode cL_law 803 = .ok (.invokestatic 136, 3) := dk_184 0 136 (dk_at dksL_law_31 0 rfl rfl)
theorem dL_law_806 : decode cL_law 806 = .ok (.istore 5, 2) := dk_54 5 (dk_at dksL_law_31 3 rfl rfl)
theorem dL_law_808 : decode cL_law 808 = .ok (.aload_n 2, 1) := dk_44 (dk_at dksL_law_31 5 rfl rfl)
theorem dL_law_809 : decode cL_law 809 = .ok (.aload_n 0, 1) := dk_42 (dk_at dksL_law_31 6 rfl rfl)
theorem dL_law_810 : decode cL_law 810 = .ok (.iload 4, 2) := dk_21 4 (dk_at dksL_law_31 7 rfl rfl)
theorem dL_law_812 : decode cL_law 812 = .ok (.iconst 1, 1) := dk_4 (dk_at dksL_law_31 9 rfl rfl)
theorem dL_law_813 : decode cL_law 813 = .ok (.iadd, 1) := dk_96 (dk_at dksL_law_31 10 rfl rfl)
theorem dL_law_814 : decode cL_law 814 = .ok (.iaload, 1) := dk_46 (dk_at dksL_law_31 11 rfl rfl)
theorem dL_law_815 : decode cL_law 815 = .ok (.aload_n 0, 1) := dk_42 (dk_at dksL_law_31 12 rfl rfl)
theorem dL_law_816 : decode cL_law 816 = .ok (.iload 4, 2) := dk_21 4 (dk_at dksL_law_31 13 rfl rfl)
theorem dL_law_818 : decode cL_law 818 = .ok (.iconst 2, 1) := dk_5 (dk_at dksL_law_31 15 rfl rfl)
theorem dL_law_819 : decode cL_law 819 = .ok (.iadd, 1) := dk_96 (dk_at dksL_law_31 16 rfl rfl)
theorem dL_law_820 : decode cL_law 820 = .ok (.iaload, 1) := dk_46 (dk_at dksL_law_31 17 rfl rfl)
theorem dL_law_821 : decode cL_law 821 = .ok (.invokevirtual 138, 3) := dk_182 0 138 (dk_at dksL_law_31 18 rfl rfl)
theorem dL_law_824 : decode cL_law 824 = .ok (.istore 6, 2) := dk_54 6 (dk_at dksL_law_31 21 rfl rfl)
theorem dL_law_826 : decode cL_law 826 = .ok (.aload_n 2, 1) := dk_44 (dk_at dksL_law_31 23 rfl rfl)
theorem dL_law_827 : decode cL_law 827 = .ok (.invokevirtual 91, 3) := dk_182 0 91 (dk_at dksL_law_32 0 rfl rfl)
theorem dL_law_830 : decode cL_law 830 = .ok (.iload 5, 2) := dk_21 5 (dk_at dksL_law_32 3 rfl rfl)
theorem dL_law_832 : decode cL_law 832 = .ok (.if_icmp .eq 5, 3) := dk_159 0 5 (dk_at dksL_law_32 5 rfl rfl)
theorem dL_law_835 : decode cL_law 835 = .ok (.iconst 0, 1) := dk_3 (dk_at dksL_law_32 8 rfl rfl)
theorem dL_law_836 : decode cL_law 836 = .ok (.ireturn, 1) := dk_172 (dk_at dksL_law_32 9 rfl rfl)
theorem dL_law_837 : decode cL_law 837 = .ok (.iload 5, 2) := dk_21 5 (dk_at dksL_law_32 10 rfl rfl)
theorem dL_law_839 : decode cL_law 839 = .ok (.ifCond .ne 15, 3) := dk_154 0 15 (dk_at dksL_law_32 12 rfl rfl)
theorem dL_law_842 : decode cL_law 842 = .ok (.aload_n 3, 1) := dk_45 (dk_at dksL_law_32 15 rfl rfl)
theorem dL_law_843 : decode cL_law 843 = .ok (.iconst 0, 1) := dk_3 (dk_at dksL_law_32 16 rfl rfl)
theorem dL_law_844 : decode cL_law 844 = .ok (.laload, 1) := dk_47 (dk_at dksL_law_32 17 rfl rfl)
theorem dL_law_845 : decode cL_law 845 = .ok (.iload 6, 2) := dk_21 6 (dk_at dksL_law_32 18 rfl rfl)
theorem dL_law_847 : decode cL_law 847 = .ok (.i2l, 1) := dk_133 (dk_at dksL_law_32 20 rfl rfl)
theorem dL_law_848 : decode cL_law 848 = .ok (.lcmp, 1) := dk_148 (dk_at dksL_law_32 21 rfl rfl)
theorem dL_law_849 : decode cL_law 849 = .ok (.ifCond .eq 5, 3) := dk_153 0 5 (dk_at dksL_law_33 0 rfl rfl)
theorem dL_law_852 : decode cL_law 852 = .ok (.iconst 0, 1) := dk_3 (dk_at dksL_law_33 3 rfl rfl)
theorem dL_law_853 : decode cL_law 853 = .ok (.ireturn, 1) := dk_172 (dk_at dksL_law_33 4 rfl rfl)
theorem dL_law_854 : decode cL_law 854 = .ok (.goto 608, 3) := dk_167 2 96 (dk_at dksL_law_33 5 rfl rfl)
theorem dL_law_857 : decode cL_law 857 = .ok (.aload_n 1, 1) := dk_43 (dk_at dksL_law_33 8 rfl rfl)
theorem dL_law_858 : decode cL_law 858 = .ok (.aload_n 0, 1) := dk_42 (dk_at dksL_law_33 9 rfl rfl)
theorem dL_law_859 : decode cL_law 859 = .ok (.iload 4, 2) := dk_21 4 (dk_at dksL_law_33 10 rfl rfl)
theorem dL_law_861 : decode cL_law 861 = .ok (.iconst 1, 1) := dk_4 (dk_at dksL_law_33 12 rfl rfl)
theorem dL_law_862 : decode cL_law 862 = .ok (.iadd, 1) := dk_96 (dk_at dksL_law_33 13 rfl rfl)
theorem dL_law_863 : decode cL_law 863 = .ok (.iaload, 1) := dk_46 (dk_at dksL_law_33 14 rfl rfl)
theorem dL_law_864 : decode cL_law 864 = .ok (.aload_n 0, 1) := dk_42 (dk_at dksL_law_33 15 rfl rfl)
theorem dL_law_865 : decode cL_law 865 = .ok (.iload 4, 2) := dk_21 4 (dk_at dksL_law_33 16 rfl rfl)
theorem dL_law_867 : decode cL_law 867 = .ok (.iconst 2, 1) := dk_5 (dk_at dksL_law_33 18 rfl rfl)
theorem dL_law_868 : decode cL_law 868 = .ok (.iadd, 1) := dk_96 (dk_at dksL_law_33 19 rfl rfl)
theorem dL_law_869 : decode cL_law 869 = .ok (.iaload, 1) := dk_46 (dk_at dksL_law_33 20 rfl rfl)
theorem dL_law_870 : decode cL_law 870 = .ok (.aload_n 0, 1) := dk_42 (dk_at dksL_law_33 21 rfl rfl)
theorem dL_law_871 : decode cL_law 871 = .ok (.iload 4, 2) := dk_21 4 (dk_at dksL_law_33 22 rfl rfl)
theorem dL_law_873 : decode cL_law 873 = .ok (.iconst 3, 1) := dk_6 (dk_at dksL_law_34 0 rfl rfl)
theorem dL_law_874 : decode cL_law 874 = .ok (.iadd, 1) := dk_96 (dk_at dksL_law_34 1 rfl rfl)
theorem dL_law_875 : decode cL_law 875 = .ok (.iaload, 1) := dk_46 (dk_at dksL_law_34 2 rfl rfl)
theorem dL_law_876 : decode cL_law 876 = .ok (.aload_n 0, 1) := dk_42 (dk_at dksL_law_34 3 rfl rfl)
theorem dL_law_877 : decode cL_law 877 = .ok (.iload 4, 2) := dk_21 4 (dk_at dksL_law_34 4 rfl rfl)
theorem dL_law_879 : decode cL_law 879 = .ok (.iconst 4, 1) := dk_7 (dk_at dksL_law_34 6 rfl rfl)
theorem dL_law_880 : decode cL_law 880 = .ok (.iadd, 1) := dk_96 (dk_at dksL_law_34 7 rfl rfl)
theorem dL_law_881 : decode cL_law 881 = .ok (.iaload, 1) := dk_46 (dk_at dksL_law_34 8 rfl rfl)
theorem dL_law_882 : decode cL_law 882 = .ok (.aload_n 0, 1) := dk_42 (dk_at dksL_law_34 9 rfl rfl)
theorem dL_law_883 : decode cL_law 883 = .ok (.iload 4, 2) := dk_21 4 (dk_at dksL_law_34 10 rfl rfl)
theorem dL_law_885 : decode cL_law 885 = .ok (.iconst 5, 1) := dk_8 (dk_at dksL_law_34 12 rfl rfl)
theorem dL_law_886 : decode cL_law 886 = .ok (.iadd, 1) := dk_96 (dk_at dksL_law_34 13 rfl rfl)
theorem dL_law_887 : decode cL_law 887 = .ok (.iaload, 1) := dk_46 (dk_at dksL_law_34 14 rfl rfl)
theorem dL_law_888 : decode cL_law 888 = .ok (.invokestatic 139, 3) := dk_184 0 139 (dk_at dksL_law_34 15 rfl rfl)
theorem dL_law_891 : decode cL_law 891 = .ok (.istore 5, 2) := dk_54 5 (dk_at dksL_law_34 18 rfl rfl)
theorem dL_law_893 : decode cL_law 893 = .ok (.aload_n 2, 1) := dk_44 (dk_at dksL_law_34 20 rfl rfl)
theorem dL_law_894 : decode cL_law 894 = .ok (.aload_n 0, 1) := dk_42 (dk_at dksL_law_34 21 rfl rfl)
theorem dL_law_895 : decode cL_law 895 = .ok (.iload 4, 2) := dk_21 4 (dk_at dksL_law_34 22 rfl rfl)
theorem dL_law_897 : decode cL_law 897 = .ok (.iconst 1, 1) := dk_4 (dk_at dksL_law_35 0 rfl rfl)
theorem dL_law_898 : decode cL_law 898 = .ok (.iadd, 1) := dk_96 (dk_at dksL_law_35 1 rfl rfl)
theorem dL_law_899 : decode cL_law 899 = .ok (.iaload, 1) := dk_46 (dk_at dksL_law_35 2 rfl rfl)
theorem dL_law_900 : decode cL_law 900 = .ok (.aload_n 0, 1) := dk_42 (dk_at dksL_law_35 3 rfl rfl)
theorem dL_law_901 : decode cL_law 901 = .ok (.iload 4, 2) := dk_21 4 (dk_at dksL_law_35 4 rfl rfl)
theorem dL_law_903 : decode cL_law 903 = .ok (.iconst 2, 1) := dk_5 (dk_at dksL_law_35 6 rfl rfl)
theorem dL_law_904 : decode cL_law 904 = .ok (.iadd, 1) := dk_96 (dk_at dksL_law_35 7 rfl rfl)
theorem dL_law_905 : decode cL_law 905 = .ok (.iaload, 1) := dk_46 (dk_at dksL_law_35 8 rfl rfl)
theorem dL_law_906 : decode cL_law 906 = .ok (.aload_n 0, 1) := dk_42 (dk_at dksL_law_35 9 rfl rfl)
theorem dL_law_907 : decode cL_law 907 = .ok (.iload 4, 2) := dk_21 4 (dk_at dksL_law_35 10 rfl rfl)
theorem dL_law_909 : decode cL_law 909 = .ok (.iconst 3, 1) := dk_6 (dk_at dksL_law_35 12 rfl rfl)
theorem dL_law_910 : decode cL_law 910 = .ok (.iadd, 1) := dk_96 (dk_at dksL_law_35 13 rfl rfl)
theorem dL_law_911 : decode cL_law 911 = .ok (.iaload, 1) := dk_46 (dk_at dksL_law_35 14 rfl rfl)
theorem dL_law_912 : decode cL_law 912 = .ok (.aload_n 0, 1) := dk_42 (dk_at dksL_law_35 15 rfl rfl)
theorem dL_law_913 : decode cL_law 913 = .ok (.iload 4, 2) := dk_21 4 (dk_at dksL_law_35 16 rfl rfl)
theorem dL_law_915 : decode cL_law 915 = .ok (.iconst 4, 1) := dk_7 (dk_at dksL_law_35 18 rfl rfl)
theorem dL_law_916 : decode cL_law 916 = .ok (.iadd, 1) := dk_96 (dk_at dksL_law_35 19 rfl rfl)
theorem dL_law_917 : decode cL_law 917 = .ok (.iaload, 1) := dk_46 (dk_at dksL_law_35 20 rfl rfl)
theorem dL_law_918 : decode cL_law 918 = .ok (.aload_n 0, 1) := dk_42 (dk_at dksL_law_35 21 rfl rfl)
theorem dL_law_919 : decode cL_law 919 = .ok (.iload 4, 2) := dk_21 4 (dk_at dksL_law_35 22 rfl rfl)
theorem dL_law_921 : decode cL_law 921 = .ok (.iconst 5, 1) := dk_8 (dk_at dksL_law_36 0 rfl rfl)
theorem dL_law_922 : decode cL_law 922 = .ok (.iadd, 1) := dk_96 (dk_at dksL_law_36 1 rfl rfl)
theorem dL_law_923 : decode cL_law 923 = .ok (.iaload, 1) := dk_46 (dk_at dksL_law_36 2 rfl rfl)
theorem dL_law_924 : decode cL_law 924 = .ok (.invokevirtual 142, 3) := dk_182 0 142 (dk_at dksL_law_36 3 rfl rfl)
theorem dL_law_927 : decode cL_law 927 = .ok (.aload_n 2, 1) := dk_44 (dk_at dksL_law_36 6 rfl rfl)
theorem dL_law_928 : decode cL_law 928 = .ok (.invokevirtual 91, 3) := dk_182 0 91 (dk_at dksL_law_36 7 rfl rfl)
theorem dL_law_931 : decode cL_law 931 = .ok (.iload 5, 2) := dk_21 5 (dk_at dksL_law_36 10 rfl rfl)
theorem dL_law_933 : decode cL_law 933 = .ok (.if_icmp .eq 5, 3) := dk_159 0 5 (dk_at dksL_law_36 12 rfl rfl)
theorem dL_law_936 : decode cL_law 936 = .ok (.iconst 0, 1) := dk_3 (dk_at dksL_law_36 15 rfl rfl)
theorem dL_law_937 : decode cL_law 937 = .ok (.ireturn, 1) := dk_172 (dk_at dksL_law_36 16 rfl rfl)
theorem dL_law_938 : decode cL_law 938 = .ok (.goto 524, 3) := dk_167 2 12 (dk_at dksL_law_36 17 rfl rfl)
theorem dL_law_941 : decode cL_law 941 = .ok (.aload_n 1, 1) := dk_43 (dk_at dksL_law_36 20 rfl rfl)
theorem dL_law_942 : decode cL_law 942 = .ok (.aload_n 0, 1) := dk_42 (dk_at dksL_law_36 21 rfl rfl)
theorem dL_law_943 : decode cL_law 943 = .ok (.iload 4, 2) := dk_21 4 (dk_at dksL_law_36 22 rfl rfl)
theorem dL_law_945 : decode cL_law 945 = .ok (.iconst 1, 1) := dk_4 (dk_at dksL_law_37 0 rfl rfl)
theorem dL_law_946 : decode cL_law 946 = .ok (.iadd, 1) := dk_96 (dk_at dksL_law_37 1 rfl rfl)
theorem dL_law_947 : decode cL_law 947 = .ok (.iaload, 1) := dk_46 (dk_at dksL_law_37 2 rfl rfl)
theorem dL_law_948 : decode cL_law 948 = .ok (.aload_n 3, 1) := dk_45 (dk_at dksL_law_37 3 rfl rfl)
theorem dL_law_949 : decode cL_law 949 = .ok (.invokestatic 143, 3) := dk_184 0 143 (dk_at dksL_law_37 4 rfl rfl)
theorem dL_law_952 : decode cL_law 952 = .ok (.istore 5, 2) := dk_54 5 (dk_at dksL_law_37 7 rfl rfl)
theorem dL_law_954 : decode cL_law 954 = .ok (.aload_n 2, 1) := dk_44 (dk_at dksL_law_37 9 rfl rfl)
theorem dL_law_955 : decode cL_law 955 = .ok (.aload_n 0, 1) := dk_42 (dk_at dksL_law_37 10 rfl rfl)
theorem dL_law_956 : decode cL_law 956 = .ok (.iload 4, 2) := dk_21 4 (dk_at dksL_law_37 11 rfl rfl)
theorem dL_law_958 : decode cL_law 958 = .ok (.iconst 1, 1) := dk_4 (dk_at dksL_law_37 13 rfl rfl)
theorem dL_law_959 : decode cL_law 959 = .ok (.iadd, 1) := dk_96 (dk_at dksL_law_37 14 rfl rfl)
theorem dL_law_960 : decode cL_law 960 = .ok (.iaload, 1) := dk_46 (dk_at dksL_law_37 15 rfl rfl)
theorem dL_law_961 : decode cL_law 961 = .ok (.invokevirtual 145, 3) := dk_182 0 145 (dk_at dksL_law_37 16 rfl rfl)
theorem dL_law_964 : decode cL_law 964 = .ok (.istore 6, 2) := dk_54 6 (dk_at dksL_law_37 19 rfl rfl)
theorem dL_law_966 : decode cL_law 966 = .ok (.aload_n 2, 1) := dk_44 (dk_at dksL_law_37 21 rfl rfl)
theorem dL_law_967 : decode cL_law 967 = .ok (.invokevirtual 91, 3) := dk_182 0 91 (dk_at dksL_law_38 0 rfl rfl)
theorem dL_law_970 : decode cL_law 970 = .ok (.iload 5, 2) := dk_21 5 (dk_at dksL_law_38 3 rfl rfl)
theorem dL_law_972 : decode cL_law 972 = .ok (.if_icmp .eq 5, 3) := dk_159 0 5 (dk_at dksL_law_38 5 rfl rfl)
theorem dL_law_975 : decode cL_law 975 = .ok (.iconst 0, 1) := dk_3 (dk_at dksL_law_38 8 rfl rfl)
theorem dL_law_976 : decode cL_law 976 = .ok (.ireturn, 1) := dk_172 (dk_at dksL_law_38 9 rfl rfl)
theorem dL_law_977 : decode cL_law 977 = .ok (.iload 5, 2) := dk_21 5 (dk_at dksL_law_38 10 rfl rfl)
theorem dL_law_979 : decode cL_law 979 = .ok (.ifCond .ne 15, 3) := dk_154 0 15 (dk_at dksL_law_38 12 rfl rfl)
theorem dL_law_982 : decode cL_law 982 = .ok (.aload_n 3, 1) := dk_45 (dk_at dksL_law_38 15 rfl rfl)
theorem dL_law_983 : decode cL_law 983 = .ok (.iconst 0, 1) := dk_3 (dk_at dksL_law_38 16 rfl rfl)
theorem dL_law_984 : decode cL_law 984 = .ok (.laload, 1) := dk_47 (dk_at dksL_law_38 17 rfl rfl)
theorem dL_law_985 : decode cL_law 985 = .ok (.iload 6, 2) := dk_21 6 (dk_at dksL_law_38 18 rfl rfl)
theorem dL_law_987 : decode cL_law 987 = .ok (.i2l, 1) := dk_133 (dk_at dksL_law_38 20 rfl rfl)
theorem dL_law_988 : decode cL_law 988 = .ok (.lcmp, 1) := dk_148 (dk_at dksL_law_38 21 rfl rfl)
theorem dL_law_989 : decode cL_law 989 = .ok (.ifCond .eq 5, 3) := dk_153 0 5 (dk_at dksL_law_39 0 rfl rfl)
theorem dL_law_992 : decode cL_law 992 = .ok (.iconst 0, 1) := dk_3 (dk_at dksL_law_39 3 rfl rfl)
theorem dL_law_993 : decode cL_law 993 = .ok (.ireturn, 1) := dk_172 (dk_at dksL_law_39 4 rfl rfl)
theorem dL_law_994 : decode cL_law 994 = .ok (.goto 468, 3) := dk_167 1 212 (dk_at dksL_law_39 5 rfl rfl)
theorem dL_law_997 : decode cL_law 997 = .ok (.aload_n 1, 1) := dk_43 (dk_at dksL_law_39 8 rfl rfl)
theorem dL_law_998 : decode cL_law 998 = .ok (.aload_n 0, 1) := dk_42 (dk_at dksL_law_39 9 rfl rfl)
theorem dL_law_999 : decode cL_law 999 = .ok (.iload 4, 2) := dk_21 4 (dk_at dksL_law_39 10 rfl rfl)
theorem dL_law_1001 : decode cL_law 1001 = .ok (.iconst 1, 1) := dk_4 (dk_at dksL_law_39 12 rfl rfl)
theorem dL_law_1002 : decode cL_law 1002 = .ok (.iadd, 1) := dk_96 (dk_at dksL_law_39 13 rfl rfl)
theorem dL_law_1003 : decode cL_law 1003 = .ok (.iaload, 1) := dk_46 (dk_at dksL_law_39 14 rfl rfl)
theorem dL_law_1004 : decode cL_law 1004 = .ok (.aload_n 0, 1) := dk_42 (dk_at dksL_law_39 15 rfl rfl)
theorem dL_law_1005 : decode cL_law 1005 = .ok (.iload 4, 2) := dk_21 4 (dk_at dksL_law_39 16 rfl rfl)
theorem dL_law_1007 : decode cL_law 1007 = .ok (.iconst 2, 1) := dk_5 (dk_at dksL_law_39 18 rfl rfl)
theorem dL_law_1008 : decode cL_law 1008 = .ok (.iadd, 1) := dk_96 (dk_at dksL_law_39 19 rfl rfl)
theorem dL_law_1009 : decode cL_law 1009 = .ok (.iaload, 1) := dk_46 (dk_at dksL_law_39 20 rfl rfl)
theorem dL_law_1010 : decode cL_law 1010 = .ok (.aload_n 3, 1) := dk_45 (dk_at dksL_law_39 21 rfl rfl)
theorem dL_law_1011 : decode cL_law 1011 = .ok (.invokestatic 146, 3) := dk_184 0 146 (dk_at dksL_law_40 0 rfl rfl)
theorem dL_law_1014 : decode cL_law 1014 = .ok (.istore 5, 2) := dk_54 5 (dk_at dksL_law_40 3 rfl rfl)
theorem dL_law_1016 : decode cL_law 1016 = .ok (.aload_n 2, 1) := dk_44 (dk_at dksL_law_40 5 rfl rfl)
theorem dL_law_1017 : decode cL_law 1017 = .ok (.aload_n 0, 1) := dk_42 (dk_at dksL_law_40 6 rfl rfl)
theorem dL_law_1018 : decode cL_law 1018 = .ok (.iload 4, 2) := dk_21 4 (dk_at dksL_law_40 7 rfl rfl)
theorem dL_law_1020 : decode cL_law 1020 = .ok (.iconst 1, 1) := dk_4 (dk_at dksL_law_40 9 rfl rfl)
theorem dL_law_1021 : decode cL_law 1021 = .ok (.iadd, 1) := dk_96 (dk_at dksL_law_40 10 rfl rfl)
theorem dL_law_1022 : decode cL_law 1022 = .ok (.iaload, 1) := dk_46 (dk_at dksL_law_40 11 rfl rfl)
theorem dL_law_1023 : decode cL_law 1023 = .ok (.aload_n 0, 1) := dk_42 (dk_at dksL_law_40 12 rfl rfl)
theorem dL_law_1024 : decode cL_law 1024 = .ok (.iload 4, 2) := dk_21 4 (dk_at dksL_law_40 13 rfl rfl)
theorem dL_law_1026 : decode cL_law 1026 = .ok (.iconst 2, 1) := dk_5 (dk_at dksL_law_40 15 rfl rfl)
theorem dL_law_1027 : decode cL_law 1027 = .ok (.iadd, 1) := dk_96 (dk_at dksL_law_40 16 rfl rfl)
theorem dL_law_1028 : decode cL_law 1028 = .ok (.iaload, 1) := dk_46 (dk_at dksL_law_40 17 rfl rfl)
theorem dL_law_1029 : decode cL_law 1029 = .ok (.invokevirtual 148, 3) := dk_182 0 148 (dk_at dksL_law_40 18 rfl rfl)
theorem dL_law_1032 : decode cL_law 1032 = .ok (.istore 6, 2) := dk_54 6 (dk_at dksL_law_40 21 rfl rfl)
theorem dL_law_1034 : decode cL_law 1034 = .ok (.aload_n 2, 1) := dk_44 (dk_at dksL_law_40 23 rfl rfl)
theorem dL_law_1035 : decode cL_law 1035 = .ok (.invokevirtual 91, 3) := dk_182 0 91 (dk_at dksL_law_41 0 rfl rfl)
theorem dL_law_1038 : decode cL_law 1038 = .ok (.iload 5, 2) := dk_21 5 (dk_at dksL_law_41 3 rfl rfl)
theorem dL_law_1040 : decode cL_law 1040 = .ok (.if_icmp .eq 5, 3) := dk_159 0 5 (dk_at dksL_law_41 5 rfl rfl)
theorem dL_law_1043 : decode cL_law 1043 = .ok (.iconst 0, 1) := dk_3 (dk_at dksL_law_41 8 rfl rfl)
theorem dL_law_1044 : decode cL_law 1044 = .ok (.ireturn, 1) := dk_172 (dk_at dksL_law_41 9 rfl rfl)
theorem dL_law_1045 : decode cL_law 1045 = .ok (.iload 5, 2) := dk_21 5 (dk_at dksL_law_41 10 rfl rfl)
theorem dL_law_1047 : decode cL_law 1047 = .ok (.ifCond .ne 15, 3) := dk_154 0 15 (dk_at dksL_law_41 12 rfl rfl)
theorem dL_law_1050 : decode cL_law 1050 = .ok (.aload_n 3, 1) := dk_45 (dk_at dksL_law_41 15 rfl rfl)
theorem dL_law_1051 : decode cL_law 1051 = .ok (.iconst 0, 1) := dk_3 (dk_at dksL_law_41 16 rfl rfl)
theorem dL_law_1052 : decode cL_law 1052 = .ok (.laload, 1) := dk_47 (dk_at dksL_law_41 17 rfl rfl)
theorem dL_law_1053 : decode cL_law 1053 = .ok (.iload 6, 2) := dk_21 6 (dk_at dksL_law_41 18 rfl rfl)
theorem dL_law_1055 : decode cL_law 1055 = .ok (.i2l, 1) := dk_133 (dk_at dksL_law_41 20 rfl rfl)
theorem dL_law_1056 : decode cL_law 1056 = .ok (.lcmp, 1) := dk_148 (dk_at dksL_law_41 21 rfl rfl)
theorem dL_law_1057 : decode cL_law 1057 = .ok (.ifCond .eq 5, 3) := dk_153 0 5 (dk_at dksL_law_42 0 rfl rfl)
theorem dL_law_1060 : decode cL_law 1060 = .ok (.iconst 0, 1) := dk_3 (dk_at dksL_law_42 3 rfl rfl)
theorem dL_law_1061 : decode cL_law 1061 = .ok (.ireturn, 1) := dk_172 (dk_at dksL_law_42 4 rfl rfl)
theorem dL_law_1062 : decode cL_law 1062 = .ok (.goto 400, 3) := dk_167 1 144 (dk_at dksL_law_42 5 rfl rfl)
theorem dL_law_1065 : decode cL_law 1065 = .ok (.aload_n 1, 1) := dk_43 (dk_at dksL_law_42 8 rfl rfl)
theorem dL_law_1066 : decode cL_law 1066 = .ok (.aload_n 0, 1) := dk_42 (dk_at dksL_law_42 9 rfl rfl)
theorem dL_law_1067 : decode cL_law 1067 = .ok (.iload 4, 2) := dk_21 4 (dk_at dksL_law_42 10 rfl rfl)
theorem dL_law_1069 : decode cL_law 1069 = .ok (.iconst 1, 1) := dk_4 (dk_at dksL_law_42 12 rfl rfl)
theorem dL_law_1070 : decode cL_law 1070 = .ok (.iadd, 1) := dk_96 (dk_at dksL_law_42 13 rfl rfl)
theorem dL_law_1071 : decode cL_law 1071 = .ok (.iaload, 1) := dk_46 (dk_at dksL_law_42 14 rfl rfl)
theorem dL_law_1072 : decode cL_law 1072 = .ok (.aload_n 0, 1) := dk_42 (dk_at dksL_law_42 15 rfl rfl)
theorem dL_law_1073 : decode cL_law 1073 = .ok (.iload 4, 2) := dk_21 4 (dk_at dksL_law_42 16 rfl rfl)
theorem dL_law_1075 : decode cL_law 1075 = .ok (.iconst 2, 1) := dk_5 (dk_at dksL_law_42 18 rfl rfl)
theorem dL_law_1076 : decode cL_law 1076 = .ok (.iadd, 1) := dk_96 (dk_at dksL_law_42 19 rfl rfl)
theorem dL_law_1077 : decode cL_law 1077 = .ok (.iaload, 1) := dk_46 (dk_at dksL_law_42 20 rfl rfl)
theorem dL_law_1078 : decode cL_law 1078 = .ok (.aload_n 3, 1) := dk_45 (dk_at dksL_law_42 21 rfl rfl)
theorem dL_law_1079 : decode cL_law 1079 = .ok (.invokestatic 149, 3) := dk_184 0 149 (dk_at dksL_law_43 0 rfl rfl)
theorem dL_law_1082 : decode cL_law 1082 = .ok (.istore 5, 2) := dk_54 5 (dk_at dksL_law_43 3 rfl rfl)
theorem dL_law_1084 : decode cL_law 1084 = .ok (.aload_n 2, 1) := dk_44 (dk_at dksL_law_43 5 rfl rfl)
theorem dL_law_1085 : decode cL_law 1085 = .ok (.aload_n 0, 1) := dk_42 (dk_at dksL_law_43 6 rfl rfl)
theorem dL_law_1086 : decode cL_law 1086 = .ok (.iload 4, 2) := dk_21 4 (dk_at dksL_law_43 7 rfl rfl)
theorem dL_law_1088 : decode cL_law 1088 = .ok (.iconst 1, 1) := dk_4 (dk_at dksL_law_43 9 rfl rfl)
theorem dL_law_1089 : decode cL_law 1089 = .ok (.iadd, 1) := dk_96 (dk_at dksL_law_43 10 rfl rfl)
theorem dL_law_1090 : decode cL_law 1090 = .ok (.iaload, 1) := dk_46 (dk_at dksL_law_43 11 rfl rfl)
theorem dL_law_1091 : decode cL_law 1091 = .ok (.aload_n 0, 1) := dk_42 (dk_at dksL_law_43 12 rfl rfl)
theorem dL_law_1092 : decode cL_law 1092 = .ok (.iload 4, 2) := dk_21 4 (dk_at dksL_law_43 13 rfl rfl)
theorem dL_law_1094 : decode cL_law 1094 = .ok (.iconst 2, 1) := dk_5 (dk_at dksL_law_43 15 rfl rfl)
theorem dL_law_1095 : decode cL_law 1095 = .ok (.iadd, 1) := dk_96 (dk_at dksL_law_43 16 rfl rfl)
theorem dL_law_1096 : decode cL_law 1096 = .ok (.iaload, 1) := dk_46 (dk_at dksL_law_43 17 rfl rfl)
theorem dL_law_1097 : decode cL_law 1097 = .ok (.invokevirtual 151, 3) := dk_182 0 151 (dk_at dksL_law_43 18 rfl rfl)
theorem dL_law_1100 : decode cL_law 1100 = .ok (.istore 6, 2) := dk_54 6 (dk_at dksL_law_43 21 rfl rfl)
theorem dL_law_1102 : decode cL_law 1102 = .ok (.aload_n 2, 1) := dk_44 (dk_at dksL_law_43 23 rfl rfl)
theorem dL_law_1103 : decode cL_law 1103 = .ok (.invokevirtual 91, 3) := dk_182 0 91 (dk_at dksL_law_44 0 rfl rfl)
theorem dL_law_1106 : decode cL_law 1106 = .ok (.iload 5, 2) := dk_21 5 (dk_at dksL_law_44 3 rfl rfl)
theorem dL_law_1108 : decode cL_law 1108 = .ok (.if_icmp .eq 5, 3) := dk_159 0 5 (dk_at dksL_law_44 5 rfl rfl)
theorem dL_law_1111 : decode cL_law 1111 = .ok (.iconst 0, 1) := dk_3 (dk_at dksL_law_44 8 rfl rfl)
theorem dL_law_1112 : decode cL_law 1112 = .ok (.ireturn, 1) := dk_172 (dk_at dksL_law_44 9 rfl rfl)
theorem dL_law_1113 : decode cL_law 1113 = .ok (.iload 5, 2) := dk_21 5 (dk_at dksL_law_44 10 rfl rfl)
theorem dL_law_1115 : decode cL_law 1115 = .ok (.ifCond .ne 15, 3) := dk_154 0 15 (dk_at dksL_law_44 12 rfl rfl)
theorem dL_law_1118 : decode cL_law 1118 = .ok (.aload_n 3, 1) := dk_45 (dk_at dksL_law_44 15 rfl rfl)
theorem dL_law_1119 : decode cL_law 1119 = .ok (.iconst 0, 1) := dk_3 (dk_at dksL_law_44 16 rfl rfl)
theorem dL_law_1120 : decode cL_law 1120 = .ok (.laload, 1) := dk_47 (dk_at dksL_law_44 17 rfl rfl)
theorem dL_law_1121 : decode cL_law 1121 = .ok (.iload 6, 2) := dk_21 6 (dk_at dksL_law_44 18 rfl rfl)
theorem dL_law_1123 : decode cL_law 1123 = .ok (.i2l, 1) := dk_133 (dk_at dksL_law_44 20 rfl rfl)
theorem dL_law_1124 : decode cL_law 1124 = .ok (.lcmp, 1) := dk_148 (dk_at dksL_law_44 21 rfl rfl)
theorem dL_law_1125 : decode cL_law 1125 = .ok (.ifCond .eq 5, 3) := dk_153 0 5 (dk_at dksL_law_45 0 rfl rfl)
theorem dL_law_1128 : decode cL_law 1128 = .ok (.iconst 0, 1) := dk_3 (dk_at dksL_law_45 3 rfl rfl)
theorem dL_law_1129 : decode cL_law 1129 = .ok (.ireturn, 1) := dk_172 (dk_at dksL_law_45 4 rfl rfl)
theorem dL_law_1130 : decode cL_law 1130 = .ok (.goto 332, 3) := dk_167 1 76 (dk_at dksL_law_45 5 rfl rfl)
theorem dL_law_1133 : decode cL_law 1133 = .ok (.aload_n 1, 1) := dk_43 (dk_at dksL_law_45 8 rfl rfl)
theorem dL_law_1134 : decode cL_law 1134 = .ok (.aload_n 0, 1) := dk_42 (dk_at dksL_law_45 9 rfl rfl)
theorem dL_law_1135 : decode cL_law 1135 = .ok (.iload 4, 2) := dk_21 4 (dk_at dksL_law_45 10 rfl rfl)
theorem dL_law_1137 : decode cL_law 1137 = .ok (.iconst 1, 1) := dk_4 (dk_at dksL_law_45 12 rfl rfl)
theorem dL_law_1138 : decode cL_law 1138 = .ok (.iadd, 1) := dk_96 (dk_at dksL_law_45 13 rfl rfl)
theorem dL_law_1139 : decode cL_law 1139 = .ok (.iaload, 1) := dk_46 (dk_at dksL_law_45 14 rfl rfl)
theorem dL_law_1140 : decode cL_law 1140 = .ok (.aload_n 0, 1) := dk_42 (dk_at dksL_law_45 15 rfl rfl)
theorem dL_law_1141 : decode cL_law 1141 = .ok (.iload 4, 2) := dk_21 4 (dk_at dksL_law_45 16 rfl rfl)
theorem dL_law_1143 : decode cL_law 1143 = .ok (.iconst 2, 1) := dk_5 (dk_at dksL_law_45 18 rfl rfl)
theorem dL_law_1144 : decode cL_law 1144 = .ok (.iadd, 1) := dk_96 (dk_at dksL_law_45 19 rfl rfl)
theorem dL_law_1145 : decode cL_law 1145 = .ok (.iaload, 1) := dk_46 (dk_at dksL_law_45 20 rfl rfl)
theorem dL_law_1146 : decode cL_law 1146 = .ok (.aload_n 3, 1) := dk_45 (dk_at dksL_law_45 21 rfl rfl)
theorem dL_law_1147 : decode cL_law 1147 = .ok (.invokestatic 152, 3) := dk_184 0 152 (dk_at dksL_law_46 0 rfl rfl)
theorem dL_law_1150 : decode cL_law 1150 = .ok (.istore 5, 2) := dk_54 5 (dk_at dksL_law_46 3 rfl rfl)
theorem dL_law_1152 : decode cL_law 1152 = .ok (.aload_n 2, 1) := dk_44 (dk_at dksL_law_46 5 rfl rfl)
theorem dL_law_1153 : decode cL_law 1153 = .ok (.aload_n 0, 1) := dk_42 (dk_at dksL_law_46 6 rfl rfl)
theorem dL_law_1154 : decode cL_law 1154 = .ok (.iload 4, 2) := dk_21 4 (dk_at dksL_law_46 7 rfl rfl)
theorem dL_law_1156 : decode cL_law 1156 = .ok (.iconst 1, 1) := dk_4 (dk_at dksL_law_46 9 rfl rfl)
theorem dL_law_1157 : decode cL_law 1157 = .ok (.iadd, 1) := dk_96 (dk_at dksL_law_46 10 rfl rfl)
theorem dL_law_1158 : decode cL_law 1158 = .ok (.iaload, 1) := dk_46 (dk_at dksL_law_46 11 rfl rfl)
theorem dL_law_1159 : decode cL_law 1159 = .ok (.aload_n 0, 1) := dk_42 (dk_at dksL_law_46 12 rfl rfl)
theorem dL_law_1160 : decode cL_law 1160 = .ok (.iload 4, 2) := dk_21 4 (dk_at dksL_law_46 13 rfl rfl)
theorem dL_law_1162 : decode cL_law 1162 = .ok (.iconst 2, 1) := dk_5 (dk_at dksL_law_46 15 rfl rfl)
theorem dL_law_1163 : decode cL_law 1163 = .ok (.iadd, 1) := dk_96 (dk_at dksL_law_46 16 rfl rfl)
theorem dL_law_1164 : decode cL_law 1164 = .ok (.iaload, 1) := dk_46 (dk_at dksL_law_46 17 rfl rfl)
theorem dL_law_1165 : decode cL_law 1165 = .ok (.invokevirtual 154, 3) := dk_182 0 154 (dk_at dksL_law_46 18 rfl rfl)
theorem dL_law_1168 : decode cL_law 1168 = .ok (.istore 6, 2) := dk_54 6 (dk_at dksL_law_46 21 rfl rfl)
theorem dL_law_1170 : decode cL_law 1170 = .ok (.aload_n 2, 1) := dk_44 (dk_at dksL_law_46 23 rfl rfl)
theorem dL_law_1171 : decode cL_law 1171 = .ok (.invokevirtual 91, 3) := dk_182 0 91 (dk_at dksL_law_47 0 rfl rfl)
theorem dL_law_1174 : decode cL_law 1174 = .ok (.iload 5, 2) := dk_21 5 (dk_at dksL_law_47 3 rfl rfl)
theorem dL_law_1176 : decode cL_law 1176 = .ok (.if_icmp .eq 5, 3) := dk_159 0 5 (dk_at dksL_law_47 5 rfl rfl)
theorem dL_law_1179 : decode cL_law 1179 = .ok (.iconst 0, 1) := dk_3 (dk_at dksL_law_47 8 rfl rfl)
theorem dL_law_1180 : decode cL_law 1180 = .ok (.ireturn, 1) := dk_172 (dk_at dksL_law_47 9 rfl rfl)
theorem dL_law_1181 : decode cL_law 1181 = .ok (.iload 5, 2) := dk_21 5 (dk_at dksL_law_47 10 rfl rfl)
theorem dL_law_1183 : decode cL_law 1183 = .ok (.ifCond .ne 15, 3) := dk_154 0 15 (dk_at dksL_law_47 12 rfl rfl)
theorem dL_law_1186 : decode cL_law 1186 = .ok (.aload_n 3, 1) := dk_45 (dk_at dksL_law_47 15 rfl rfl)
theorem dL_law_1187 : decode cL_law 1187 = .ok (.iconst 0, 1) := dk_3 (dk_at dksL_law_47 16 rfl rfl)
theorem dL_law_1188 : decode cL_law 1188 = .ok (.laload, 1) := dk_47 (dk_at dksL_law_47 17 rfl rfl)
theorem dL_law_1189 : decode cL_law 1189 = .ok (.iload 6, 2) := dk_21 6 (dk_at dksL_law_47 18 rfl rfl)
theorem dL_law_1191 : decode cL_law 1191 = .ok (.i2l, 1) := dk_133 (dk_at dksL_law_47 20 rfl rfl)
theorem dL_law_1192 : decode cL_law 1192 = .ok (.lcmp, 1) := dk_148 (dk_at dksL_law_47 21 rfl rfl)
theorem dL_law_1193 : decode cL_law 1193 = .ok (.ifCond .eq 5, 3) := dk_153 0 5 (dk_at dksL_law_48 0 rfl rfl)
theorem dL_law_1196 : decode cL_law 1196 = .ok (.iconst 0, 1) := dk_3 (dk_at dksL_law_48 3 rfl rfl)
theorem dL_law_1197 : decode cL_law 1197 = .ok (.ireturn, 1) := dk_172 (dk_at dksL_law_48 4 rfl rfl)
theorem dL_law_1198 : decode cL_law 1198 = .ok (.goto 264, 3) := dk_167 1 8 (dk_at dksL_law_48 5 rfl rfl)
theorem dL_law_1201 : decode cL_law 1201 = .ok (.aload_n 1, 1) := dk_43 (dk_at dksL_law_48 8 rfl rfl)
theorem dL_law_1202 : decode cL_law 1202 = .ok (.aload_n 0, 1) := dk_42 (dk_at dksL_law_48 9 rfl rfl)
theorem dL_law_1203 : decode cL_law 1203 = .ok (.iload 4, 2) := dk_21 4 (dk_at dksL_law_48 10 rfl rfl)
theorem dL_law_1205 : decode cL_law 1205 = .ok (.iconst 1, 1) := dk_4 (dk_at dksL_law_48 12 rfl rfl)
theorem dL_law_1206 : decode cL_law 1206 = .ok (.iadd, 1) := dk_96 (dk_at dksL_law_48 13 rfl rfl)
theorem dL_law_1207 : decode cL_law 1207 = .ok (.iaload, 1) := dk_46 (dk_at dksL_law_48 14 rfl rfl)
theorem dL_law_1208 : decode cL_law 1208 = .ok (.aload_n 0, 1) := dk_42 (dk_at dksL_law_48 15 rfl rfl)
theorem dL_law_1209 : decode cL_law 1209 = .ok (.iload 4, 2) := dk_21 4 (dk_at dksL_law_48 16 rfl rfl)
theorem dL_law_1211 : decode cL_law 1211 = .ok (.iconst 2, 1) := dk_5 (dk_at dksL_law_48 18 rfl rfl)
theorem dL_law_1212 : decode cL_law 1212 = .ok (.iadd, 1) := dk_96 (dk_at dksL_law_48 19 rfl rfl)
theorem dL_law_1213 : decode cL_law 1213 = .ok (.iaload, 1) := dk_46 (dk_at dksL_law_48 20 rfl rfl)
theorem dL_law_1214 : decode cL_law 1214 = .ok (.aload_n 3, 1) := dk_45 (dk_at dksL_law_48 21 rfl rfl)
theorem dL_law_1215 : decode cL_law 1215 = .ok (.invokestatic 155, 3) := dk_184 0 155 (dk_at dksL_law_49 0 rfl rfl)
theorem dL_law_1218 : decode cL_law 1218 = .ok (.istore 5, 2) := dk_54 5 (dk_at dksL_law_49 3 rfl rfl)
theorem dL_law_1220 : decode cL_law 1220 = .ok (.aload_n 2, 1) := dk_44 (dk_at dksL_law_49 5 rfl rfl)
theorem dL_law_1221 : decode cL_law 1221 = .ok (.aload_n 0, 1) := dk_42 (dk_at dksL_law_49 6 rfl rfl)
theorem dL_law_1222 : decode cL_law 1222 = .ok (.iload 4, 2) := dk_21 4 (dk_at dksL_law_49 7 rfl rfl)
theorem dL_law_1224 : decode cL_law 1224 = .ok (.iconst 1, 1) := dk_4 (dk_at dksL_law_49 9 rfl rfl)
theorem dL_law_1225 : decode cL_law 1225 = .ok (.iadd, 1) := dk_96 (dk_at dksL_law_49 10 rfl rfl)
theorem dL_law_1226 : decode cL_law 1226 = .ok (.iaload, 1) := dk_46 (dk_at dksL_law_49 11 rfl rfl)
theorem dL_law_1227 : decode cL_law 1227 = .ok (.aload_n 0, 1) := dk_42 (dk_at dksL_law_49 12 rfl rfl)
theorem dL_law_1228 : decode cL_law 1228 = .ok (.iload 4, 2) := dk_21 4 (dk_at dksL_law_49 13 rfl rfl)
theorem dL_law_1230 : decode cL_law 1230 = .ok (.iconst 2, 1) := dk_5 (dk_at dksL_law_49 15 rfl rfl)
theorem dL_law_1231 : decode cL_law 1231 = .ok (.iadd, 1) := dk_96 (dk_at dksL_law_49 16 rfl rfl)
theorem dL_law_1232 : decode cL_law 1232 = .ok (.iaload, 1) := dk_46 (dk_at dksL_law_49 17 rfl rfl)
theorem dL_law_1233 : decode cL_law 1233 = .ok (.invokevirtual 157, 3) := dk_182 0 157 (dk_at dksL_law_49 18 rfl rfl)
theorem dL_law_1236 : decode cL_law 1236 = .ok (.istore 6, 2) := dk_54 6 (dk_at dksL_law_49 21 rfl rfl)
theorem dL_law_1238 : decode cL_law 1238 = .ok (.aload_n 2, 1) := dk_44 (dk_at dksL_law_49 23 rfl rfl)
theorem dL_law_1239 : decode cL_law 1239 = .ok (.invokevirtual 91, 3) := dk_182 0 91 (dk_at dksL_law_50 0 rfl rfl)
theorem dL_law_1242 : decode cL_law 1242 = .ok (.iload 5, 2) := dk_21 5 (dk_at dksL_law_50 3 rfl rfl)
theorem dL_law_1244 : decode cL_law 1244 = .ok (.if_icmp .eq 5, 3) := dk_159 0 5 (dk_at dksL_law_50 5 rfl rfl)
theorem dL_law_1247 : decode cL_law 1247 = .ok (.iconst 0, 1) := dk_3 (dk_at dksL_law_50 8 rfl rfl)
theorem dL_law_1248 : decode cL_law 1248 = .ok (.ireturn, 1) := dk_172 (dk_at dksL_law_50 9 rfl rfl)
theorem dL_law_1249 : decode cL_law 1249 = .ok (.iload 5, 2) := dk_21 5 (dk_at dksL_law_50 10 rfl rfl)
theorem dL_law_1251 : decode cL_law 1251 = .ok (.ifCond .ne 15, 3) := dk_154 0 15 (dk_at dksL_law_50 12 rfl rfl)
theorem dL_law_1254 : decode cL_law 1254 = .ok (.aload_n 3, 1) := dk_45 (dk_at dksL_law_50 15 rfl rfl)
theorem dL_law_1255 : decode cL_law 1255 = .ok (.iconst 0, 1) := dk_3 (dk_at dksL_law_50 16 rfl rfl)
theorem dL_law_1256 : decode cL_law 1256 = .ok (.laload, 1) := dk_47 (dk_at dksL_law_50 17 rfl rfl)
theorem dL_law_1257 : decode cL_law 1257 = .ok (.iload 6, 2) := dk_21 6 (dk_at dksL_law_50 18 rfl rfl)
theorem dL_law_1259 : decode cL_law 1259 = .ok (.i2l, 1) := dk_133 (dk_at dksL_law_50 20 rfl rfl)
theorem dL_law_1260 : decode cL_law 1260 = .ok (.lcmp, 1) := dk_148 (dk_at dksL_law_50 21 rfl rfl)
theorem dL_law_1261 : decode cL_law 1261 = .ok (.ifCond .eq 5, 3) := dk_153 0 5 (dk_at dksL_law_51 0 rfl rfl)
theorem dL_law_1264 : decode cL_law 1264 = .ok (.iconst 0, 1) := dk_3 (dk_at dksL_law_51 3 rfl rfl)
theorem dL_law_1265 : decode cL_law 1265 = .ok (.ireturn, 1) := dk_172 (dk_at dksL_law_51 4 rfl rfl)
theorem dL_law_1266 : decode cL_law 1266 = .ok (.goto 196, 3) := dk_167 0 196 (dk_at dksL_law_51 5 rfl rfl)
theorem dL_law_1269 : decode cL_law 1269 = .ok (.aload_n 1, 1) := dk_43 (dk_at dksL_law_51 8 rfl rfl)
theorem dL_law_1270 : decode cL_law 1270 = .ok (.aload_n 0, 1) := dk_42 (dk_at dksL_law_51 9 rfl rfl)
theorem dL_law_1271 : decode cL_law 1271 = .ok (.iload 4, 2) := dk_21 4 (dk_at dksL_law_51 10 rfl rfl)
theorem dL_law_1273 : decode cL_law 1273 = .ok (.iconst 1, 1) := dk_4 (dk_at dksL_law_51 12 rfl rfl)
theorem dL_law_1274 : decode cL_law 1274 = .ok (.iadd, 1) := dk_96 (dk_at dksL_law_51 13 rfl rfl)
theorem dL_law_1275 : decode cL_law 1275 = .ok (.iaload, 1) := dk_46 (dk_at dksL_law_51 14 rfl rfl)
theorem dL_law_1276 : decode cL_law 1276 = .ok (.aload_n 3, 1) := dk_45 (dk_at dksL_law_51 15 rfl rfl)
theorem dL_law_1277 : decode cL_law 1277 = .ok (.invokestatic 158, 3) := dk_184 0 158 (dk_at dksL_law_51 16 rfl rfl)
theorem dL_law_1280 : decode cL_law 1280 = .ok (.istore 5, 2) := dk_54 5 (dk_at dksL_law_51 19 rfl rfl)
theorem dL_law_1282 : decode cL_law 1282 = .ok (.aload_n 2, 1) := dk_44 (dk_at dksL_law_51 21 rfl rfl)
theorem dL_law_1283 : decode cL_law 1283 = .ok (.aload_n 0, 1) := dk_42 (dk_at dksL_law_51 22 rfl rfl)
theorem dL_law_1284 : decode cL_law 1284 = .ok (.iload 4, 2) := dk_21 4 (dk_at dksL_law_52 0 rfl rfl)
theorem dL_law_1286 : decode cL_law 1286 = .ok (.iconst 1, 1) := dk_4 (dk_at dksL_law_52 2 rfl rfl)
theorem dL_law_1287 : decode cL_law 1287 = .ok (.iadd, 1) := dk_96 (dk_at dksL_law_52 3 rfl rfl)
theorem dL_law_1288 : decode cL_law 1288 = .ok (.iaload, 1) := dk_46 (dk_at dksL_law_52 4 rfl rfl)
theorem dL_law_1289 : decode cL_law 1289 = .ok (.invokevirtual 160, 3) := dk_182 0 160 (dk_at dksL_law_52 5 rfl rfl)
theorem dL_law_1292 : decode cL_law 1292 = .ok (.istore 6, 2) := dk_54 6 (dk_at dksL_law_52 8 rfl rfl)
theorem dL_law_1294 : decode cL_law 1294 = .ok (.aload_n 2, 1) := dk_44 (dk_at dksL_law_52 10 rfl rfl)
theorem dL_law_1295 : decode cL_law 1295 = .ok (.invokevirtual 91, 3) := dk_182 0 91 (dk_at dksL_law_52 11 rfl rfl)
theorem dL_law_1298 : decode cL_law 1298 = .ok (.iload 5, 2) := dk_21 5 (dk_at dksL_law_52 14 rfl rfl)
theorem dL_law_1300 : decode cL_law 1300 = .ok (.if_icmp .eq 5, 3) := dk_159 0 5 (dk_at dksL_law_52 16 rfl rfl)
theorem dL_law_1303 : decode cL_law 1303 = .ok (.iconst 0, 1) := dk_3 (dk_at dksL_law_52 19 rfl rfl)
theorem dL_law_1304 : decode cL_law 1304 = .ok (.ireturn, 1) := dk_172 (dk_at dksL_law_52 20 rfl rfl)
theorem dL_law_1305 : decode cL_law 1305 = .ok (.iload 5, 2) := dk_21 5 (dk_at dksL_law_52 21 rfl rfl)
theorem dL_law_1307 : decode cL_law 1307 = .ok (.ifCond .ne 15, 3) := dk_154 0 15 (dk_at dksL_law_53 0 rfl rfl)
theorem dL_law_1310 : decode cL_law 1310 = .ok (.aload_n 3, 1) := dk_45 (dk_at dksL_law_53 3 rfl rfl)
theorem dL_law_1311 : decode cL_law 1311 = .ok (.iconst 0, 1) := dk_3 (dk_at dksL_law_53 4 rfl rfl)
theorem dL_law_1312 : decode cL_law 1312 = .ok (.laload, 1) := dk_47 (dk_at dksL_law_53 5 rfl rfl)
theorem dL_law_1313 : decode cL_law 1313 = .ok (.iload 6, 2) := dk_21 6 (dk_at dksL_law_53 6 rfl rfl)
theorem dL_law_1315 : decode cL_law 1315 = .ok (.i2l, 1) := dk_133 (dk_at dksL_law_53 8 rfl rfl)
theorem dL_law_1316 : decode cL_law 1316 = .ok (.lcmp, 1) := dk_148 (dk_at dksL_law_53 9 rfl rfl)
theorem dL_law_1317 : decode cL_law 1317 = .ok (.ifCond .eq 5, 3) := dk_153 0 5 (dk_at dksL_law_53 10 rfl rfl)
theorem dL_law_1320 : decode cL_law 1320 = .ok (.iconst 0, 1) := dk_3 (dk_at dksL_law_53 13 rfl rfl)
theorem dL_law_1321 : decode cL_law 1321 = .ok (.ireturn, 1) := dk_172 (dk_at dksL_law_53 14 rfl rfl)
theorem dL_law_1322 : decode cL_law 1322 = .ok (.goto 140, 3) := dk_167 0 140 (dk_at dksL_law_53 15 rfl rfl)
theorem dL_law_1325 : decode cL_law 1325 = .ok (.aload_n 1, 1) := dk_43 (dk_at dksL_law_53 18 rfl rfl)
theorem dL_law_1326 : decode cL_law 1326 = .ok (.invokevirtual 161, 3) := dk_182 0 161 (dk_at dksL_law_53 19 rfl rfl)
theorem dL_law_1329 : decode cL_law 1329 = .ok (.aload_n 2, 1) := dk_44 (dk_at dksL_law_53 22 rfl rfl)
theorem dL_law_1330 : decode cL_law 1330 = .ok (.invokevirtual 164, 3) := dk_182 0 164 (dk_at dksL_law_54 0 rfl rfl)
theorem dL_law_1333 : decode cL_law 1333 = .ok (.if_icmp .eq 129, 3) := dk_159 0 129 (dk_at dksL_law_54 3 rfl rfl)
theorem dL_law_1336 : decode cL_law 1336 = .ok (.iconst 0, 1) := dk_3 (dk_at dksL_law_54 6 rfl rfl)
theorem dL_law_1337 : decode cL_law 1337 = .ok (.ireturn, 1) := dk_172 (dk_at dksL_law_54 7 rfl rfl)
theorem dL_law_1338 : decode cL_law 1338 = .ok (.aload_n 1, 1) := dk_43 (dk_at dksL_law_54 8 rfl rfl)
theorem dL_law_1339 : decode cL_law 1339 = .ok (.aload_n 0, 1) := dk_42 (dk_at dksL_law_54 9 rfl rfl)
theorem dL_law_1340 : decode cL_law 1340 = .ok (.iload 4, 2) := dk_21 4 (dk_at dksL_law_54 10 rfl rfl)
theorem dL_law_1342 : decode cL_law 1342 = .ok (.iconst 1, 1) := dk_4 (dk_at dksL_law_54 12 rfl rfl)
theorem dL_law_1343 : decode cL_law 1343 = .ok (.iadd, 1) := dk_96 (dk_at dksL_law_54 13 rfl rfl)
theorem dL_law_1344 : decode cL_law 1344 = .ok (.iaload, 1) := dk_46 (dk_at dksL_law_54 14 rfl rfl)
theorem dL_law_1345 : decode cL_law 1345 = .ok (.aload_n 3, 1) := dk_45 (dk_at dksL_law_54 15 rfl rfl)
theorem dL_law_1346 : decode cL_law 1346 = .ok (.invokestatic 165, 3) := dk_184 0 165 (dk_at dksL_law_54 16 rfl rfl)
theorem dL_law_1349 : decode cL_law 1349 = .ok (.istore 5, 2) := dk_54 5 (dk_at dksL_law_54 19 rfl rfl)
theorem dL_law_1351 : decode cL_law 1351 = .ok (.aload_n 2, 1) := dk_44 (dk_at dksL_law_54 21 rfl rfl)
theorem dL_law_1352 : decode cL_law 1352 = .ok (.aload_n 0, 1) := dk_42 (dk_at dksL_law_54 22 rfl rfl)
theorem dL_law_1353 : decode cL_law 1353 = .ok (.iload 4, 2) := dk_21 4 (dk_at dksL_law_55 0 rfl rfl)
theorem dL_law_1355 : decode cL_law 1355 = .ok (.iconst 1, 1) := dk_4 (dk_at dksL_law_55 2 rfl rfl)
theorem dL_law_1356 : decode cL_law 1356 = .ok (.iadd, 1) := dk_96 (dk_at dksL_law_55 3 rfl rfl)
theorem dL_law_1357 : decode cL_law 1357 = .ok (.iaload, 1) := dk_46 (dk_at dksL_law_55 4 rfl rfl)
theorem dL_law_1358 : decode cL_law 1358 = .ok (.invokevirtual 167, 3) := dk_182 0 167 (dk_at dksL_law_55 5 rfl rfl)
theorem dL_law_1361 : decode cL_law 1361 = .ok (.istore 6, 2) := dk_54 6 (dk_at dksL_law_55 8 rfl rfl)
theorem dL_law_1363 : decode cL_law 1363 = .ok (.aload_n 2, 1) := dk_44 (dk_at dksL_law_55 10 rfl rfl)
theorem dL_law_1364 : decode cL_law 1364 = .ok (.invokevirtual 91, 3) := dk_182 0 91 (dk_at dksL_law_55 11 rfl rfl)
theorem dL_law_1367 : decode cL_law 1367 = .ok (.iload 5, 2) := dk_21 5 (dk_at dksL_law_55 14 rfl rfl)
theorem dL_law_1369 : decode cL_law 1369 = .ok (.if_icmp .eq 5, 3) := dk_159 0 5 (dk_at dksL_law_55 16 rfl rfl)
theorem dL_law_1372 : decode cL_law 1372 = .ok (.iconst 0, 1) := dk_3 (dk_at dksL_law_55 19 rfl rfl)
theorem dL_law_1373 : decode cL_law 1373 = .ok (.ireturn, 1) := dk_172 (dk_at dksL_law_55 20 rfl rfl)
theorem dL_law_1374 : decode cL_law 1374 = .ok (.iload 5, 2) := dk_21 5 (dk_at dksL_law_55 21 rfl rfl)
theorem dL_law_1376 : decode cL_law 1376 = .ok (.ifCond .ne 15, 3) := dk_154 0 15 (dk_at dksL_law_56 0 rfl rfl)
theorem dL_law_1379 : decode cL_law 1379 = .ok (.aload_n 3, 1) := dk_45 (dk_at dksL_law_56 3 rfl rfl)
theorem dL_law_1380 : decode cL_law 1380 = .ok (.iconst 0, 1) := dk_3 (dk_at dksL_law_56 4 rfl rfl)
theorem dL_law_1381 : decode cL_law 1381 = .ok (.laload, 1) := dk_47 (dk_at dksL_law_56 5 rfl rfl)
theorem dL_law_1382 : decode cL_law 1382 = .ok (.iload 6, 2) := dk_21 6 (dk_at dksL_law_56 6 rfl rfl)
theorem dL_law_1384 : decode cL_law 1384 = .ok (.i2l, 1) := dk_133 (dk_at dksL_law_56 8 rfl rfl)
theorem dL_law_1385 : decode cL_law 1385 = .ok (.lcmp, 1) := dk_148 (dk_at dksL_law_56 9 rfl rfl)
theorem dL_law_1386 : decode cL_law 1386 = .ok (.ifCond .eq 5, 3) := dk_153 0 5 (dk_at dksL_law_56 10 rfl rfl)
theorem dL_law_1389 : decode cL_law 1389 = .ok (.iconst 0, 1) := dk_3 (dk_at dksL_law_56 13 rfl rfl)
theorem dL_law_1390 : decode cL_law 1390 = .ok (.ireturn, 1) := dk_172 (dk_at dksL_law_56 14 rfl rfl)
theorem dL_law_1391 : decode cL_law 1391 = .ok (.goto 71, 3) := dk_167 0 71 (dk_at dksL_law_56 15 rfl rfl)
theorem dL_law_1394 : decode cL_law 1394 = .ok (.aload_n 1, 1) := dk_43 (dk_at dksL_law_56 18 rfl rfl)
theorem dL_law_1395 : decode cL_law 1395 = .ok (.aload_n 0, 1) := dk_42 (dk_at dksL_law_56 19 rfl rfl)
theorem dL_law_1396 : decode cL_law 1396 = .ok (.iload 4, 2) := dk_21 4 (dk_at dksL_law_56 20 rfl rfl)
theorem dL_law_1398 : decode cL_law 1398 = .ok (.iconst 1, 1) := dk_4 (dk_at dksL_law_56 22 rfl rfl)
theorem dL_law_1399 : decode cL_law 1399 = .ok (.iadd, 1) := dk_96 (dk_at dksL_law_56 23 rfl rfl)
theorem dL_law_1400 : decode cL_law 1400 = .ok (.iaload, 1) := dk_46 (dk_at dksL_law_57 0 rfl rfl)
theorem dL_law_1401 : decode cL_law 1401 = .ok (.aload_n 0, 1) := dk_42 (dk_at dksL_law_57 1 rfl rfl)
theorem dL_law_1402 : decode cL_law 1402 = .ok (.iload 4, 2) := dk_21 4 (dk_at dksL_law_57 2 rfl rfl)
theorem dL_law_1404 : decode cL_law 1404 = .ok (.iconst 2, 1) := dk_5 (dk_at dksL_law_57 4 rfl rfl)
theorem dL_law_1405 : decode cL_law 1405 = .ok (.iadd, 1) := dk_96 (dk_at dksL_law_57 5 rfl rfl)
theorem dL_law_1406 : decode cL_law 1406 = .ok (.iaload, 1) := dk_46 (dk_at dksL_law_57 6 rfl rfl)
theorem dL_law_1407 : decode cL_law 1407 = .ok (.aload_n 3, 1) := dk_45 (dk_at dksL_law_57 7 rfl rfl)
theorem dL_law_1408 : decode cL_law 1408 = .ok (.invokestatic 168, 3) := dk_184 0 168 (dk_at dksL_law_57 8 rfl rfl)
theorem dL_law_1411 : decode cL_law 1411 = .ok (.istore 5, 2) := dk_54 5 (dk_at dksL_law_57 11 rfl rfl)
theorem dL_law_1413 : decode cL_law 1413 = .ok (.aload_n 2, 1) := dk_44 (dk_at dksL_law_57 13 rfl rfl)
theorem dL_law_1414 : decode cL_law 1414 = .ok (.aload_n 0, 1) := dk_42 (dk_at dksL_law_57 14 rfl rfl)
theorem dL_law_1415 : decode cL_law 1415 = .ok (.iload 4, 2) := dk_21 4 (dk_at dksL_law_57 15 rfl rfl)
theorem dL_law_1417 : decode cL_law 1417 = .ok (.iconst 1, 1) := dk_4 (dk_at dksL_law_57 17 rfl rfl)
theorem dL_law_1418 : decode cL_law 1418 = .ok (.iadd, 1) := dk_96 (dk_at dksL_law_57 18 rfl rfl)
theorem dL_law_1419 : decode cL_law 1419 = .ok (.iaload, 1) := dk_46 (dk_at dksL_law_57 19 rfl rfl)
theorem dL_law_1420 : decode cL_law 1420 = .ok (.aload_n 0, 1) := dk_42 (dk_at dksL_law_57 20 rfl rfl)
theorem dL_law_1421 : decode cL_law 1421 = .ok (.iload 4, 2) := dk_21 4 (dk_at dksL_law_57 21 rfl rfl)
theorem dL_law_1423 : decode cL_law 1423 = .ok (.iconst 2, 1) := dk_5 (dk_at dksL_law_57 23 rfl rfl)
theorem dL_law_1424 : decode cL_law 1424 = .ok (.iadd, 1) := dk_96 (dk_at dksL_law_58 0 rfl rfl)
theorem dL_law_1425 : decode cL_law 1425 = .ok (.iaload, 1) := dk_46 (dk_at dksL_law_58 1 rfl rfl)
theorem dL_law_1426 : decode cL_law 1426 = .ok (.invokevirtual 170, 3) := dk_182 0 170 (dk_at dksL_law_58 2 rfl rfl)
theorem dL_law_1429 : decode cL_law 1429 = .ok (.istore 6, 2) := dk_54 6 (dk_at dksL_law_58 5 rfl rfl)
theorem dL_law_1431 : decode cL_law 1431 = .ok (.aload_n 2, 1) := dk_44 (dk_at dksL_law_58 7 rfl rfl)
theorem dL_law_1432 : decode cL_law 1432 = .ok (.invokevirtual 91, 3) := dk_182 0 91 (dk_at dksL_law_58 8 rfl rfl)
theorem dL_law_1435 : decode cL_law 1435 = .ok (.iload 5, 2) := dk_21 5 (dk_at dksL_law_58 11 rfl rfl)
theorem dL_law_1437 : decode cL_law 1437 = .ok (.if_icmp .eq 5, 3) := dk_159 0 5 (dk_at dksL_law_58 13 rfl rfl)
theorem dL_law_1440 : decode cL_law 1440 = .ok (.iconst 0, 1) := dk_3 (dk_at dksL_law_58 16 rfl rfl)
theorem dL_law_1441 : decode cL_law 1441 = .ok (.ireturn, 1) := dk_172 (dk_at dksL_law_58 17 rfl rfl)
theorem dL_law_1442 : decode cL_law 1442 = .ok (.iload 5, 2) := dk_21 5 (dk_at dksL_law_58 18 rfl rfl)
theorem dL_law_1444 : decode cL_law 1444 = .ok (.ifCond .ne 15, 3) := dk_154 0 15 (dk_at dksL_law_58 20 rfl rfl)
theorem dL_law_1447 : decode cL_law 1447 = .ok (.aload_n 3, 1) := dk_45 (dk_at dksL_law_58 23 rfl rfl)
theorem dL_law_1448 : decode cL_law 1448 = .ok (.iconst 0, 1) := dk_3 (dk_at dksL_law_59 0 rfl rfl)
theorem dL_law_1449 : decode cL_law 1449 = .ok (.laload, 1) := dk_47 (dk_at dksL_law_59 1 rfl rfl)
theorem dL_law_1450 : decode cL_law 1450 = .ok (.iload 6, 2) := dk_21 6 (dk_at dksL_law_59 2 rfl rfl)
theorem dL_law_1452 : decode cL_law 1452 = .ok (.i2l, 1) := dk_133 (dk_at dksL_law_59 4 rfl rfl)
theorem dL_law_1453 : decode cL_law 1453 = .ok (.lcmp, 1) := dk_148 (dk_at dksL_law_59 5 rfl rfl)
theorem dL_law_1454 : decode cL_law 1454 = .ok (.ifCond .eq 5, 3) := dk_153 0 5 (dk_at dksL_law_59 6 rfl rfl)
theorem dL_law_1457 : decode cL_law 1457 = .ok (.iconst 0, 1) := dk_3 (dk_at dksL_law_59 9 rfl rfl)
theorem dL_law_1458 : decode cL_law 1458 = .ok (.ireturn, 1) := dk_172 (dk_at dksL_law_59 10 rfl rfl)
theorem dL_law_1459 : decode cL_law 1459 = .ok (.goto 3, 3) := dk_167 0 3 (dk_at dksL_law_59 11 rfl rfl)
theorem dL_law_1462 : decode cL_law 1462 = .ok (.iinc 4 6, 3) := dk_132 4 6 (dk_at dksL_law_59 14 rfl rfl)
theorem dL_law_1465 : decode cL_law 1465 = .ok (.goto (-1442), 3) := dk_167 250 94 (dk_at dksL_law_59 17 rfl rfl)
theorem dL_law_1468 : decode cL_law 1468 = .ok (.iconst 1, 1) := dk_4 (dk_at dksL_law_59 20 rfl rfl)
theorem dL_law_1469 : decode cL_law 1469 = .ok (.ireturn, 1) := dk_172 (dk_at dksL_law_59 21 rfl rfl)

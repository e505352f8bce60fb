/-! TimberListLaw -/
set_option maxRecDepth 100000
def RX0 : String := "TimberListLaw"
abbrev cX0_addBoard : ByteArray := method_3_code
def yX0_addBoard : MethodName := ⟨RX0, "addBoard", "(LTimberList;III[J)I"⟩
def dkwX0_addBoard_1 : List UInt8 := [172]
abbrev dktX0_addBoard_1 : List UInt8 := dkwX0_addBoard_1 ++ []
def dkwX0_addBoard_0 : List UInt8 := [25, 4, 3, 42, 27, 28, 29, 182, 0, 7, 133, 80, 167, 0, 11, 58, 5, 4, 172, 58, 5, 5, 172, 3]
abbrev dktX0_addBoard_0 : List UInt8 := dkwX0_addBoard_0 ++ dktX0_addBoard_1
theorem dksX0_addBoard_0 : cX0_addBoard.data.toList.drop 0 = dktX0_addBoard_0 := by decide +kernel
theorem dksX0_addBoard_1 : cX0_addBoard.data.toList.drop 24 = dktX0_addBoard_1 := dk_seg dksX0_addBoard_0 24 rfl rfl
theorem dX0_addBoard_0 : decode cX0_addBoard 0 = .ok (.aload 4, 2) := dk_25 4 (dk_at dksX0_addBoard_0 0 rfl rfl)
theorem dX0_addBoard_2 : decode cX0_addBoard 2 = .ok (.iconst 0, 1) := dk_3 (dk_at dksX0_addBoard_0 2 rfl rfl)
theorem dX0_addBoard_3 : decode cX0_addBoard 3 = .ok (.aload_n 0, 1) := dk_42 (dk_at dksX0_addBoard_0 3 rfl rfl)
theorem dX0_addBoard_4 : decode cX0_addBoard 4 = .ok (.iload_n 1, 1) := dk_27 (dk_at dksX0_addBoard_0 4 rfl rfl)
theorem dX0_addBoard_5 : decode cX0_addBoard 5 = .ok (.iload_n 2, 1) := dk_28 (dk_at dksX0_addBoard_0 5 rfl rfl)
theorem dX0_addBoard_6 : decode cX0_addBoard 6 = .ok (.iload_n 3, 1) := dk_29 (dk_at dksX0_addBoard_0 6 rfl rfl)
theorem dX0_addBoard_7 : decode cX0_addBoard 7 = .ok (.invokevirtual 7, 3) := dk_182 0 7 (dk_at dksX0_addBoard_0 7 rfl rfl)
theorem dX0_addBoard_10 : decode cX0_addBoard 10 = .ok (.i2l, 1) := dk_133 (dk_at dksX0_addBoard_0 10 rfl rfl)
theorem dX0_addBoard_11 : decode cX0_addBoard 11 = .ok (.lastore, 1) := dk_80 (dk_at dksX0_addBoard_0 11 rfl rfl)
theorem dX0_addBoard_12 : decode cX0_addBoard 12 = .ok (.goto 11, 3) := dk_167 0 11 (dk_at dksX0_addBoard_0 12 rfl rfl)
theorem dX0_addBoard_15 : decode cX0_addBoard 15 = .ok (.astore 5, 2) := dk_58 5 (dk_at dksX0_addBoard_0 15 rfl rfl)
theorem dX0_addBoard_17 : decode cX0_addBoard 17 = .ok (.iconst 1, 1) := dk_4 (dk_at dksX0_addBoard_0 17 rfl rfl)
theorem dX0_addBoard_18 : decode cX0_addBoard 18 = .ok (.ireturn, 1) := dk_172 (dk_at dksX0_addBoard_0 18 rfl rfl)
theorem dX0_addBoard_19 : decode cX0_addBoard 19 = .ok (.astore 5, 2) := dk_58 5 (dk_at dksX0_addBoard_0 19 rfl rfl)
theorem dX0_addBoard_21 : decode cX0_addBoard 21 = .ok (.iconst 2, 1) := dk_5 (dk_at dksX0_addBoard_0 21 rfl rfl)
theorem dX0_addBoard_22 : decode cX0_addBoard 22 = .ok (.ireturn, 1) := dk_172 (dk_at dksX0_addBoard_0 22 rfl rfl)
theorem dX0_addBoard_23 : decode cX0_addBoard 23 = .ok (.iconst 0, 1) := dk_3 (dk_at dksX0_addBoard_0 23 rfl rfl)
theorem dX0_addBoard_24 : decode cX0_addBoard 24 = .ok (.ireturn, 1) := dk_172 (dk_at dksX0_addBoard_1 0 rfl rfl)
abbrev cX0_addDefect : ByteArray := method_4_code
def yX0_addDefect : MethodName := ⟨RX0, "addDefect", "(LTimberList;IIII[J)I"⟩
def dkwX0_addDefect_1 : List UInt8 := [172, 58, 6, 6, 172, 3, 172]
abbrev dktX0_addDefect_1 : List UInt8 := dkwX0_addDefect_1 ++ []
def dkwX0_addDefect_0 : List UInt8 := [25, 5, 3, 42, 27, 28, 29, 21, 4, 182, 0, 17, 133, 80, 167, 0, 15, 58, 6, 4, 172, 58, 6, 5]
abbrev dktX0_addDefect_0 : List UInt8 := dkwX0_addDefect_0 ++ dktX0_addDefect_1
theorem dksX0_addDefect_0 : cX0_addDefect.data.toList.drop 0 = dktX0_addDefect_0 := by decide +kernel
theorem dksX0_addDefect_1 : cX0_addDefect.data.toList.drop 24 = dktX0_addDefect_1 := dk_seg dksX0_addDefect_0 24 rfl rfl
theorem dX0_addDefect_0 : decode cX0_addDefect 0 = .ok (.aload 5, 2) := dk_25 5 (dk_at dksX0_addDefect_0 0 rfl rfl)
theorem dX0_addDefect_2 : decode cX0_addDefect 2 = .ok (.iconst 0, 1) := dk_3 (dk_at dksX0_addDefect_0 2 rfl rfl)
theorem dX0_addDefect_3 : decode cX0_addDefect 3 = .ok (.aload_n 0, 1) := dk_42 (dk_at dksX0_addDefect_0 3 rfl rfl)
theorem dX0_addDefect_4 : decode cX0_addDefect 4 = .ok (.iload_n 1, 1) := dk_27 (dk_at dksX0_addDefect_0 4 rfl rfl)
theorem dX0_addDefect_5 : decode cX0_addDefect 5 = .ok (.iload_n 2, 1) := dk_28 (dk_at dksX0_addDefect_0 5 rfl rfl)
theorem dX0_addDefect_6 : decode cX0_addDefect 6 = .ok (.iload_n 3, 1) := dk_29 (dk_at dksX0_addDefect_0 6 rfl rfl)
theorem dX0_addDefect_7 : decode cX0_addDefect 7 = .ok (.iload 4, 2) := dk_21 4 (dk_at dksX0_addDefect_0 7 rfl rfl)
theorem dX0_addDefect_9 : decode cX0_addDefect 9 = .ok (.invokevirtual 17, 3) := dk_182 0 17 (dk_at dksX0_addDefect_0 9 rfl rfl)
theorem dX0_addDefect_12 : decode cX0_addDefect 12 = .ok (.i2l, 1) := dk_133 (dk_at dksX0_addDefect_0 12 rfl rfl)
theorem dX0_addDefect_13 : decode cX0_addDefect 13 = .ok (.lastore, 1) := dk_80 (dk_at dksX0_addDefect_0 13 rfl rfl)
theorem dX0_addDefect_14 : decode cX0_addDefect 14 = .ok (.goto 15, 3) := dk_167 0 15 (dk_at dksX0_addDefect_0 14 rfl rfl)
theorem dX0_addDefect_17 : decode cX0_addDefect 17 = .ok (.astore 6, 2) := dk_58 6 (dk_at dksX0_addDefect_0 17 rfl rfl)
theorem dX0_addDefect_19 : decode cX0_addDefect 19 = .ok (.iconst 1, 1) := dk_4 (dk_at dksX0_addDefect_0 19 rfl rfl)
theorem dX0_addDefect_20 : decode cX0_addDefect 20 = .ok (.ireturn, 1) := dk_172 (dk_at dksX0_addDefect_0 20 rfl rfl)
theorem dX0_addDefect_21 : decode cX0_addDefect 21 = .ok (.astore 6, 2) := dk_58 6 (dk_at dksX0_addDefect_0 21 rfl rfl)
theorem dX0_addDefect_23 : decode cX0_addDefect 23 = .ok (.iconst 2, 1) := dk_5 (dk_at dksX0_addDefect_0 23 rfl rfl)
theorem dX0_addDefect_24 : decode cX0_addDefect 24 = .ok (.ireturn, 1) := dk_172 (dk_at dksX0_addDefect_1 0 rfl rfl)
theorem dX0_addDefect_25 : decode cX0_addDefect 25 = .ok (.astore 6, 2) := dk_58 6 (dk_at dksX0_addDefect_1 1 rfl rfl)
theorem dX0_addDefect_27 : decode cX0_addDefect 27 = .ok (.iconst 3, 1) := dk_6 (dk_at dksX0_addDefect_1 3 rfl rfl)
theorem dX0_addDefect_28 : decode cX0_addDefect 28 = .ok (.ireturn, 1) := dk_172 (dk_at dksX0_addDefect_1 4 rfl rfl)
theorem dX0_addDefect_29 : decode cX0_addDefect 29 = .ok (.iconst 0, 1) := dk_3 (dk_at dksX0_addDefect_1 5 rfl rfl)
theorem dX0_addDefect_30 : decode cX0_addDefect 30 = .ok (.ireturn, 1) := dk_172 (dk_at dksX0_addDefect_1 6 rfl rfl)
abbrev cX0_addPart : ByteArray := method_5_code
def yX0_addPart : MethodName := ⟨RX0, "addPart", "(LTimberList;IIIIZ[J)I"⟩
def dkwX0_addPart_1 : List UInt8 := [58, 7, 5, 172, 3, 172]
abbrev dktX0_addPart_1 : List UInt8 := dkwX0_addPart_1 ++ []
def dkwX0_addPart_0 : List UInt8 := [25, 6, 3, 42, 27, 28, 29, 21, 4, 21, 5, 182, 0, 23, 133, 80, 167, 0, 11, 58, 7, 4, 172]
abbrev dktX0_addPart_0 : List UInt8 := dkwX0_addPart_0 ++ dktX0_addPart_1
theorem dksX0_addPart_0 : cX0_addPart.data.toList.drop 0 = dktX0_addPart_0 := by decide +kernel
theorem dksX0_addPart_1 : cX0_addPart.data.toList.drop 23 = dktX0_addPart_1 := dk_seg dksX0_addPart_0 23 rfl rfl
theorem dX0_addPart_0 : decode cX0_addPart 0 = .ok (.aload 6, 2) := dk_25 6 (dk_at dksX0_addPart_0 0 rfl rfl)
theorem dX0_addPart_2 : decode cX0_addPart 2 = .ok (.iconst 0, 1) := dk_3 (dk_at dksX0_addPart_0 2 rfl rfl)
theorem dX0_addPart_3 : decode cX0_addPart 3 = .ok (.aload_n 0, 1) := dk_42 (dk_at dksX0_addPart_0 3 rfl rfl)
theorem dX0_addPart_4 : decode cX0_addPart 4 = .ok (.iload_n 1, 1) := dk_27 (dk_at dksX0_addPart_0 4 rfl rfl)
theorem dX0_addPart_5 : decode cX0_addPart 5 = .ok (.iload_n 2, 1) := dk_28 (dk_at dksX0_addPart_0 5 rfl rfl)
theorem dX0_addPart_6 : decode cX0_addPart 6 = .ok (.iload_n 3, 1) := dk_29 (dk_at dksX0_addPart_0 6 rfl rfl)
theorem dX0_addPart_7 : decode cX0_addPart 7 = .ok (.iload 4, 2) := dk_21 4 (dk_at dksX0_addPart_0 7 rfl rfl)
theorem dX0_addPart_9 : decode cX0_addPart 9 = .ok (.iload 5, 2) := dk_21 5 (dk_at dksX0_addPart_0 9 rfl rfl)
theorem dX0_addPart_11 : decode cX0_addPart 11 = .ok (.invokevirtual 23, 3) := dk_182 0 23 (dk_at dksX0_addPart_0 11 rfl rfl)
theorem dX0_addPart_14 : decode cX0_addPart 14 = .ok (.i2l, 1) := dk_133 (dk_at dksX0_addPart_0 14 rfl rfl)
theorem dX0_addPart_15 : decode cX0_addPart 15 = .ok (.lastore, 1) := dk_80 (dk_at dksX0_addPart_0 15 rfl rfl)
theorem dX0_addPart_16 : decode cX0_addPart 16 = .ok (.goto 11, 3) := dk_167 0 11 (dk_at dksX0_addPart_0 16 rfl rfl)
theorem dX0_addPart_19 : decode cX0_addPart 19 = .ok (.astore 7, 2) := dk_58 7 (dk_at dksX0_addPart_0 19 rfl rfl)
theorem dX0_addPart_21 : decode cX0_addPart 21 = .ok (.iconst 1, 1) := dk_4 (dk_at dksX0_addPart_0 21 rfl rfl)
theorem dX0_addPart_22 : decode cX0_addPart 22 = .ok (.ireturn, 1) := dk_172 (dk_at dksX0_addPart_0 22 rfl rfl)
theorem dX0_addPart_23 : decode cX0_addPart 23 = .ok (.astore 7, 2) := dk_58 7 (dk_at dksX0_addPart_1 0 rfl rfl)
theorem dX0_addPart_25 : decode cX0_addPart 25 = .ok (.iconst 2, 1) := dk_5 (dk_at dksX0_addPart_1 2 rfl rfl)
theorem dX0_addPart_26 : decode cX0_addPart 26 = .ok (.ireturn, 1) := dk_172 (dk_at dksX0_addPart_1 3 rfl rfl)
theorem dX0_addPart_27 : decode cX0_addPart 27 = .ok (.iconst 0, 1) := dk_3 (dk_at dksX0_addPart_1 4 rfl rfl)
theorem dX0_addPart_28 : decode cX0_addPart 28 = .ok (.ireturn, 1) := dk_172 (dk_at dksX0_addPart_1 5 rfl rfl)
abbrev cX0_setSaw : ByteArray := method_6_code
def yX0_setSaw : MethodName := ⟨RX0, "setSaw", "(LTimberList;I[J)I"⟩
def dkwX0_setSaw_0 : List UInt8 := [44, 3, 42, 27, 182, 0, 27, 133, 80, 167, 0, 9, 78, 4, 172, 78, 5, 172, 3, 172]
abbrev dktX0_setSaw_0 : List UInt8 := dkwX0_setSaw_0 ++ []
theorem dksX0_setSaw_0 : cX0_setSaw.data.toList.drop 0 = dktX0_setSaw_0 := by decide +kernel
theorem dX0_setSaw_0 : decode cX0_setSaw 0 = .ok (.aload_n 2, 1) := dk_44 (dk_at dksX0_setSaw_0 0 rfl rfl)
theorem dX0_setSaw_1 : decode cX0_setSaw 1 = .ok (.iconst 0, 1) := dk_3 (dk_at dksX0_setSaw_0 1 rfl rfl)
theorem dX0_setSaw_2 : decode cX0_setSaw 2 = .ok (.aload_n 0, 1) := dk_42 (dk_at dksX0_setSaw_0 2 rfl rfl)
theorem dX0_setSaw_3 : decode cX0_setSaw 3 = .ok (.iload_n 1, 1) := dk_27 (dk_at dksX0_setSaw_0 3 rfl rfl)
theorem dX0_setSaw_4 : decode cX0_setSaw 4 = .ok (.invokevirtual 27, 3) := dk_182 0 27 (dk_at dksX0_setSaw_0 4 rfl rfl)
theorem dX0_setSaw_7 : decode cX0_setSaw 7 = .ok (.i2l, 1) := dk_133 (dk_at dksX0_setSaw_0 7 rfl rfl)
theorem dX0_setSaw_8 : decode cX0_setSaw 8 = .ok (.lastore, 1) := dk_80 (dk_at dksX0_setSaw_0 8 rfl rfl)
theorem dX0_setSaw_9 : decode cX0_setSaw 9 = .ok (.goto 9, 3) := dk_167 0 9 (dk_at dksX0_setSaw_0 9 rfl rfl)
theorem dX0_setSaw_12 : decode cX0_setSaw 12 = .ok (.astore_n 3, 1) := dk_78 (dk_at dksX0_setSaw_0 12 rfl rfl)
theorem dX0_setSaw_13 : decode cX0_setSaw 13 = .ok (.iconst 1, 1) := dk_4 (dk_at dksX0_setSaw_0 13 rfl rfl)
theorem dX0_setSaw_14 : decode cX0_setSaw 14 = .ok (.ireturn, 1) := dk_172 (dk_at dksX0_setSaw_0 14 rfl rfl)
theorem dX0_setSaw_15 : decode cX0_setSaw 15 = .ok (.astore_n 3, 1) := dk_78 (dk_at dksX0_setSaw_0 15 rfl rfl)
theorem dX0_setSaw_16 : decode cX0_setSaw 16 = .ok (.iconst 2, 1) := dk_5 (dk_at dksX0_setSaw_0 16 rfl rfl)
theorem dX0_setSaw_17 : decode cX0_setSaw 17 = .ok (.ireturn, 1) := dk_172 (dk_at dksX0_setSaw_0 17 rfl rfl)
theorem dX0_setSaw_18 : decode cX0_setSaw 18 = .ok (.iconst 0, 1) := dk_3 (dk_at dksX0_setSaw_0 18 rfl rfl)
theorem dX0_setSaw_19 : decode cX0_setSaw 19 = .ok (.ireturn, 1) := dk_172 (dk_at dksX0_setSaw_0 19 rfl rfl)
abbrev cX0_setJoint : ByteArray := method_7_code
def yX0_setJoint : MethodName := ⟨RX0, "setJoint", "(LTimberList;I[J)I"⟩
def dkwX0_setJoint_0 : List UInt8 := [44, 3, 42, 27, 182, 0, 31, 133, 80, 167, 0, 6, 78, 4, 172, 3, 172]
abbrev dktX0_setJoint_0 : List UInt8 := dkwX0_setJoint_0 ++ []
theorem dksX0_setJoint_0 : cX0_setJoint.data.toList.drop 0 = dktX0_setJoint_0 := by decide +kernel
theorem dX0_setJoint_0 : decode cX0_setJoint 0 = .ok (.aload_n 2, 1) := dk_44 (dk_at dksX0_setJoint_0 0 rfl rfl)
theorem dX0_setJoint_1 : decode cX0_setJoint 1 = .ok (.iconst 0, 1) := dk_3 (dk_at dksX0_setJoint_0 1 rfl rfl)
theorem dX0_setJoint_2 : decode cX0_setJoint 2 = .ok (.aload_n 0, 1) := dk_42 (dk_at dksX0_setJoint_0 2 rfl rfl)
theorem dX0_setJoint_3 : decode cX0_setJoint 3 = .ok (.iload_n 1, 1) := dk_27 (dk_at dksX0_setJoint_0 3 rfl rfl)
theorem dX0_setJoint_4 : decode cX0_setJoint 4 = .ok (.invokevirtual 31, 3) := dk_182 0 31 (dk_at dksX0_setJoint_0 4 rfl rfl)
theorem dX0_setJoint_7 : decode cX0_setJoint 7 = .ok (.i2l, 1) := dk_133 (dk_at dksX0_setJoint_0 7 rfl rfl)
theorem dX0_setJoint_8 : decode cX0_setJoint 8 = .ok (.lastore, 1) := dk_80 (dk_at dksX0_setJoint_0 8 rfl rfl)
theorem dX0_setJoint_9 : decode cX0_setJoint 9 = .ok (.goto 6, 3) := dk_167 0 6 (dk_at dksX0_setJoint_0 9 rfl rfl)
theorem dX0_setJoint_12 : decode cX0_setJoint 12 = .ok (.astore_n 3, 1) := dk_78 (dk_at dksX0_setJoint_0 12 rfl rfl)
theorem dX0_setJoint_13 : decode cX0_setJoint 13 = .ok (.iconst 1, 1) := dk_4 (dk_at dksX0_setJoint_0 13 rfl rfl)
theorem dX0_setJoint_14 : decode cX0_setJoint 14 = .ok (.ireturn, 1) := dk_172 (dk_at dksX0_setJoint_0 14 rfl rfl)
theorem dX0_setJoint_15 : decode cX0_setJoint 15 = .ok (.iconst 0, 1) := dk_3 (dk_at dksX0_setJoint_0 15 rfl rfl)
theorem dX0_setJoint_16 : decode cX0_setJoint 16 = .ok (.ireturn, 1) := dk_172 (dk_at dksX0_setJoint_0 16 rfl rfl)
abbrev cX0_grade : ByteArray := method_8_code
def yX0_grade : MethodName := ⟨RX0, "grade", "(LTimberList;II[J)I"⟩
def dkwX0_grade_0 : List UInt8 := [45, 3, 42, 27, 28, 182, 0, 34, 133, 80, 167, 0, 7, 58, 4, 4, 172, 3, 172]
abbrev dktX0_grade_0 : List UInt8 := dkwX0_grade_0 ++ []
theorem dksX0_grade_0 : cX0_grade.data.toList.drop 0 = dktX0_grade_0 := by decide +kernel
theorem dX0_grade_0 : decode cX0_grade 0 = .ok (.aload_n 3, 1) := dk_45 (dk_at dksX0_grade_0 0 rfl rfl)
theorem dX0_grade_1 : decode cX0_grade 1 = .ok (.iconst 0, 1) := dk_3 (dk_at dksX0_grade_0 1 rfl rfl)
theorem dX0_grade_2 : decode cX0_grade 2 = .ok (.aload_n 0, 1) := dk_42 (dk_at dksX0_grade_0 2 rfl rfl)
theorem dX0_grade_3 : decode cX0_grade 3 = .ok (.iload_n 1, 1) := dk_27 (dk_at dksX0_grade_0 3 rfl rfl)
theorem dX0_grade_4 : decode cX0_grade 4 = .ok (.iload_n 2, 1) := dk_28 (dk_at dksX0_grade_0 4 rfl rfl)
theorem dX0_grade_5 : decode cX0_grade 5 = .ok (.invokevirtual 34, 3) := dk_182 0 34 (dk_at dksX0_grade_0 5 rfl rfl)
theorem dX0_grade_8 : decode cX0_grade 8 = .ok (.i2l, 1) := dk_133 (dk_at dksX0_grade_0 8 rfl rfl)
theorem dX0_grade_9 : decode cX0_grade 9 = .ok (.lastore, 1) := dk_80 (dk_at dksX0_grade_0 9 rfl rfl)
theorem dX0_grade_10 : decode cX0_grade 10 = .ok (.goto 7, 3) := dk_167 0 7 (dk_at dksX0_grade_0 10 rfl rfl)
theorem dX0_grade_13 : decode cX0_grade 13 = .ok (.astore 4, 2) := dk_58 4 (dk_at dksX0_grade_0 13 rfl rfl)
theorem dX0_grade_15 : decode cX0_grade 15 = .ok (.iconst 1, 1) := dk_4 (dk_at dksX0_grade_0 15 rfl rfl)
theorem dX0_grade_16 : decode cX0_grade 16 = .ok (.ireturn, 1) := dk_172 (dk_at dksX0_grade_0 16 rfl rfl)
theorem dX0_grade_17 : decode cX0_grade 17 = .ok (.iconst 0, 1) := dk_3 (dk_at dksX0_grade_0 17 rfl rfl)
theorem dX0_grade_18 : decode cX0_grade 18 = .ok (.ireturn, 1) := dk_172 (dk_at dksX0_grade_0 18 rfl rfl)
abbrev cX0_stretches : ByteArray := method_9_code
def yX0_stretches : MethodName := ⟨RX0, "stretches", "(LTimberList;II[J)I"⟩
def dkwX0_stretches_0 : List UInt8 := [45, 3, 42, 27, 28, 182, 0, 38, 133, 80, 167, 0, 11, 58, 4, 4, 172, 58, 4, 5, 172, 3, 172]
abbrev dktX0_stretches_0 : List UInt8 := dkwX0_stretches_0 ++ []
theorem dksX0_stretches_0 : cX0_stretches.data.toList.drop 0 = dktX0_stretches_0 := by decide +kernel
theorem dX0_stretches_0 : decode cX0_stretches 0 = .ok (.aload_n 3, 1) := dk_45 (dk_at dksX0_stretches_0 0 rfl rfl)
theorem dX0_stretches_1 : decode cX0_stretches 1 = .ok (.iconst 0, 1) := dk_3 (dk_at dksX0_stretches_0 1 rfl rfl)
theorem dX0_stretches_2 : decode cX0_stretches 2 = .ok (.aload_n 0, 1) := dk_42 (dk_at dksX0_stretches_0 2 rfl rfl)
theorem dX0_stretches_3 : decode cX0_stretches 3 = .ok (.iload_n 1, 1) := dk_27 (dk_at dksX0_stretches_0 3 rfl rfl)
theorem dX0_stretches_4 : decode cX0_stretches 4 = .ok (.iload_n 2, 1) := dk_28 (dk_at dksX0_stretches_0 4 rfl rfl)
theorem dX0_stretches_5 : decode cX0_stretches 5 = .ok (.invokevirtual 38, 3) := dk_182 0 38 (dk_at dksX0_stretches_0 5 rfl rfl)
theorem dX0_stretches_8 : decode cX0_stretches 8 = .ok (.i2l, 1) := dk_133 (dk_at dksX0_stretches_0 8 rfl rfl)
theorem dX0_stretches_9 : decode cX0_stretches 9 = .ok (.lastore, 1) := dk_80 (dk_at dksX0_stretches_0 9 rfl rfl)
theorem dX0_stretches_10 : decode cX0_stretches 10 = .ok (.goto 11, 3) := dk_167 0 11 (dk_at dksX0_stretches_0 10 rfl rfl)
theorem dX0_stretches_13 : decode cX0_stretches 13 = .ok (.astore 4, 2) := dk_58 4 (dk_at dksX0_stretches_0 13 rfl rfl)
theorem dX0_stretches_15 : decode cX0_stretches 15 = .ok (.iconst 1, 1) := dk_4 (dk_at dksX0_stretches_0 15 rfl rfl)
theorem dX0_stretches_16 : decode cX0_stretches 16 = .ok (.ireturn, 1) := dk_172 (dk_at dksX0_stretches_0 16 rfl rfl)
theorem dX0_stretches_17 : decode cX0_stretches 17 = .ok (.astore 4, 2) := dk_58 4 (dk_at dksX0_stretches_0 17 rfl rfl)
theorem dX0_stretches_19 : decode cX0_stretches 19 = .ok (.iconst 2, 1) := dk_5 (dk_at dksX0_stretches_0 19 rfl rfl)
theorem dX0_stretches_20 : decode cX0_stretches 20 = .ok (.ireturn, 1) := dk_172 (dk_at dksX0_stretches_0 20 rfl rfl)
theorem dX0_stretches_21 : decode cX0_stretches 21 = .ok (.iconst 0, 1) := dk_3 (dk_at dksX0_stretches_0 21 rfl rfl)
theorem dX0_stretches_22 : decode cX0_stretches 22 = .ok (.ireturn, 1) := dk_172 (dk_at dksX0_stretches_0 22 rfl rfl)
abbrev cX0_stretch : ByteArray := method_10_code
def yX0_stretch : MethodName := ⟨RX0, "stretch", "(LTimberList;IIIZ[J)I"⟩
def dkwX0_stretch_1 : List UInt8 := [172, 3, 172]
abbrev dktX0_stretch_1 : List UInt8 := dkwX0_stretch_1 ++ []
def dkwX0_stretch_0 : List UInt8 := [25, 5, 3, 42, 27, 28, 29, 21, 4, 182, 0, 41, 133, 80, 167, 0, 11, 58, 6, 4, 172, 58, 6, 5]
abbrev dktX0_stretch_0 : List UInt8 := dkwX0_stretch_0 ++ dktX0_stretch_1
theorem dksX0_stretch_0 : cX0_stretch.data.toList.drop 0 = dktX0_stretch_0 := by decide +kernel
theorem dksX0_stretch_1 : cX0_stretch.data.toList.drop 24 = dktX0_stretch_1 := dk_seg dksX0_stretch_0 24 rfl rfl
theorem dX0_stretch_0 : decode cX0_stretch 0 = .ok (.aload 5, 2) := dk_25 5 (dk_at dksX0_stretch_0 0 rfl rfl)
theorem dX0_stretch_2 : decode cX0_stretch 2 = .ok (.iconst 0, 1) := dk_3 (dk_at dksX0_stretch_0 2 rfl rfl)
theorem dX0_stretch_3 : decode cX0_stretch 3 = .ok (.aload_n 0, 1) := dk_42 (dk_at dksX0_stretch_0 3 rfl rfl)
theorem dX0_stretch_4 : decode cX0_stretch 4 = .ok (.iload_n 1, 1) := dk_27 (dk_at dksX0_stretch_0 4 rfl rfl)
theorem dX0_stretch_5 : decode cX0_stretch 5 = .ok (.iload_n 2, 1) := dk_28 (dk_at dksX0_stretch_0 5 rfl rfl)
theorem dX0_stretch_6 : decode cX0_stretch 6 = .ok (.iload_n 3, 1) := dk_29 (dk_at dksX0_stretch_0 6 rfl rfl)
theorem dX0_stretch_7 : decode cX0_stretch 7 = .ok (.iload 4, 2) := dk_21 4 (dk_at dksX0_stretch_0 7 rfl rfl)
theorem dX0_stretch_9 : decode cX0_stretch 9 = .ok (.invokevirtual 41, 3) := dk_182 0 41 (dk_at dksX0_stretch_0 9 rfl rfl)
theorem dX0_stretch_12 : decode cX0_stretch 12 = .ok (.i2l, 1) := dk_133 (dk_at dksX0_stretch_0 12 rfl rfl)
theorem dX0_stretch_13 : decode cX0_stretch 13 = .ok (.lastore, 1) := dk_80 (dk_at dksX0_stretch_0 13 rfl rfl)
theorem dX0_stretch_14 : decode cX0_stretch 14 = .ok (.goto 11, 3) := dk_167 0 11 (dk_at dksX0_stretch_0 14 rfl rfl)
theorem dX0_stretch_17 : decode cX0_stretch 17 = .ok (.astore 6, 2) := dk_58 6 (dk_at dksX0_stretch_0 17 rfl rfl)
theorem dX0_stretch_19 : decode cX0_stretch 19 = .ok (.iconst 1, 1) := dk_4 (dk_at dksX0_stretch_0 19 rfl rfl)
theorem dX0_stretch_20 : decode cX0_stretch 20 = .ok (.ireturn, 1) := dk_172 (dk_at dksX0_stretch_0 20 rfl rfl)
theorem dX0_stretch_21 : decode cX0_stretch 21 = .ok (.astore 6, 2) := dk_58 6 (dk_at dksX0_stretch_0 21 rfl rfl)
theorem dX0_stretch_23 : decode cX0_stretch 23 = .ok (.iconst 2, 1) := dk_5 (dk_at dksX0_stretch_0 23 rfl rfl)
theorem dX0_stretch_24 : decode cX0_stretch 24 = .ok (.ireturn, 1) := dk_172 (dk_at dksX0_stretch_1 0 rfl rfl)
theorem dX0_stretch_25 : decode cX0_stretch 25 = .ok (.iconst 0, 1) := dk_3 (dk_at dksX0_stretch_1 1 rfl rfl)
theorem dX0_stretch_26 : decode cX0_stretch 26 = .ok (.ireturn, 1) := dk_172 (dk_at dksX0_stretch_1 2 rfl rfl)
abbrev cX0_fits : ByteArray := method_11_code
def yX0_fits : MethodName := ⟨RX0, "fits", "(LTimberList;III[J)I"⟩
def dkwX0_fits_1 : List UInt8 := [4, 172, 3, 172]
abbrev dktX0_fits_1 : List UInt8 := dkwX0_fits_1 ++ []
def dkwX0_fits_0 : List UInt8 := [25, 4, 3, 42, 27, 28, 29, 182, 0, 45, 153, 0, 7, 10, 167, 0, 4, 9, 80, 167, 0, 7, 58, 5]
abbrev dktX0_fits_0 : List UInt8 := dkwX0_fits_0 ++ dktX0_fits_1
theorem dksX0_fits_0 : cX0_fits.data.toList.drop 0 = dktX0_fits_0 := by decide +kernel
theorem dksX0_fits_1 : cX0_fits.data.toList.drop 24 = dktX0_fits_1 := dk_seg dksX0_fits_0 24 rfl rfl
theorem dX0_fits_0 : decode cX0_fits 0 = .ok (.aload 4, 2) := dk_25 4 (dk_at dksX0_fits_0 0 rfl rfl)
theorem dX0_fits_2 : decode cX0_fits 2 = .ok (.iconst 0, 1) := dk_3 (dk_at dksX0_fits_0 2 rfl rfl)
theorem dX0_fits_3 : decode cX0_fits 3 = .ok (.aload_n 0, 1) := dk_42 (dk_at dksX0_fits_0 3 rfl rfl)
theorem dX0_fits_4 : decode cX0_fits 4 = .ok (.iload_n 1, 1) := dk_27 (dk_at dksX0_fits_0 4 rfl rfl)
theorem dX0_fits_5 : decode cX0_fits 5 = .ok (.iload_n 2, 1) := dk_28 (dk_at dksX0_fits_0 5 rfl rfl)
theorem dX0_fits_6 : decode cX0_fits 6 = .ok (.iload_n 3, 1) := dk_29 (dk_at dksX0_fits_0 6 rfl rfl)
theorem dX0_fits_7 : decode cX0_fits 7 = .ok (.invokevirtual 45, 3) := dk_182 0 45 (dk_at dksX0_fits_0 7 rfl rfl)
theorem dX0_fits_10 : decode cX0_fits 10 = .ok (.ifCond .eq 7, 3) := dk_153 0 7 (dk_at dksX0_fits_0 10 rfl rfl)
theorem dX0_fits_13 : decode cX0_fits 13 = .ok (.lconst 1, 1) := dk_10 (dk_at dksX0_fits_0 13 rfl rfl)
theorem dX0_fits_14 : decode cX0_fits 14 = .ok (.goto 4, 3) := dk_167 0 4 (dk_at dksX0_fits_0 14 rfl rfl)
theorem dX0_fits_17 : decode cX0_fits 17 = .ok (.lconst 0, 1) := dk_9 (dk_at dksX0_fits_0 17 rfl rfl)
theorem dX0_fits_18 : decode cX0_fits 18 = .ok (.lastore, 1) := dk_80 (dk_at dksX0_fits_0 18 rfl rfl)
theorem dX0_fits_19 : decode cX0_fits 19 = .ok (.goto 7, 3) := dk_167 0 7 (dk_at dksX0_fits_0 19 rfl rfl)
theorem dX0_fits_22 : decode cX0_fits 22 = .ok (.astore 5, 2) := dk_58 5 (dk_at dksX0_fits_0 22 rfl rfl)
theorem dX0_fits_24 : decode cX0_fits 24 = .ok (.iconst 1, 1) := dk_4 (dk_at dksX0_fits_1 0 rfl rfl)
theorem dX0_fits_25 : decode cX0_fits 25 = .ok (.ireturn, 1) := dk_172 (dk_at dksX0_fits_1 1 rfl rfl)
theorem dX0_fits_26 : decode cX0_fits 26 = .ok (.iconst 0, 1) := dk_3 (dk_at dksX0_fits_1 2 rfl rfl)
theorem dX0_fits_27 : decode cX0_fits 27 = .ok (.ireturn, 1) := dk_172 (dk_at dksX0_fits_1 3 rfl rfl)
abbrev cX0_earliest : ByteArray := method_12_code
def yX0_earliest : MethodName := ⟨RX0, "earliest", "(LTimberList;II[J)I"⟩
def dkwX0_earliest_0 : List UInt8 := [45, 3, 42, 27, 28, 182, 0, 49, 133, 80, 167, 0, 7, 58, 4, 4, 172, 3, 172]
abbrev dktX0_earliest_0 : List UInt8 := dkwX0_earliest_0 ++ []
theorem dksX0_earliest_0 : cX0_earliest.data.toList.drop 0 = dktX0_earliest_0 := by decide +kernel
theorem dX0_earliest_0 : decode cX0_earliest 0 = .ok (.aload_n 3, 1) := dk_45 (dk_at dksX0_earliest_0 0 rfl rfl)
theorem dX0_earliest_1 : decode cX0_earliest 1 = .ok (.iconst 0, 1) := dk_3 (dk_at dksX0_earliest_0 1 rfl rfl)
theorem dX0_earliest_2 : decode cX0_earliest 2 = .ok (.aload_n 0, 1) := dk_42 (dk_at dksX0_earliest_0 2 rfl rfl)
theorem dX0_earliest_3 : decode cX0_earliest 3 = .ok (.iload_n 1, 1) := dk_27 (dk_at dksX0_earliest_0 3 rfl rfl)
theorem dX0_earliest_4 : decode cX0_earliest 4 = .ok (.iload_n 2, 1) := dk_28 (dk_at dksX0_earliest_0 4 rfl rfl)
theorem dX0_earliest_5 : decode cX0_earliest 5 = .ok (.invokevirtual 49, 3) := dk_182 0 49 (dk_at dksX0_earliest_0 5 rfl rfl)
theorem dX0_earliest_8 : decode cX0_earliest 8 = .ok (.i2l, 1) := dk_133 (dk_at dksX0_earliest_0 8 rfl rfl)
theorem dX0_earliest_9 : decode cX0_earliest 9 = .ok (.lastore, 1) := dk_80 (dk_at dksX0_earliest_0 9 rfl rfl)
theorem dX0_earliest_10 : decode cX0_earliest 10 = .ok (.goto 7, 3) := dk_167 0 7 (dk_at dksX0_earliest_0 10 rfl rfl)
theorem dX0_earliest_13 : decode cX0_earliest 13 = .ok (.astore 4, 2) := dk_58 4 (dk_at dksX0_earliest_0 13 rfl rfl)
theorem dX0_earliest_15 : decode cX0_earliest 15 = .ok (.iconst 1, 1) := dk_4 (dk_at dksX0_earliest_0 15 rfl rfl)
theorem dX0_earliest_16 : decode cX0_earliest 16 = .ok (.ireturn, 1) := dk_172 (dk_at dksX0_earliest_0 16 rfl rfl)
theorem dX0_earliest_17 : decode cX0_earliest 17 = .ok (.iconst 0, 1) := dk_3 (dk_at dksX0_earliest_0 17 rfl rfl)
theorem dX0_earliest_18 : decode cX0_earliest 18 = .ok (.ireturn, 1) := dk_172 (dk_at dksX0_earliest_0 18 rfl rfl)
abbrev cX0_cut : ByteArray := method_13_code
def yX0_cut : MethodName := ⟨RX0, "cut", "(LTimberList;III[J)I"⟩
def dkwX0_cut_1 : List UInt8 := [172]
abbrev dktX0_cut_1 : List UInt8 := dkwX0_cut_1 ++ []
def dkwX0_cut_0 : List UInt8 := [25, 4, 3, 42, 27, 28, 29, 182, 0, 52, 133, 80, 167, 0, 11, 58, 5, 4, 172, 58, 5, 5, 172, 3]
abbrev dktX0_cut_0 : List UInt8 := dkwX0_cut_0 ++ dktX0_cut_1
theorem dksX0_cut_0 : cX0_cut.data.toList.drop 0 = dktX0_cut_0 := by decide +kernel
theorem dksX0_cut_1 : cX0_cut.data.toList.drop 24 = dktX0_cut_1 := dk_seg dksX0_cut_0 24 rfl rfl
theorem dX0_cut_0 : decode cX0_cut 0 = .ok (.aload 4, 2) := dk_25 4 (dk_at dksX0_cut_0 0 rfl rfl)
theorem dX0_cut_2 : decode cX0_cut 2 = .ok (.iconst 0, 1) := dk_3 (dk_at dksX0_cut_0 2 rfl rfl)
theorem dX0_cut_3 : decode cX0_cut 3 = .ok (.aload_n 0, 1) := dk_42 (dk_at dksX0_cut_0 3 rfl rfl)
theorem dX0_cut_4 : decode cX0_cut 4 = .ok (.iload_n 1, 1) := dk_27 (dk_at dksX0_cut_0 4 rfl rfl)
theorem dX0_cut_5 : decode cX0_cut 5 = .ok (.iload_n 2, 1) := dk_28 (dk_at dksX0_cut_0 5 rfl rfl)
theorem dX0_cut_6 : decode cX0_cut 6 = .ok (.iload_n 3, 1) := dk_29 (dk_at dksX0_cut_0 6 rfl rfl)
theorem dX0_cut_7 : decode cX0_cut 7 = .ok (.invokevirtual 52, 3) := dk_182 0 52 (dk_at dksX0_cut_0 7 rfl rfl)
theorem dX0_cut_10 : decode cX0_cut 10 = .ok (.i2l, 1) := dk_133 (dk_at dksX0_cut_0 10 rfl rfl)
theorem dX0_cut_11 : decode cX0_cut 11 = .ok (.lastore, 1) := dk_80 (dk_at dksX0_cut_0 11 rfl rfl)
theorem dX0_cut_12 : decode cX0_cut 12 = .ok (.goto 11, 3) := dk_167 0 11 (dk_at dksX0_cut_0 12 rfl rfl)
theorem dX0_cut_15 : decode cX0_cut 15 = .ok (.astore 5, 2) := dk_58 5 (dk_at dksX0_cut_0 15 rfl rfl)
theorem dX0_cut_17 : decode cX0_cut 17 = .ok (.iconst 1, 1) := dk_4 (dk_at dksX0_cut_0 17 rfl rfl)
theorem dX0_cut_18 : decode cX0_cut 18 = .ok (.ireturn, 1) := dk_172 (dk_at dksX0_cut_0 18 rfl rfl)
theorem dX0_cut_19 : decode cX0_cut 19 = .ok (.astore 5, 2) := dk_58 5 (dk_at dksX0_cut_0 19 rfl rfl)
theorem dX0_cut_21 : decode cX0_cut 21 = .ok (.iconst 2, 1) := dk_5 (dk_at dksX0_cut_0 21 rfl rfl)
theorem dX0_cut_22 : decode cX0_cut 22 = .ok (.ireturn, 1) := dk_172 (dk_at dksX0_cut_0 22 rfl rfl)
theorem dX0_cut_23 : decode cX0_cut 23 = .ok (.iconst 0, 1) := dk_3 (dk_at dksX0_cut_0 23 rfl rfl)
theorem dX0_cut_24 : decode cX0_cut 24 = .ok (.ireturn, 1) := dk_172 (dk_at dksX0_cut_1 0 rfl rfl)
abbrev cX0_join : ByteArray := method_14_code
def yX0_join : MethodName := ⟨RX0, "join", "(LTimberList;IIIIII[J)I"⟩
def dkwX0_join_1 : List UInt8 := [172, 58, 8, 5, 172, 58, 8, 6, 172, 3, 172]
abbrev dktX0_join_1 : List UInt8 := dkwX0_join_1 ++ []
def dkwX0_join_0 : List UInt8 := [25, 7, 3, 42, 27, 28, 29, 21, 4, 21, 5, 21, 6, 182, 0, 55, 133, 80, 167, 0, 15, 58, 8, 4]
abbrev dktX0_join_0 : List UInt8 := dkwX0_join_0 ++ dktX0_join_1
theorem dksX0_join_0 : cX0_join.data.toList.drop 0 = dktX0_join_0 := by decide +kernel
theorem dksX0_join_1 : cX0_join.data.toList.drop 24 = dktX0_join_1 := dk_seg dksX0_join_0 24 rfl rfl
theorem dX0_join_0 : decode cX0_join 0 = .ok (.aload 7, 2) := dk_25 7 (dk_at dksX0_join_0 0 rfl rfl)
theorem dX0_join_2 : decode cX0_join 2 = .ok (.iconst 0, 1) := dk_3 (dk_at dksX0_join_0 2 rfl rfl)
theorem dX0_join_3 : decode cX0_join 3 = .ok (.aload_n 0, 1) := dk_42 (dk_at dksX0_join_0 3 rfl rfl)
theorem dX0_join_4 : decode cX0_join 4 = .ok (.iload_n 1, 1) := dk_27 (dk_at dksX0_join_0 4 rfl rfl)
theorem dX0_join_5 : decode cX0_join 5 = .ok (.iload_n 2, 1) := dk_28 (dk_at dksX0_join_0 5 rfl rfl)
theorem dX0_join_6 : decode cX0_join 6 = .ok (.iload_n 3, 1) := dk_29 (dk_at dksX0_join_0 6 rfl rfl)
theorem dX0_join_7 : decode cX0_join 7 = .ok (.iload 4, 2) := dk_21 4 (dk_at dksX0_join_0 7 rfl rfl)
theorem dX0_join_9 : decode cX0_join 9 = .ok (.iload 5, 2) := dk_21 5 (dk_at dksX0_join_0 9 rfl rfl)
theorem dX0_join_11 : decode cX0_join 11 = .ok (.iload 6, 2) := dk_21 6 (dk_at dksX0_join_0 11 rfl rfl)
theorem dX0_join_13 : decode cX0_join 13 = .ok (.invokevirtual 55, 3) := dk_182 0 55 (dk_at dksX0_join_0 13 rfl rfl)
theorem dX0_join_16 : decode cX0_join 16 = .ok (.i2l, 1) := dk_133 (dk_at dksX0_join_0 16 rfl rfl)
theorem dX0_join_17 : decode cX0_join 17 = .ok (.lastore, 1) := dk_80 (dk_at dksX0_join_0 17 rfl rfl)
theorem dX0_join_18 : decode cX0_join 18 = .ok (.goto 15, 3) := dk_167 0 15 (dk_at dksX0_join_0 18 rfl rfl)
theorem dX0_join_21 : decode cX0_join 21 = .ok (.astore 8, 2) := dk_58 8 (dk_at dksX0_join_0 21 rfl rfl)
theorem dX0_join_23 : decode cX0_join 23 = .ok (.iconst 1, 1) := dk_4 (dk_at dksX0_join_0 23 rfl rfl)
theorem dX0_join_24 : decode cX0_join 24 = .ok (.ireturn, 1) := dk_172 (dk_at dksX0_join_1 0 rfl rfl)
theorem dX0_join_25 : decode cX0_join 25 = .ok (.astore 8, 2) := dk_58 8 (dk_at dksX0_join_1 1 rfl rfl)
theorem dX0_join_27 : decode cX0_join 27 = .ok (.iconst 2, 1) := dk_5 (dk_at dksX0_join_1 3 rfl rfl)
theorem dX0_join_28 : decode cX0_join 28 = .ok (.ireturn, 1) := dk_172 (dk_at dksX0_join_1 4 rfl rfl)
theorem dX0_join_29 : decode cX0_join 29 = .ok (.astore 8, 2) := dk_58 8 (dk_at dksX0_join_1 5 rfl rfl)
theorem dX0_join_31 : decode cX0_join 31 = .ok (.iconst 3, 1) := dk_6 (dk_at dksX0_join_1 7 rfl rfl)
theorem dX0_join_32 : decode cX0_join 32 = .ok (.ireturn, 1) := dk_172 (dk_at dksX0_join_1 8 rfl rfl)
theorem dX0_join_33 : decode cX0_join 33 = .ok (.iconst 0, 1) := dk_3 (dk_at dksX0_join_1 9 rfl rfl)
theorem dX0_join_34 : decode cX0_join 34 = .ok (.ireturn, 1) := dk_172 (dk_at dksX0_join_1 10 rfl rfl)
abbrev cX0_undo : ByteArray := method_15_code
def yX0_undo : MethodName := ⟨RX0, "undo", "(LTimberList;[J)I"⟩
def dkwX0_undo_0 : List UInt8 := [43, 3, 42, 182, 0, 59, 133, 80, 167, 0, 6, 77, 4, 172, 3, 172]
abbrev dktX0_undo_0 : List UInt8 := dkwX0_undo_0 ++ []
theorem dksX0_undo_0 : cX0_undo.data.toList.drop 0 = dktX0_undo_0 := by decide +kernel
theorem dX0_undo_0 : decode cX0_undo 0 = .ok (.aload_n 1, 1) := dk_43 (dk_at dksX0_undo_0 0 rfl rfl)
theorem dX0_undo_1 : decode cX0_undo 1 = .ok (.iconst 0, 1) := dk_3 (dk_at dksX0_undo_0 1 rfl rfl)
theorem dX0_undo_2 : decode cX0_undo 2 = .ok (.aload_n 0, 1) := dk_42 (dk_at dksX0_undo_0 2 rfl rfl)
theorem dX0_undo_3 : decode cX0_undo 3 = .ok (.invokevirtual 59, 3) := dk_182 0 59 (dk_at dksX0_undo_0 3 rfl rfl)
theorem dX0_undo_6 : decode cX0_undo 6 = .ok (.i2l, 1) := dk_133 (dk_at dksX0_undo_0 6 rfl rfl)
theorem dX0_undo_7 : decode cX0_undo 7 = .ok (.lastore, 1) := dk_80 (dk_at dksX0_undo_0 7 rfl rfl)
theorem dX0_undo_8 : decode cX0_undo 8 = .ok (.goto 6, 3) := dk_167 0 6 (dk_at dksX0_undo_0 8 rfl rfl)
theorem dX0_undo_11 : decode cX0_undo 11 = .ok (.astore_n 2, 1) := dk_77 (dk_at dksX0_undo_0 11 rfl rfl)
theorem dX0_undo_12 : decode cX0_undo 12 = .ok (.iconst 1, 1) := dk_4 (dk_at dksX0_undo_0 12 rfl rfl)
theorem dX0_undo_13 : decode cX0_undo 13 = .ok (.ireturn, 1) := dk_172 (dk_at dksX0_undo_0 13 rfl rfl)
theorem dX0_undo_14 : decode cX0_undo 14 = .ok (.iconst 0, 1) := dk_3 (dk_at dksX0_undo_0 14 rfl rfl)
theorem dX0_undo_15 : decode cX0_undo 15 = .ok (.ireturn, 1) := dk_172 (dk_at dksX0_undo_0 15 rfl rfl)
abbrev cX0_left : ByteArray := method_16_code
def yX0_left : MethodName := ⟨RX0, "left", "(LTimberList;I[J)I"⟩
def dkwX0_left_0 : List UInt8 := [44, 3, 42, 27, 182, 0, 63, 133, 80, 167, 0, 6, 78, 4, 172, 3, 172]
abbrev dktX0_left_0 : List UInt8 := dkwX0_left_0 ++ []
theorem dksX0_left_0 : cX0_left.data.toList.drop 0 = dktX0_left_0 := by decide +kernel
theorem dX0_left_0 : decode cX0_left 0 = .ok (.aload_n 2, 1) := dk_44 (dk_at dksX0_left_0 0 rfl rfl)
theorem dX0_left_1 : decode cX0_left 1 = .ok (.iconst 0, 1) := dk_3 (dk_at dksX0_left_0 1 rfl rfl)
theorem dX0_left_2 : decode cX0_left 2 = .ok (.aload_n 0, 1) := dk_42 (dk_at dksX0_left_0 2 rfl rfl)
theorem dX0_left_3 : decode cX0_left 3 = .ok (.iload_n 1, 1) := dk_27 (dk_at dksX0_left_0 3 rfl rfl)
theorem dX0_left_4 : decode cX0_left 4 = .ok (.invokevirtual 63, 3) := dk_182 0 63 (dk_at dksX0_left_0 4 rfl rfl)
theorem dX0_left_7 : decode cX0_left 7 = .ok (.i2l, 1) := dk_133 (dk_at dksX0_left_0 7 rfl rfl)
theorem dX0_left_8 : decode cX0_left 8 = .ok (.lastore, 1) := dk_80 (dk_at dksX0_left_0 8 rfl rfl)
theorem dX0_left_9 : decode cX0_left 9 = .ok (.goto 6, 3) := dk_167 0 6 (dk_at dksX0_left_0 9 rfl rfl)
theorem dX0_left_12 : decode cX0_left 12 = .ok (.astore_n 3, 1) := dk_78 (dk_at dksX0_left_0 12 rfl rfl)
theorem dX0_left_13 : decode cX0_left 13 = .ok (.iconst 1, 1) := dk_4 (dk_at dksX0_left_0 13 rfl rfl)
theorem dX0_left_14 : decode cX0_left 14 = .ok (.ireturn, 1) := dk_172 (dk_at dksX0_left_0 14 rfl rfl)
theorem dX0_left_15 : decode cX0_left 15 = .ok (.iconst 0, 1) := dk_3 (dk_at dksX0_left_0 15 rfl rfl)
theorem dX0_left_16 : decode cX0_left 16 = .ok (.ireturn, 1) := dk_172 (dk_at dksX0_left_0 16 rfl rfl)
abbrev cX0_pieces : ByteArray := method_17_code
def yX0_pieces : MethodName := ⟨RX0, "pieces", "(LTimberList;I[J)I"⟩
def dkwX0_pieces_0 : List UInt8 := [44, 3, 42, 27, 182, 0, 66, 133, 80, 167, 0, 6, 78, 4, 172, 3, 172]
abbrev dktX0_pieces_0 : List UInt8 := dkwX0_pieces_0 ++ []
theorem dksX0_pieces_0 : cX0_pieces.data.toList.drop 0 = dktX0_pieces_0 := by decide +kernel
theorem dX0_pieces_0 : decode cX0_pieces 0 = .ok (.aload_n 2, 1) := dk_44 (dk_at dksX0_pieces_0 0 rfl rfl)
theorem dX0_pieces_1 : decode cX0_pieces 1 = .ok (.iconst 0, 1) := dk_3 (dk_at dksX0_pieces_0 1 rfl rfl)
theorem dX0_pieces_2 : decode cX0_pieces 2 = .ok (.aload_n 0, 1) := dk_42 (dk_at dksX0_pieces_0 2 rfl rfl)
theorem dX0_pieces_3 : decode cX0_pieces 3 = .ok (.iload_n 1, 1) := dk_27 (dk_at dksX0_pieces_0 3 rfl rfl)
theorem dX0_pieces_4 : decode cX0_pieces 4 = .ok (.invokevirtual 66, 3) := dk_182 0 66 (dk_at dksX0_pieces_0 4 rfl rfl)
theorem dX0_pieces_7 : decode cX0_pieces 7 = .ok (.i2l, 1) := dk_133 (dk_at dksX0_pieces_0 7 rfl rfl)
theorem dX0_pieces_8 : decode cX0_pieces 8 = .ok (.lastore, 1) := dk_80 (dk_at dksX0_pieces_0 8 rfl rfl)
theorem dX0_pieces_9 : decode cX0_pieces 9 = .ok (.goto 6, 3) := dk_167 0 6 (dk_at dksX0_pieces_0 9 rfl rfl)
theorem dX0_pieces_12 : decode cX0_pieces 12 = .ok (.astore_n 3, 1) := dk_78 (dk_at dksX0_pieces_0 12 rfl rfl)
theorem dX0_pieces_13 : decode cX0_pieces 13 = .ok (.iconst 1, 1) := dk_4 (dk_at dksX0_pieces_0 13 rfl rfl)
theorem dX0_pieces_14 : decode cX0_pieces 14 = .ok (.ireturn, 1) := dk_172 (dk_at dksX0_pieces_0 14 rfl rfl)
theorem dX0_pieces_15 : decode cX0_pieces 15 = .ok (.iconst 0, 1) := dk_3 (dk_at dksX0_pieces_0 15 rfl rfl)
theorem dX0_pieces_16 : decode cX0_pieces 16 = .ok (.ireturn, 1) := dk_172 (dk_at dksX0_pieces_0 16 rfl rfl)
abbrev cX0_piece : ByteArray := method_18_code
def yX0_piece : MethodName := ⟨RX0, "piece", "(LTimberList;III[J)I"⟩
def dkwX0_piece_0 : List UInt8 := [25, 4, 3, 42, 27, 28, 29, 182, 0, 69, 133, 80, 167, 0, 7, 58, 5, 4, 172, 3, 172]
abbrev dktX0_piece_0 : List UInt8 := dkwX0_piece_0 ++ []
theorem dksX0_piece_0 : cX0_piece.data.toList.drop 0 = dktX0_piece_0 := by decide +kernel
theorem dX0_piece_0 : decode cX0_piece 0 = .ok (.aload 4, 2) := dk_25 4 (dk_at dksX0_piece_0 0 rfl rfl)
theorem dX0_piece_2 : decode cX0_piece 2 = .ok (.iconst 0, 1) := dk_3 (dk_at dksX0_piece_0 2 rfl rfl)
theorem dX0_piece_3 : decode cX0_piece 3 = .ok (.aload_n 0, 1) := dk_42 (dk_at dksX0_piece_0 3 rfl rfl)
theorem dX0_piece_4 : decode cX0_piece 4 = .ok (.iload_n 1, 1) := dk_27 (dk_at dksX0_piece_0 4 rfl rfl)
theorem dX0_piece_5 : decode cX0_piece 5 = .ok (.iload_n 2, 1) := dk_28 (dk_at dksX0_piece_0 5 rfl rfl)
theorem dX0_piece_6 : decode cX0_piece 6 = .ok (.iload_n 3, 1) := dk_29 (dk_at dksX0_piece_0 6 rfl rfl)
theorem dX0_piece_7 : decode cX0_piece 7 = .ok (.invokevirtual 69, 3) := dk_182 0 69 (dk_at dksX0_piece_0 7 rfl rfl)
theorem dX0_piece_10 : decode cX0_piece 10 = .ok (.i2l, 1) := dk_133 (dk_at dksX0_piece_0 10 rfl rfl)
theorem dX0_piece_11 : decode cX0_piece 11 = .ok (.lastore, 1) := dk_80 (dk_at dksX0_piece_0 11 rfl rfl)
theorem dX0_piece_12 : decode cX0_piece 12 = .ok (.goto 7, 3) := dk_167 0 7 (dk_at dksX0_piece_0 12 rfl rfl)
theorem dX0_piece_15 : decode cX0_piece 15 = .ok (.astore 5, 2) := dk_58 5 (dk_at dksX0_piece_0 15 rfl rfl)
theorem dX0_piece_17 : decode cX0_piece 17 = .ok (.iconst 1, 1) := dk_4 (dk_at dksX0_piece_0 17 rfl rfl)
theorem dX0_piece_18 : decode cX0_piece 18 = .ok (.ireturn, 1) := dk_172 (dk_at dksX0_piece_0 18 rfl rfl)
theorem dX0_piece_19 : decode cX0_piece 19 = .ok (.iconst 0, 1) := dk_3 (dk_at dksX0_piece_0 19 rfl rfl)
theorem dX0_piece_20 : decode cX0_piece 20 = .ok (.ireturn, 1) := dk_172 (dk_at dksX0_piece_0 20 rfl rfl)
abbrev cX0_cuts : ByteArray := method_19_code
def yX0_cuts : MethodName := ⟨RX0, "cuts", "(LTimberList;I[J)I"⟩
def dkwX0_cuts_0 : List UInt8 := [44, 3, 42, 27, 182, 0, 72, 133, 80, 167, 0, 6, 78, 4, 172, 3, 172]
abbrev dktX0_cuts_0 : List UInt8 := dkwX0_cuts_0 ++ []
theorem dksX0_cuts_0 : cX0_cuts.data.toList.drop 0 = dktX0_cuts_0 := by decide +kernel
theorem dX0_cuts_0 : decode cX0_cuts 0 = .ok (.aload_n 2, 1) := dk_44 (dk_at dksX0_cuts_0 0 rfl rfl)
theorem dX0_cuts_1 : decode cX0_cuts 1 = .ok (.iconst 0, 1) := dk_3 (dk_at dksX0_cuts_0 1 rfl rfl)
theorem dX0_cuts_2 : decode cX0_cuts 2 = .ok (.aload_n 0, 1) := dk_42 (dk_at dksX0_cuts_0 2 rfl rfl)
theorem dX0_cuts_3 : decode cX0_cuts 3 = .ok (.iload_n 1, 1) := dk_27 (dk_at dksX0_cuts_0 3 rfl rfl)
theorem dX0_cuts_4 : decode cX0_cuts 4 = .ok (.invokevirtual 72, 3) := dk_182 0 72 (dk_at dksX0_cuts_0 4 rfl rfl)
theorem dX0_cuts_7 : decode cX0_cuts 7 = .ok (.i2l, 1) := dk_133 (dk_at dksX0_cuts_0 7 rfl rfl)
theorem dX0_cuts_8 : decode cX0_cuts 8 = .ok (.lastore, 1) := dk_80 (dk_at dksX0_cuts_0 8 rfl rfl)
theorem dX0_cuts_9 : decode cX0_cuts 9 = .ok (.goto 6, 3) := dk_167 0 6 (dk_at dksX0_cuts_0 9 rfl rfl)
theorem dX0_cuts_12 : decode cX0_cuts 12 = .ok (.astore_n 3, 1) := dk_78 (dk_at dksX0_cuts_0 12 rfl rfl)
theorem dX0_cuts_13 : decode cX0_cuts 13 = .ok (.iconst 1, 1) := dk_4 (dk_at dksX0_cuts_0 13 rfl rfl)
theorem dX0_cuts_14 : decode cX0_cuts 14 = .ok (.ireturn, 1) := dk_172 (dk_at dksX0_cuts_0 14 rfl rfl)
theorem dX0_cuts_15 : decode cX0_cuts 15 = .ok (.iconst 0, 1) := dk_3 (dk_at dksX0_cuts_0 15 rfl rfl)
theorem dX0_cuts_16 : decode cX0_cuts 16 = .ok (.ireturn, 1) := dk_172 (dk_at dksX0_cuts_0 16 rfl rfl)
abbrev cX0_longestRoom : ByteArray := method_20_code
def yX0_longestRoom : MethodName := ⟨RX0, "longestRoom", "(LTimberList;I[J)I"⟩
def dkwX0_longestRoom_0 : List UInt8 := [44, 3, 42, 27, 182, 0, 75, 133, 80, 167, 0, 6, 78, 4, 172, 3, 172]
abbrev dktX0_longestRoom_0 : List UInt8 := dkwX0_longestRoom_0 ++ []
theorem dksX0_longestRoom_0 : cX0_longestRoom.data.toList.drop 0 = dktX0_longestRoom_0 := by decide +kernel
theorem dX0_longestRoom_0 : decode cX0_longestRoom 0 = .ok (.aload_n 2, 1) := dk_44 (dk_at dksX0_longestRoom_0 0 rfl rfl)
theorem dX0_longestRoom_1 : decode cX0_longestRoom 1 = .ok (.iconst 0, 1) := dk_3 (dk_at dksX0_longestRoom_0 1 rfl rfl)
theorem dX0_longestRoom_2 : decode cX0_longestRoom 2 = .ok (.aload_n 0, 1) := dk_42 (dk_at dksX0_longestRoom_0 2 rfl rfl)
theorem dX0_longestRoom_3 : decode cX0_longestRoom 3 = .ok (.iload_n 1, 1) := dk_27 (dk_at dksX0_longestRoom_0 3 rfl rfl)
theorem dX0_longestRoom_4 : decode cX0_longestRoom 4 = .ok (.invokevirtual 75, 3) := dk_182 0 75 (dk_at dksX0_longestRoom_0 4 rfl rfl)
theorem dX0_longestRoom_7 : decode cX0_longestRoom 7 = .ok (.i2l, 1) := dk_133 (dk_at dksX0_longestRoom_0 7 rfl rfl)
theorem dX0_longestRoom_8 : decode cX0_longestRoom 8 = .ok (.lastore, 1) := dk_80 (dk_at dksX0_longestRoom_0 8 rfl rfl)
theorem dX0_longestRoom_9 : decode cX0_longestRoom 9 = .ok (.goto 6, 3) := dk_167 0 6 (dk_at dksX0_longestRoom_0 9 rfl rfl)
theorem dX0_longestRoom_12 : decode cX0_longestRoom 12 = .ok (.astore_n 3, 1) := dk_78 (dk_at dksX0_longestRoom_0 12 rfl rfl)
theorem dX0_longestRoom_13 : decode cX0_longestRoom 13 = .ok (.iconst 1, 1) := dk_4 (dk_at dksX0_longestRoom_0 13 rfl rfl)
theorem dX0_longestRoom_14 : decode cX0_longestRoom 14 = .ok (.ireturn, 1) := dk_172 (dk_at dksX0_longestRoom_0 14 rfl rfl)
theorem dX0_longestRoom_15 : decode cX0_longestRoom 15 = .ok (.iconst 0, 1) := dk_3 (dk_at dksX0_longestRoom_0 15 rfl rfl)
theorem dX0_longestRoom_16 : decode cX0_longestRoom 16 = .ok (.ireturn, 1) := dk_172 (dk_at dksX0_longestRoom_0 16 rfl rfl)
abbrev cX0_bestUse : ByteArray := method_21_code
def yX0_bestUse : MethodName := ⟨RX0, "bestUse", "(LTimberList;III[J)I"⟩
def dkwX0_bestUse_1 : List UInt8 := [172]
abbrev dktX0_bestUse_1 : List UInt8 := dkwX0_bestUse_1 ++ []
def dkwX0_bestUse_0 : List UInt8 := [25, 4, 3, 42, 27, 28, 29, 182, 0, 78, 133, 80, 167, 0, 11, 58, 5, 4, 172, 58, 5, 5, 172, 3]
abbrev dktX0_bestUse_0 : List UInt8 := dkwX0_bestUse_0 ++ dktX0_bestUse_1
theorem dksX0_bestUse_0 : cX0_bestUse.data.toList.drop 0 = dktX0_bestUse_0 := by decide +kernel
theorem dksX0_bestUse_1 : cX0_bestUse.data.toList.drop 24 = dktX0_bestUse_1 := dk_seg dksX0_bestUse_0 24 rfl rfl
theorem dX0_bestUse_0 : decode cX0_bestUse 0 = .ok (.aload 4, 2) := dk_25 4 (dk_at dksX0_bestUse_0 0 rfl rfl)
theorem dX0_bestUse_2 : decode cX0_bestUse 2 = .ok (.iconst 0, 1) := dk_3 (dk_at dksX0_bestUse_0 2 rfl rfl)
theorem dX0_bestUse_3 : decode cX0_bestUse 3 = .ok (.aload_n 0, 1) := dk_42 (dk_at dksX0_bestUse_0 3 rfl rfl)
theorem dX0_bestUse_4 : decode cX0_bestUse 4 = .ok (.iload_n 1, 1) := dk_27 (dk_at dksX0_bestUse_0 4 rfl rfl)
theorem dX0_bestUse_5 : decode cX0_bestUse 5 = .ok (.iload_n 2, 1) := dk_28 (dk_at dksX0_bestUse_0 5 rfl rfl)
theorem dX0_bestUse_6 : decode cX0_bestUse 6 = .ok (.iload_n 3, 1) := dk_29 (dk_at dksX0_bestUse_0 6 rfl rfl)
theorem dX0_bestUse_7 : decode cX0_bestUse 7 = .ok (.invokevirtual 78, 3) := dk_182 0 78 (dk_at dksX0_bestUse_0 7 rfl rfl)
theorem dX0_bestUse_10 : decode cX0_bestUse 10 = .ok (.i2l, 1) := dk_133 (dk_at dksX0_bestUse_0 10 rfl rfl)
theorem dX0_bestUse_11 : decode cX0_bestUse 11 = .ok (.lastore, 1) := dk_80 (dk_at dksX0_bestUse_0 11 rfl rfl)
theorem dX0_bestUse_12 : decode cX0_bestUse 12 = .ok (.goto 11, 3) := dk_167 0 11 (dk_at dksX0_bestUse_0 12 rfl rfl)
theorem dX0_bestUse_15 : decode cX0_bestUse 15 = .ok (.astore 5, 2) := dk_58 5 (dk_at dksX0_bestUse_0 15 rfl rfl)
theorem dX0_bestUse_17 : decode cX0_bestUse 17 = .ok (.iconst 1, 1) := dk_4 (dk_at dksX0_bestUse_0 17 rfl rfl)
theorem dX0_bestUse_18 : decode cX0_bestUse 18 = .ok (.ireturn, 1) := dk_172 (dk_at dksX0_bestUse_0 18 rfl rfl)
theorem dX0_bestUse_19 : decode cX0_bestUse 19 = .ok (.astore 5, 2) := dk_58 5 (dk_at dksX0_bestUse_0 19 rfl rfl)
theorem dX0_bestUse_21 : decode cX0_bestUse 21 = .ok (.iconst 2, 1) := dk_5 (dk_at dksX0_bestUse_0 21 rfl rfl)
theorem dX0_bestUse_22 : decode cX0_bestUse 22 = .ok (.ireturn, 1) := dk_172 (dk_at dksX0_bestUse_0 22 rfl rfl)
theorem dX0_bestUse_23 : decode cX0_bestUse 23 = .ok (.iconst 0, 1) := dk_3 (dk_at dksX0_bestUse_0 23 rfl rfl)
theorem dX0_bestUse_24 : decode cX0_bestUse 24 = .ok (.ireturn, 1) := dk_172 (dk_at dksX0_bestUse_1 0 rfl rfl)
theorem q46 : (Jvm.Cond.initialized "TimberListLaw") ∈ lw_all := lw_g (lw_at lw_m1 0 rfl) rfl
theorem q96 : (Jvm.Cond.classLink "TimberListLaw" (8 : Nat) "TimberList") ∈ lw_all := lw_g (lw_at lw_m1 50 rfl) rfl
theorem q98 : (Jvm.Cond.methodLink "TimberListLaw" (81 : Nat) ({ cls := "TimberList", name := "<init>", desc := "()V" } : Jvm.MethodName)) ∈ lw_all := lw_g (lw_at lw_m1 52 rfl) rfl
theorem q174 : (Jvm.Cond.methodLink "TimberListLaw" (137 : Nat) ({ cls := "TimberList", name := "plan", desc := "()I" } : Jvm.MethodName)) ∈ lw_all := lw_g (lw_at lw_m1 128 rfl) rfl
theorem q1298 : (Jvm.Cond.methodLink "TimberListLaw" (159 : Nat) ({ cls := "TimberList", name := "used", desc := "()D" } : Jvm.MethodName)) ∈ lw_all := lw_g (lw_at lw_m6 52 rfl) rfl
theorem q1312 : (Jvm.Cond.methodLink "TimberListLaw" (164 : Nat) ({ cls := "TimberList", name := "digest", desc := "()J" } : Jvm.MethodName)) ∈ lw_all := lw_g (lw_at lw_m6 66 rfl) rfl
theorem q1323 : (Jvm.Cond.methodLink "TimberListLaw" (85 : Nat) ({ cls := "TimberListLaw", name := "addBoard", desc := "(LTimberList;III[J)I" } : Jvm.MethodName)) ∈ lw_all := lw_g (lw_at lw_m6 77 rfl) rfl
theorem q1324 : (Jvm.Cond.static ({ cls := "TimberListLaw", name := "addBoard", desc := "(LTimberList;III[J)I" } : Jvm.MethodName)) ∈ lw_all := lw_g (lw_at lw_m6 78 rfl) rfl
theorem q1325 : (Jvm.Cond.codeWith ({ cls := "TimberListLaw", name := "addBoard", desc := "(LTimberList;III[J)I" } : Jvm.MethodName) method_3_code (6 : Nat) (Option.some Jvm.ClassFile.FieldType.int) [((0 : Nat), (12 : Nat), (15 : Nat), (13 : Nat)), ((0 : Nat), (12 : Nat), (19 : Nat), (15 : Nat))]) ∈ lw_all := lw_g (lw_at lw_m6 79 rfl) rfl
theorem q1326 : (Jvm.Cond.classLink "TimberListLaw" (13 : Nat) "java/lang/IllegalArgumentException") ∈ lw_all := lw_g (lw_at lw_m6 80 rfl) rfl
theorem q1327 : (Jvm.Cond.classLink "TimberListLaw" (15 : Nat) "java/lang/IllegalStateException") ∈ lw_all := lw_g (lw_at lw_m6 81 rfl) rfl
theorem q1328 : (Jvm.Cond.methodLink "TimberListLaw" (7 : Nat) ({ cls := "TimberList", name := "addBoard", desc := "(III)I" } : Jvm.MethodName)) ∈ lw_all := lw_g (lw_at lw_m6 82 rfl) rfl
theorem q1394 : (Jvm.Cond.methodLink "TimberListLaw" (94 : Nat) ({ cls := "TimberListLaw", name := "addDefect", desc := "(LTimberList;IIII[J)I" } : Jvm.MethodName)) ∈ lw_all := lw_g (lw_at lw_m6 148 rfl) rfl
theorem q1395 : (Jvm.Cond.static ({ cls := "TimberListLaw", name := "addDefect", desc := "(LTimberList;IIII[J)I" } : Jvm.MethodName)) ∈ lw_all := lw_g (lw_at lw_m6 149 rfl) rfl
theorem q1396 : (Jvm.Cond.codeWith ({ cls := "TimberListLaw", name := "addDefect", desc := "(LTimberList;IIII[J)I" } : Jvm.MethodName) method_4_code (7 : Nat) (Option.some Jvm.ClassFile.FieldType.int) [((0 : Nat), (14 : Nat), (17 : Nat), (21 : Nat)), ((0 : Nat), (14 : Nat), (21 : Nat), (13 : Nat)), ((0 : Nat), (14 : Nat), (25 : Nat), (15 : Nat))]) ∈ lw_all := lw_g (lw_at lw_m6 150 rfl) rfl
theorem q1397 : (Jvm.Cond.classLink "TimberListLaw" (21 : Nat) "java/lang/IndexOutOfBoundsException") ∈ lw_all := lw_g (lw_at lw_m6 151 rfl) rfl
theorem q1413 : (Jvm.Cond.methodLink "TimberListLaw" (17 : Nat) ({ cls := "TimberList", name := "addDefect", desc := "(IIII)I" } : Jvm.MethodName)) ∈ lw_all := lw_g (lw_at lw_m6 167 rfl) rfl
theorem q1445 : (Jvm.Cond.methodLink "TimberListLaw" (98 : Nat) ({ cls := "TimberListLaw", name := "addPart", desc := "(LTimberList;IIIIZ[J)I" } : Jvm.MethodName)) ∈ lw_all := lw_g (lw_at lw_m6 199 rfl) rfl
theorem q1446 : (Jvm.Cond.static ({ cls := "TimberListLaw", name := "addPart", desc := "(LTimberList;IIIIZ[J)I" } : Jvm.MethodName)) ∈ lw_all := lw_g (lw_at lw_m6 200 rfl) rfl
theorem q1447 : (Jvm.Cond.codeWith ({ cls := "TimberListLaw", name := "addPart", desc := "(LTimberList;IIIIZ[J)I" } : Jvm.MethodName) method_5_code (8 : Nat) (Option.some Jvm.ClassFile.FieldType.int) [((0 : Nat), (16 : Nat), (19 : Nat), (13 : Nat)), ((0 : Nat), (16 : Nat), (23 : Nat), (15 : Nat))]) ∈ lw_all := lw_g (lw_at lw_m6 201 rfl) rfl
theorem q1448 : (Jvm.Cond.methodLink "TimberListLaw" (23 : Nat) ({ cls := "TimberList", name := "addPart", desc := "(IIIIZ)I" } : Jvm.MethodName)) ∈ lw_all := lw_g (lw_at lw_m6 202 rfl) rfl
theorem q1487 : (Jvm.Cond.methodLink "TimberListLaw" (102 : Nat) ({ cls := "TimberListLaw", name := "setSaw", desc := "(LTimberList;I[J)I" } : Jvm.MethodName)) ∈ lw_all := lw_g (lw_at lw_m7 1 rfl) rfl
theorem q1488 : (Jvm.Cond.static ({ cls := "TimberListLaw", name := "setSaw", desc := "(LTimberList;I[J)I" } : Jvm.MethodName)) ∈ lw_all := lw_g (lw_at lw_m7 2 rfl) rfl
theorem q1489 : (Jvm.Cond.codeWith ({ cls := "TimberListLaw", name := "setSaw", desc := "(LTimberList;I[J)I" } : Jvm.MethodName) method_6_code (4 : Nat) (Option.some Jvm.ClassFile.FieldType.int) [((0 : Nat), (9 : Nat), (12 : Nat), (13 : Nat)), ((0 : Nat), (9 : Nat), (15 : Nat), (15 : Nat))]) ∈ lw_all := lw_g (lw_at lw_m7 3 rfl) rfl
theorem q1490 : (Jvm.Cond.methodLink "TimberListLaw" (27 : Nat) ({ cls := "TimberList", name := "setSaw", desc := "(I)I" } : Jvm.MethodName)) ∈ lw_all := lw_g (lw_at lw_m7 4 rfl) rfl
theorem q1522 : (Jvm.Cond.methodLink "TimberListLaw" (106 : Nat) ({ cls := "TimberListLaw", name := "setJoint", desc := "(LTimberList;I[J)I" } : Jvm.MethodName)) ∈ lw_all := lw_g (lw_at lw_m7 36 rfl) rfl
theorem q1523 : (Jvm.Cond.static ({ cls := "TimberListLaw", name := "setJoint", desc := "(LTimberList;I[J)I" } : Jvm.MethodName)) ∈ lw_all := lw_g (lw_at lw_m7 37 rfl) rfl
theorem q1524 : (Jvm.Cond.codeWith ({ cls := "TimberListLaw", name := "setJoint", desc := "(LTimberList;I[J)I" } : Jvm.MethodName) method_7_code (4 : Nat) (Option.some Jvm.ClassFile.FieldType.int) [((0 : Nat), (9 : Nat), (12 : Nat), (13 : Nat))]) ∈ lw_all := lw_g (lw_at lw_m7 38 rfl) rfl
theorem q1525 : (Jvm.Cond.methodLink "TimberListLaw" (31 : Nat) ({ cls := "TimberList", name := "setJoint", desc := "(I)I" } : Jvm.MethodName)) ∈ lw_all := lw_g (lw_at lw_m7 39 rfl) rfl
theorem q1529 : (Jvm.Cond.methodLink "TimberListLaw" (109 : Nat) ({ cls := "TimberListLaw", name := "grade", desc := "(LTimberList;II[J)I" } : Jvm.MethodName)) ∈ lw_all := lw_g (lw_at lw_m7 43 rfl) rfl
theorem q1530 : (Jvm.Cond.static ({ cls := "TimberListLaw", name := "grade", desc := "(LTimberList;II[J)I" } : Jvm.MethodName)) ∈ lw_all := lw_g (lw_at lw_m7 44 rfl) rfl
theorem q1531 : (Jvm.Cond.codeWith ({ cls := "TimberListLaw", name := "grade", desc := "(LTimberList;II[J)I" } : Jvm.MethodName) method_8_code (5 : Nat) (Option.some Jvm.ClassFile.FieldType.int) [((0 : Nat), (10 : Nat), (13 : Nat), (21 : Nat))]) ∈ lw_all := lw_g (lw_at lw_m7 45 rfl) rfl
theorem q1532 : (Jvm.Cond.methodLink "TimberListLaw" (34 : Nat) ({ cls := "TimberList", name := "grade", desc := "(II)I" } : Jvm.MethodName)) ∈ lw_all := lw_g (lw_at lw_m7 46 rfl) rfl
theorem q1537 : (Jvm.Cond.methodLink "TimberListLaw" (113 : Nat) ({ cls := "TimberListLaw", name := "stretches", desc := "(LTimberList;II[J)I" } : Jvm.MethodName)) ∈ lw_all := lw_g (lw_at lw_m7 51 rfl) rfl
theorem q1538 : (Jvm.Cond.static ({ cls := "TimberListLaw", name := "stretches", desc := "(LTimberList;II[J)I" } : Jvm.MethodName)) ∈ lw_all := lw_g (lw_at lw_m7 52 rfl) rfl
theorem q1539 : (Jvm.Cond.codeWith ({ cls := "TimberListLaw", name := "stretches", desc := "(LTimberList;II[J)I" } : Jvm.MethodName) method_9_code (5 : Nat) (Option.some Jvm.ClassFile.FieldType.int) [((0 : Nat), (10 : Nat), (13 : Nat), (21 : Nat)), ((0 : Nat), (10 : Nat), (17 : Nat), (13 : Nat))]) ∈ lw_all := lw_g (lw_at lw_m7 53 rfl) rfl
theorem q1540 : (Jvm.Cond.methodLink "TimberListLaw" (38 : Nat) ({ cls := "TimberList", name := "stretches", desc := "(II)I" } : Jvm.MethodName)) ∈ lw_all := lw_g (lw_at lw_m7 54 rfl) rfl
theorem q1563 : (Jvm.Cond.methodLink "TimberListLaw" (116 : Nat) ({ cls := "TimberListLaw", name := "stretch", desc := "(LTimberList;IIIZ[J)I" } : Jvm.MethodName)) ∈ lw_all := lw_g (lw_at lw_m7 77 rfl) rfl
theorem q1564 : (Jvm.Cond.static ({ cls := "TimberListLaw", name := "stretch", desc := "(LTimberList;IIIZ[J)I" } : Jvm.MethodName)) ∈ lw_all := lw_g (lw_at lw_m7 78 rfl) rfl
theorem q1565 : (Jvm.Cond.codeWith ({ cls := "TimberListLaw", name := "stretch", desc := "(LTimberList;IIIZ[J)I" } : Jvm.MethodName) method_10_code (7 : Nat) (Option.some Jvm.ClassFile.FieldType.int) [((0 : Nat), (14 : Nat), (17 : Nat), (21 : Nat)), ((0 : Nat), (14 : Nat), (21 : Nat), (13 : Nat))]) ∈ lw_all := lw_g (lw_at lw_m7 79 rfl) rfl
theorem q1566 : (Jvm.Cond.methodLink "TimberListLaw" (41 : Nat) ({ cls := "TimberList", name := "stretch", desc := "(IIIZ)I" } : Jvm.MethodName)) ∈ lw_all := lw_g (lw_at lw_m7 80 rfl) rfl
theorem q1571 : (Jvm.Cond.methodLink "TimberListLaw" (120 : Nat) ({ cls := "TimberListLaw", name := "fits", desc := "(LTimberList;III[J)I" } : Jvm.MethodName)) ∈ lw_all := lw_g (lw_at lw_m7 85 rfl) rfl
theorem q1572 : (Jvm.Cond.static ({ cls := "TimberListLaw", name := "fits", desc := "(LTimberList;III[J)I" } : Jvm.MethodName)) ∈ lw_all := lw_g (lw_at lw_m7 86 rfl) rfl
theorem q1573 : (Jvm.Cond.codeWith ({ cls := "TimberListLaw", name := "fits", desc := "(LTimberList;III[J)I" } : Jvm.MethodName) method_11_code (6 : Nat) (Option.some Jvm.ClassFile.FieldType.int) [((0 : Nat), (19 : Nat), (22 : Nat), (21 : Nat))]) ∈ lw_all := lw_g (lw_at lw_m7 87 rfl) rfl
theorem q1574 : (Jvm.Cond.methodLink "TimberListLaw" (45 : Nat) ({ cls := "TimberList", name := "fits", desc := "(III)Z" } : Jvm.MethodName)) ∈ lw_all := lw_g (lw_at lw_m7 88 rfl) rfl
theorem q1587 : (Jvm.Cond.methodLink "TimberListLaw" (123 : Nat) ({ cls := "TimberListLaw", name := "earliest", desc := "(LTimberList;II[J)I" } : Jvm.MethodName)) ∈ lw_all := lw_g (lw_at lw_m7 101 rfl) rfl
theorem q1588 : (Jvm.Cond.static ({ cls := "TimberListLaw", name := "earliest", desc := "(LTimberList;II[J)I" } : Jvm.MethodName)) ∈ lw_all := lw_g (lw_at lw_m7 102 rfl) rfl
theorem q1589 : (Jvm.Cond.codeWith ({ cls := "TimberListLaw", name := "earliest", desc := "(LTimberList;II[J)I" } : Jvm.MethodName) method_12_code (5 : Nat) (Option.some Jvm.ClassFile.FieldType.int) [((0 : Nat), (10 : Nat), (13 : Nat), (21 : Nat))]) ∈ lw_all := lw_g (lw_at lw_m7 103 rfl) rfl
theorem q1590 : (Jvm.Cond.methodLink "TimberListLaw" (49 : Nat) ({ cls := "TimberList", name := "earliest", desc := "(II)I" } : Jvm.MethodName)) ∈ lw_all := lw_g (lw_at lw_m7 104 rfl) rfl
theorem q1594 : (Jvm.Cond.methodLink "TimberListLaw" (126 : Nat) ({ cls := "TimberListLaw", name := "cut", desc := "(LTimberList;III[J)I" } : Jvm.MethodName)) ∈ lw_all := lw_g (lw_at lw_m7 108 rfl) rfl
theorem q1595 : (Jvm.Cond.static ({ cls := "TimberListLaw", name := "cut", desc := "(LTimberList;III[J)I" } : Jvm.MethodName)) ∈ lw_all := lw_g (lw_at lw_m7 109 rfl) rfl
theorem q1596 : (Jvm.Cond.codeWith ({ cls := "TimberListLaw", name := "cut", desc := "(LTimberList;III[J)I" } : Jvm.MethodName) method_13_code (6 : Nat) (Option.some Jvm.ClassFile.FieldType.int) [((0 : Nat), (12 : Nat), (15 : Nat), (21 : Nat)), ((0 : Nat), (12 : Nat), (19 : Nat), (15 : Nat))]) ∈ lw_all := lw_g (lw_at lw_m7 110 rfl) rfl
theorem q1597 : (Jvm.Cond.methodLink "TimberListLaw" (52 : Nat) ({ cls := "TimberList", name := "cut", desc := "(III)I" } : Jvm.MethodName)) ∈ lw_all := lw_g (lw_at lw_m7 111 rfl) rfl
theorem q1601 : (Jvm.Cond.methodLink "TimberListLaw" (129 : Nat) ({ cls := "TimberListLaw", name := "join", desc := "(LTimberList;IIIIII[J)I" } : Jvm.MethodName)) ∈ lw_all := lw_g (lw_at lw_m7 115 rfl) rfl
theorem q1602 : (Jvm.Cond.static ({ cls := "TimberListLaw", name := "join", desc := "(LTimberList;IIIIII[J)I" } : Jvm.MethodName)) ∈ lw_all := lw_g (lw_at lw_m7 116 rfl) rfl
theorem q1603 : (Jvm.Cond.codeWith ({ cls := "TimberListLaw", name := "join", desc := "(LTimberList;IIIIII[J)I" } : Jvm.MethodName) method_14_code (9 : Nat) (Option.some Jvm.ClassFile.FieldType.int) [((0 : Nat), (18 : Nat), (21 : Nat), (21 : Nat)), ((0 : Nat), (18 : Nat), (25 : Nat), (13 : Nat)), ((0 : Nat), (18 : Nat), (29 : Nat), (15 : Nat))]) ∈ lw_all := lw_g (lw_at lw_m7 117 rfl) rfl
theorem q1604 : (Jvm.Cond.methodLink "TimberListLaw" (55 : Nat) ({ cls := "TimberList", name := "join", desc := "(IIIIII)I" } : Jvm.MethodName)) ∈ lw_all := lw_g (lw_at lw_m7 118 rfl) rfl
theorem q1609 : (Jvm.Cond.methodLink "TimberListLaw" (133 : Nat) ({ cls := "TimberListLaw", name := "undo", desc := "(LTimberList;[J)I" } : Jvm.MethodName)) ∈ lw_all := lw_g (lw_at lw_m7 123 rfl) rfl
theorem q1610 : (Jvm.Cond.static ({ cls := "TimberListLaw", name := "undo", desc := "(LTimberList;[J)I" } : Jvm.MethodName)) ∈ lw_all := lw_g (lw_at lw_m7 124 rfl) rfl
theorem q1611 : (Jvm.Cond.codeWith ({ cls := "TimberListLaw", name := "undo", desc := "(LTimberList;[J)I" } : Jvm.MethodName) method_15_code (3 : Nat) (Option.some Jvm.ClassFile.FieldType.int) [((0 : Nat), (8 : Nat), (11 : Nat), (15 : Nat))]) ∈ lw_all := lw_g (lw_at lw_m7 125 rfl) rfl
theorem q1612 : (Jvm.Cond.methodLink "TimberListLaw" (59 : Nat) ({ cls := "TimberList", name := "undo", desc := "()I" } : Jvm.MethodName)) ∈ lw_all := lw_g (lw_at lw_m7 126 rfl) rfl
theorem q1669 : (Jvm.Cond.methodLink "TimberListLaw" (141 : Nat) ({ cls := "TimberListLaw", name := "left", desc := "(LTimberList;I[J)I" } : Jvm.MethodName)) ∈ lw_all := lw_g (lw_at lw_m7 183 rfl) rfl
theorem q1670 : (Jvm.Cond.static ({ cls := "TimberListLaw", name := "left", desc := "(LTimberList;I[J)I" } : Jvm.MethodName)) ∈ lw_all := lw_g (lw_at lw_m7 184 rfl) rfl
theorem q1671 : (Jvm.Cond.codeWith ({ cls := "TimberListLaw", name := "left", desc := "(LTimberList;I[J)I" } : Jvm.MethodName) method_16_code (4 : Nat) (Option.some Jvm.ClassFile.FieldType.int) [((0 : Nat), (9 : Nat), (12 : Nat), (21 : Nat))]) ∈ lw_all := lw_g (lw_at lw_m7 185 rfl) rfl
theorem q1672 : (Jvm.Cond.methodLink "TimberListLaw" (63 : Nat) ({ cls := "TimberList", name := "left", desc := "(I)I" } : Jvm.MethodName)) ∈ lw_all := lw_g (lw_at lw_m7 186 rfl) rfl
theorem q1676 : (Jvm.Cond.methodLink "TimberListLaw" (144 : Nat) ({ cls := "TimberListLaw", name := "pieces", desc := "(LTimberList;I[J)I" } : Jvm.MethodName)) ∈ lw_all := lw_g (lw_at lw_m7 190 rfl) rfl
theorem q1677 : (Jvm.Cond.static ({ cls := "TimberListLaw", name := "pieces", desc := "(LTimberList;I[J)I" } : Jvm.MethodName)) ∈ lw_all := lw_g (lw_at lw_m7 191 rfl) rfl
theorem q1678 : (Jvm.Cond.codeWith ({ cls := "TimberListLaw", name := "pieces", desc := "(LTimberList;I[J)I" } : Jvm.MethodName) method_17_code (4 : Nat) (Option.some Jvm.ClassFile.FieldType.int) [((0 : Nat), (9 : Nat), (12 : Nat), (21 : Nat))]) ∈ lw_all := lw_g (lw_at lw_m7 192 rfl) rfl
theorem q1679 : (Jvm.Cond.methodLink "TimberListLaw" (66 : Nat) ({ cls := "TimberList", name := "pieces", desc := "(I)I" } : Jvm.MethodName)) ∈ lw_all := lw_g (lw_at lw_m7 193 rfl) rfl
theorem q1683 : (Jvm.Cond.methodLink "TimberListLaw" (147 : Nat) ({ cls := "TimberListLaw", name := "piece", desc := "(LTimberList;III[J)I" } : Jvm.MethodName)) ∈ lw_all := lw_g (lw_at lw_m7 197 rfl) rfl
theorem q1684 : (Jvm.Cond.static ({ cls := "TimberListLaw", name := "piece", desc := "(LTimberList;III[J)I" } : Jvm.MethodName)) ∈ lw_all := lw_g (lw_at lw_m7 198 rfl) rfl
theorem q1685 : (Jvm.Cond.codeWith ({ cls := "TimberListLaw", name := "piece", desc := "(LTimberList;III[J)I" } : Jvm.MethodName) method_18_code (6 : Nat) (Option.some Jvm.ClassFile.FieldType.int) [((0 : Nat), (12 : Nat), (15 : Nat), (21 : Nat))]) ∈ lw_all := lw_g (lw_at lw_m7 199 rfl) rfl
theorem q1686 : (Jvm.Cond.methodLink "TimberListLaw" (69 : Nat) ({ cls := "TimberList", name := "piece", desc := "(III)I" } : Jvm.MethodName)) ∈ lw_all := lw_g (lw_at lw_m7 200 rfl) rfl
theorem q1690 : (Jvm.Cond.methodLink "TimberListLaw" (150 : Nat) ({ cls := "TimberListLaw", name := "cuts", desc := "(LTimberList;I[J)I" } : Jvm.MethodName)) ∈ lw_all := lw_g (lw_at lw_m7 204 rfl) rfl
theorem q1691 : (Jvm.Cond.static ({ cls := "TimberListLaw", name := "cuts", desc := "(LTimberList;I[J)I" } : Jvm.MethodName)) ∈ lw_all := lw_g (lw_at lw_m7 205 rfl) rfl
theorem q1692 : (Jvm.Cond.codeWith ({ cls := "TimberListLaw", name := "cuts", desc := "(LTimberList;I[J)I" } : Jvm.MethodName) method_19_code (4 : Nat) (Option.some Jvm.ClassFile.FieldType.int) [((0 : Nat), (9 : Nat), (12 : Nat), (21 : Nat))]) ∈ lw_all := lw_g (lw_at lw_m7 206 rfl) rfl
theorem q1693 : (Jvm.Cond.methodLink "TimberListLaw" (72 : Nat) ({ cls := "TimberList", name := "cuts", desc := "(I)I" } : Jvm.MethodName)) ∈ lw_all := lw_g (lw_at lw_m7 207 rfl) rfl
theorem q1701 : (Jvm.Cond.methodLink "TimberListLaw" (153 : Nat) ({ cls := "TimberListLaw", name := "longestRoom", desc := "(LTimberList;I[J)I" } : Jvm.MethodName)) ∈ lw_all := lw_g (lw_at lw_m7 215 rfl) rfl
theorem q1702 : (Jvm.Cond.static ({ cls := "TimberListLaw", name := "longestRoom", desc := "(LTimberList;I[J)I" } : Jvm.MethodName)) ∈ lw_all := lw_g (lw_at lw_m7 216 rfl) rfl
theorem q1703 : (Jvm.Cond.codeWith ({ cls := "TimberListLaw", name := "longestRoom", desc := "(LTimberList;I[J)I" } : Jvm.MethodName) method_20_code (4 : Nat) (Option.some Jvm.ClassFile.FieldType.int) [((0 : Nat), (9 : Nat), (12 : Nat), (21 : Nat))]) ∈ lw_all := lw_g (lw_at lw_m7 217 rfl) rfl
theorem q1704 : (Jvm.Cond.methodLink "TimberListLaw" (75 : Nat) ({ cls := "TimberList", name := "longestRoom", desc := "(I)I" } : Jvm.MethodName)) ∈ lw_all := lw_g (lw_at lw_m7 218 rfl) rfl
theorem q1712 : (Jvm.Cond.methodLink "TimberListLaw" (156 : Nat) ({ cls := "TimberListLaw", name := "bestUse", desc := "(LTimberList;III[J)I" } : Jvm.MethodName)) ∈ lw_all := lw_g (lw_at lw_m7 226 rfl) rfl
theorem q1713 : (Jvm.Cond.static ({ cls := "TimberListLaw", name := "bestUse", desc := "(LTimberList;III[J)I" } : Jvm.MethodName)) ∈ lw_all := lw_g (lw_at lw_m7 227 rfl) rfl
theorem q1714 : (Jvm.Cond.codeWith ({ cls := "TimberListLaw", name := "bestUse", desc := "(LTimberList;III[J)I" } : Jvm.MethodName) method_21_code (6 : Nat) (Option.some Jvm.ClassFile.FieldType.int) [((0 : Nat), (12 : Nat), (15 : Nat), (21 : Nat)), ((0 : Nat), (12 : Nat), (19 : Nat), (13 : Nat))]) ∈ lw_all := lw_g (lw_at lw_m7 228 rfl) rfl
theorem q1715 : (Jvm.Cond.methodLink "TimberListLaw" (78 : Nat) ({ cls := "TimberList", name := "bestUse", desc := "(III)I" } : Jvm.MethodName)) ∈ lw_all := lw_g (lw_at lw_m7 229 rfl) rfl
theorem q1721 : (Jvm.Cond.classLink "TimberListLaw" (82 : Nat) "TimberListModel") ∈ lw_all := lw_g (lw_at lw_m7 235 rfl) rfl
theorem q1723 : (Jvm.Cond.methodLink "TimberListLaw" (84 : Nat) ({ cls := "TimberListModel", name := "<init>", desc := "()V" } : Jvm.MethodName)) ∈ lw_all := lw_g (lw_at lw_m7 237 rfl) rfl
theorem q1774 : (Jvm.Cond.methodLink "TimberListLaw" (91 : Nat) ({ cls := "TimberListModel", name := "thrown", desc := "()I" } : Jvm.MethodName)) ∈ lw_all := lw_g (lw_at lw_m8 48 rfl) rfl
theorem q1778 : (Jvm.Cond.methodLink "TimberListLaw" (90 : Nat) ({ cls := "TimberListModel", name := "addBoard", desc := "(III)I" } : Jvm.MethodName)) ∈ lw_all := lw_g (lw_at lw_m8 52 rfl) rfl
theorem q1789 : (Jvm.Cond.methodLink "TimberListLaw" (97 : Nat) ({ cls := "TimberListModel", name := "addDefect", desc := "(IIII)I" } : Jvm.MethodName)) ∈ lw_all := lw_g (lw_at lw_m8 63 rfl) rfl
theorem q1821 : (Jvm.Cond.methodLink "TimberListLaw" (101 : Nat) ({ cls := "TimberListModel", name := "addPart", desc := "(IIIIZ)I" } : Jvm.MethodName)) ∈ lw_all := lw_g (lw_at lw_m8 95 rfl) rfl
theorem q1825 : (Jvm.Cond.methodLink "TimberListLaw" (105 : Nat) ({ cls := "TimberListModel", name := "setSaw", desc := "(I)I" } : Jvm.MethodName)) ∈ lw_all := lw_g (lw_at lw_m8 99 rfl) rfl
theorem q1829 : (Jvm.Cond.methodLink "TimberListLaw" (108 : Nat) ({ cls := "TimberListModel", name := "setJoint", desc := "(I)I" } : Jvm.MethodName)) ∈ lw_all := lw_g (lw_at lw_m8 103 rfl) rfl
theorem q1833 : (Jvm.Cond.methodLink "TimberListLaw" (112 : Nat) ({ cls := "TimberListModel", name := "grade", desc := "(II)I" } : Jvm.MethodName)) ∈ lw_all := lw_g (lw_at lw_m8 107 rfl) rfl
theorem q1842 : (Jvm.Cond.methodLink "TimberListLaw" (115 : Nat) ({ cls := "TimberListModel", name := "stretches", desc := "(II)I" } : Jvm.MethodName)) ∈ lw_all := lw_g (lw_at lw_m8 116 rfl) rfl
theorem q1855 : (Jvm.Cond.methodLink "TimberListLaw" (119 : Nat) ({ cls := "TimberListModel", name := "stretch", desc := "(IIIZ)I" } : Jvm.MethodName)) ∈ lw_all := lw_g (lw_at lw_m8 129 rfl) rfl
theorem q1859 : (Jvm.Cond.methodLink "TimberListLaw" (122 : Nat) ({ cls := "TimberListModel", name := "fits", desc := "(III)Z" } : Jvm.MethodName)) ∈ lw_all := lw_g (lw_at lw_m8 133 rfl) rfl
theorem q1879 : (Jvm.Cond.methodLink "TimberListLaw" (125 : Nat) ({ cls := "TimberListModel", name := "earliest", desc := "(II)I" } : Jvm.MethodName)) ∈ lw_all := lw_g (lw_at lw_m8 153 rfl) rfl
theorem q1887 : (Jvm.Cond.methodLink "TimberListLaw" (128 : Nat) ({ cls := "TimberListModel", name := "cut", desc := "(III)I" } : Jvm.MethodName)) ∈ lw_all := lw_g (lw_at lw_m8 161 rfl) rfl
theorem q1899 : (Jvm.Cond.methodLink "TimberListLaw" (132 : Nat) ({ cls := "TimberListModel", name := "join", desc := "(IIIIII)I" } : Jvm.MethodName)) ∈ lw_all := lw_g (lw_at lw_m8 173 rfl) rfl
theorem q1903 : (Jvm.Cond.methodLink "TimberListLaw" (136 : Nat) ({ cls := "TimberListModel", name := "undo", desc := "()I" } : Jvm.MethodName)) ∈ lw_all := lw_g (lw_at lw_m8 177 rfl) rfl
theorem q1907 : (Jvm.Cond.methodLink "TimberListLaw" (140 : Nat) ({ cls := "TimberListModel", name := "plan", desc := "()I" } : Jvm.MethodName)) ∈ lw_all := lw_g (lw_at lw_m8 181 rfl) rfl
theorem q1927 : (Jvm.Cond.methodLink "TimberListLaw" (143 : Nat) ({ cls := "TimberListModel", name := "left", desc := "(I)I" } : Jvm.MethodName)) ∈ lw_all := lw_g (lw_at lw_m8 201 rfl) rfl
theorem q1931 : (Jvm.Cond.methodLink "TimberListLaw" (146 : Nat) ({ cls := "TimberListModel", name := "pieces", desc := "(I)I" } : Jvm.MethodName)) ∈ lw_all := lw_g (lw_at lw_m8 205 rfl) rfl
theorem q1939 : (Jvm.Cond.methodLink "TimberListLaw" (149 : Nat) ({ cls := "TimberListModel", name := "piece", desc := "(III)I" } : Jvm.MethodName)) ∈ lw_all := lw_g (lw_at lw_m8 213 rfl) rfl
theorem q1951 : (Jvm.Cond.methodLink "TimberListLaw" (152 : Nat) ({ cls := "TimberListModel", name := "cuts", desc := "(I)I" } : Jvm.MethodName)) ∈ lw_all := lw_g (lw_at lw_m8 225 rfl) rfl
theorem q1955 : (Jvm.Cond.methodLink "TimberListLaw" (155 : Nat) ({ cls := "TimberListModel", name := "longestRoom", desc := "(I)I" } : Jvm.MethodName)) ∈ lw_all := lw_g (lw_at lw_m8 229 rfl) rfl
theorem q1959 : (Jvm.Cond.methodLink "TimberListLaw" (158 : Nat) ({ cls := "TimberListModel", name := "bestUse", desc := "(III)I" } : Jvm.MethodName)) ∈ lw_all := lw_g (lw_at lw_m8 233 rfl) rfl
theorem q1963 : (Jvm.Cond.methodLink "TimberListLaw" (163 : Nat) ({ cls := "TimberListModel", name := "used", desc := "()D" } : Jvm.MethodName)) ∈ lw_all := lw_g (lw_at lw_m8 237 rfl) rfl
theorem q1967 : (Jvm.Cond.methodLink "TimberListLaw" (168 : Nat) ({ cls := "TimberListModel", name := "digest", desc := "()J" } : Jvm.MethodName)) ∈ lw_all := lw_g (lw_at lw_m9 1 rfl) rfl

/-! the law's own entry -/
set_option maxRecDepth 100000
abbrev cL_law : ByteArray := code
def dkwL_law_67 : List UInt8 := [167, 249, 171, 4, 172]
abbrev dktL_law_67 : List UInt8 := dkwL_law_67 ++ []
def dkwL_law_66 : List UInt8 := [3, 172, 167, 0, 17, 43, 182, 0, 164, 44, 182, 0, 168, 148, 153, 0, 5, 3, 172, 132, 4, 7]
abbrev dktL_law_66 : List UInt8 := dkwL_law_66 ++ dktL_law_67
def dkwL_law_65 : List UInt8 := [24, 5, 24, 7, 151, 153, 0, 21, 24, 5, 24, 5, 151, 153, 0, 11, 24, 7, 24, 7, 151, 154, 0, 5]
abbrev dktL_law_65 : List UInt8 := dkwL_law_65 ++ dktL_law_66
def dkwL_law_64 : List UInt8 := [21, 6, 133, 148, 153, 0, 5, 3, 172, 167, 0, 58, 43, 182, 0, 159, 57, 5, 44, 182, 0, 163, 57, 7]
abbrev dktL_law_64 : List UInt8 := dkwL_law_64 ++ dktL_law_65
def dkwL_law_63 : List UInt8 := [182, 0, 158, 54, 6, 44, 182, 0, 91, 21, 5, 159, 0, 5, 3, 172, 21, 5, 154, 0, 15, 45, 3, 47]
abbrev dktL_law_63 : List UInt8 := dkwL_law_63 ++ dktL_law_64
def dkwL_law_62 : List UInt8 := [184, 0, 156, 54, 5, 44, 42, 21, 4, 4, 96, 46, 42, 21, 4, 5, 96, 46, 42, 21, 4, 6, 96, 46]
abbrev dktL_law_62 : List UInt8 := dkwL_law_62 ++ dktL_law_63
def dkwL_law_61 : List UInt8 := [167, 0, 138, 43, 42, 21, 4, 4, 96, 46, 42, 21, 4, 5, 96, 46, 42, 21, 4, 6, 96, 46, 45]
abbrev dktL_law_61 : List UInt8 := dkwL_law_61 ++ dktL_law_62
def dkwL_law_60 : List UInt8 := [21, 5, 159, 0, 5, 3, 172, 21, 5, 154, 0, 15, 45, 3, 47, 21, 6, 133, 148, 153, 0, 5, 3, 172]
abbrev dktL_law_60 : List UInt8 := dkwL_law_60 ++ dktL_law_61
def dkwL_law_59 : List UInt8 := [46, 45, 184, 0, 153, 54, 5, 44, 42, 21, 4, 4, 96, 46, 182, 0, 155, 54, 6, 44, 182, 0, 91]
abbrev dktL_law_59 : List UInt8 := dkwL_law_59 ++ dktL_law_60
def dkwL_law_58 : List UInt8 := [154, 0, 15, 45, 3, 47, 21, 6, 133, 148, 153, 0, 5, 3, 172, 167, 0, 194, 43, 42, 21, 4, 4, 96]
abbrev dktL_law_58 : List UInt8 := dkwL_law_58 ++ dktL_law_59
def dkwL_law_57 : List UInt8 := [21, 4, 4, 96, 46, 182, 0, 152, 54, 6, 44, 182, 0, 91, 21, 5, 159, 0, 5, 3, 172, 21, 5]
abbrev dktL_law_57 : List UInt8 := dkwL_law_57 ++ dktL_law_58
def dkwL_law_56 : List UInt8 := [153, 0, 5, 3, 172, 167, 0, 250, 43, 42, 21, 4, 4, 96, 46, 45, 184, 0, 150, 54, 5, 44, 42]
abbrev dktL_law_56 : List UInt8 := dkwL_law_56 ++ dktL_law_57
def dkwL_law_55 : List UInt8 := [182, 0, 91, 21, 5, 159, 0, 5, 3, 172, 21, 5, 154, 0, 15, 45, 3, 47, 21, 6, 133, 148]
abbrev dktL_law_55 : List UInt8 := dkwL_law_55 ++ dktL_law_56
def dkwL_law_54 : List UInt8 := [42, 21, 4, 4, 96, 46, 42, 21, 4, 5, 96, 46, 42, 21, 4, 6, 96, 46, 182, 0, 149, 54, 6, 44]
abbrev dktL_law_54 : List UInt8 := dkwL_law_54 ++ dktL_law_55
def dkwL_law_53 : List UInt8 := [21, 4, 4, 96, 46, 42, 21, 4, 5, 96, 46, 42, 21, 4, 6, 96, 46, 45, 184, 0, 147, 54, 5, 44]
abbrev dktL_law_53 : List UInt8 := dkwL_law_53 ++ dktL_law_54
def dkwL_law_52 : List UInt8 := [172, 21, 5, 154, 0, 15, 45, 3, 47, 21, 6, 133, 148, 153, 0, 5, 3, 172, 167, 1, 74, 43, 42]
abbrev dktL_law_52 : List UInt8 := dkwL_law_52 ++ dktL_law_53
def dkwL_law_51 : List UInt8 := [54, 5, 44, 42, 21, 4, 4, 96, 46, 182, 0, 146, 54, 6, 44, 182, 0, 91, 21, 5, 159, 0, 5, 3]
abbrev dktL_law_51 : List UInt8 := dkwL_law_51 ++ dktL_law_52
def dkwL_law_50 : List UInt8 := [47, 21, 6, 133, 148, 153, 0, 5, 3, 172, 167, 1, 130, 43, 42, 21, 4, 4, 96, 46, 45, 184, 0, 144]
abbrev dktL_law_50 : List UInt8 := dkwL_law_50 ++ dktL_law_51
def dkwL_law_49 : List UInt8 := [46, 182, 0, 143, 54, 6, 44, 182, 0, 91, 21, 5, 159, 0, 5, 3, 172, 21, 5, 154, 0, 15, 45, 3]
abbrev dktL_law_49 : List UInt8 := dkwL_law_49 ++ dktL_law_50
def dkwL_law_48 : List UInt8 := [159, 1, 188, 3, 172, 43, 42, 21, 4, 4, 96, 46, 45, 184, 0, 141, 54, 5, 44, 42, 21, 4, 4, 96]
abbrev dktL_law_48 : List UInt8 := dkwL_law_48 ++ dktL_law_49
def dkwL_law_47 : List UInt8 := [45, 3, 47, 21, 6, 133, 148, 153, 0, 5, 3, 172, 167, 1, 199, 43, 182, 0, 137, 44, 182, 0, 140]
abbrev dktL_law_47 : List UInt8 := dkwL_law_47 ++ dktL_law_48
def dkwL_law_46 : List UInt8 := [54, 5, 44, 182, 0, 136, 54, 6, 44, 182, 0, 91, 21, 5, 159, 0, 5, 3, 172, 21, 5, 154, 0, 15]
abbrev dktL_law_46 : List UInt8 := dkwL_law_46 ++ dktL_law_47
def dkwL_law_45 : List UInt8 := [154, 0, 15, 45, 3, 47, 21, 6, 133, 148, 153, 0, 5, 3, 172, 167, 1, 243, 43, 45, 184, 0, 133]
abbrev dktL_law_45 : List UInt8 := dkwL_law_45 ++ dktL_law_46
def dkwL_law_44 : List UInt8 := [16, 6, 96, 46, 182, 0, 132, 54, 6, 44, 182, 0, 91, 21, 5, 159, 0, 5, 3, 172, 21, 5]
abbrev dktL_law_44 : List UInt8 := dkwL_law_44 ++ dktL_law_45
def dkwL_law_43 : List UInt8 := [5, 96, 46, 42, 21, 4, 6, 96, 46, 42, 21, 4, 7, 96, 46, 42, 21, 4, 8, 96, 46, 42, 21, 4]
abbrev dktL_law_43 : List UInt8 := dkwL_law_43 ++ dktL_law_44
def dkwL_law_42 : List UInt8 := [46, 42, 21, 4, 16, 6, 96, 46, 45, 184, 0, 129, 54, 5, 44, 42, 21, 4, 4, 96, 46, 42, 21, 4]
abbrev dktL_law_42 : List UInt8 := dkwL_law_42 ++ dktL_law_43
def dkwL_law_41 : List UInt8 := [46, 42, 21, 4, 5, 96, 46, 42, 21, 4, 6, 96, 46, 42, 21, 4, 7, 96, 46, 42, 21, 4, 8, 96]
abbrev dktL_law_41 : List UInt8 := dkwL_law_41 ++ dktL_law_42
def dkwL_law_40 : List UInt8 := [154, 0, 15, 45, 3, 47, 21, 6, 133, 148, 153, 0, 5, 3, 172, 167, 2, 105, 43, 42, 21, 4, 4, 96]
abbrev dktL_law_40 : List UInt8 := dkwL_law_40 ++ dktL_law_41
def dkwL_law_39 : List UInt8 := [21, 4, 6, 96, 46, 182, 0, 128, 54, 6, 44, 182, 0, 91, 21, 5, 159, 0, 5, 3, 172, 21, 5]
abbrev dktL_law_39 : List UInt8 := dkwL_law_39 ++ dktL_law_40
def dkwL_law_38 : List UInt8 := [6, 96, 46, 45, 184, 0, 126, 54, 5, 44, 42, 21, 4, 4, 96, 46, 42, 21, 4, 5, 96, 46, 42]
abbrev dktL_law_38 : List UInt8 := dkwL_law_38 ++ dktL_law_39
def dkwL_law_37 : List UInt8 := [153, 0, 5, 3, 172, 167, 2, 185, 43, 42, 21, 4, 4, 96, 46, 42, 21, 4, 5, 96, 46, 42, 21, 4]
abbrev dktL_law_37 : List UInt8 := dkwL_law_37 ++ dktL_law_38
def dkwL_law_36 : List UInt8 := [182, 0, 91, 21, 5, 159, 0, 5, 3, 172, 21, 5, 154, 0, 15, 45, 3, 47, 21, 6, 133, 148]
abbrev dktL_law_36 : List UInt8 := dkwL_law_36 ++ dktL_law_37
def dkwL_law_35 : List UInt8 := [184, 0, 123, 54, 5, 44, 42, 21, 4, 4, 96, 46, 42, 21, 4, 5, 96, 46, 182, 0, 125, 54, 6, 44]
abbrev dktL_law_35 : List UInt8 := dkwL_law_35 ++ dktL_law_36
def dkwL_law_34 : List UInt8 := [9, 148, 153, 0, 5, 3, 172, 167, 2, 253, 43, 42, 21, 4, 4, 96, 46, 42, 21, 4, 5, 96, 46, 45]
abbrev dktL_law_34 : List UInt8 := dkwL_law_34 ++ dktL_law_35
def dkwL_law_33 : List UInt8 := [21, 5, 159, 0, 5, 3, 172, 21, 5, 154, 0, 22, 45, 3, 47, 21, 6, 153, 0, 7, 10, 167, 0, 4]
abbrev dktL_law_33 : List UInt8 := dkwL_law_33 ++ dktL_law_34
def dkwL_law_32 : List UInt8 := [96, 46, 42, 21, 4, 5, 96, 46, 42, 21, 4, 6, 96, 46, 182, 0, 122, 54, 6, 44, 182, 0, 91]
abbrev dktL_law_32 : List UInt8 := dkwL_law_32 ++ dktL_law_33
def dkwL_law_31 : List UInt8 := [46, 42, 21, 4, 5, 96, 46, 42, 21, 4, 6, 96, 46, 45, 184, 0, 120, 54, 5, 44, 42, 21, 4, 4]
abbrev dktL_law_31 : List UInt8 := dkwL_law_31 ++ dktL_law_32
def dkwL_law_30 : List UInt8 := [154, 0, 15, 45, 3, 47, 21, 6, 133, 148, 153, 0, 5, 3, 172, 167, 3, 84, 43, 42, 21, 4, 4, 96]
abbrev dktL_law_30 : List UInt8 := dkwL_law_30 ++ dktL_law_31
def dkwL_law_29 : List UInt8 := [167, 0, 4, 3, 182, 0, 119, 54, 6, 44, 182, 0, 91, 21, 5, 159, 0, 5, 3, 172, 21, 5]
abbrev dktL_law_29 : List UInt8 := dkwL_law_29 ++ dktL_law_30
def dkwL_law_28 : List UInt8 := [96, 46, 42, 21, 4, 5, 96, 46, 42, 21, 4, 6, 96, 46, 42, 21, 4, 7, 96, 46, 153, 0, 7, 4]
abbrev dktL_law_28 : List UInt8 := dkwL_law_28 ++ dktL_law_29
def dkwL_law_27 : List UInt8 := [21, 4, 7, 96, 46, 153, 0, 7, 4, 167, 0, 4, 3, 45, 184, 0, 116, 54, 5, 44, 42, 21, 4, 4]
abbrev dktL_law_27 : List UInt8 := dkwL_law_27 ++ dktL_law_28
def dkwL_law_26 : List UInt8 := [167, 3, 192, 43, 42, 21, 4, 4, 96, 46, 42, 21, 4, 5, 96, 46, 42, 21, 4, 6, 96, 46, 42]
abbrev dktL_law_26 : List UInt8 := dkwL_law_26 ++ dktL_law_27
def dkwL_law_25 : List UInt8 := [159, 0, 5, 3, 172, 21, 5, 154, 0, 15, 45, 3, 47, 21, 6, 133, 148, 153, 0, 5, 3, 172]
abbrev dktL_law_25 : List UInt8 := dkwL_law_25 ++ dktL_law_26
def dkwL_law_24 : List UInt8 := [21, 4, 4, 96, 46, 42, 21, 4, 5, 96, 46, 182, 0, 115, 54, 6, 44, 182, 0, 91, 21, 5]
abbrev dktL_law_24 : List UInt8 := dkwL_law_24 ++ dktL_law_25
def dkwL_law_23 : List UInt8 := [167, 4, 4, 43, 42, 21, 4, 4, 96, 46, 42, 21, 4, 5, 96, 46, 45, 184, 0, 113, 54, 5, 44, 42]
abbrev dktL_law_23 : List UInt8 := dkwL_law_23 ++ dktL_law_24
def dkwL_law_22 : List UInt8 := [159, 0, 5, 3, 172, 21, 5, 154, 0, 15, 45, 3, 47, 21, 6, 133, 148, 153, 0, 5, 3, 172]
abbrev dktL_law_22 : List UInt8 := dkwL_law_22 ++ dktL_law_23
def dkwL_law_21 : List UInt8 := [21, 4, 4, 96, 46, 42, 21, 4, 5, 96, 46, 182, 0, 112, 54, 6, 44, 182, 0, 91, 21, 5]
abbrev dktL_law_21 : List UInt8 := dkwL_law_21 ++ dktL_law_22
def dkwL_law_20 : List UInt8 := [167, 4, 72, 43, 42, 21, 4, 4, 96, 46, 42, 21, 4, 5, 96, 46, 45, 184, 0, 109, 54, 5, 44, 42]
abbrev dktL_law_20 : List UInt8 := dkwL_law_20 ++ dktL_law_21
def dkwL_law_19 : List UInt8 := [21, 5, 159, 0, 5, 3, 172, 21, 5, 154, 0, 15, 45, 3, 47, 21, 6, 133, 148, 153, 0, 5, 3, 172]
abbrev dktL_law_19 : List UInt8 := dkwL_law_19 ++ dktL_law_20
def dkwL_law_18 : List UInt8 := [46, 45, 184, 0, 106, 54, 5, 44, 42, 21, 4, 4, 96, 46, 182, 0, 108, 54, 6, 44, 182, 0, 91]
abbrev dktL_law_18 : List UInt8 := dkwL_law_18 ++ dktL_law_19
def dkwL_law_17 : List UInt8 := [154, 0, 15, 45, 3, 47, 21, 6, 133, 148, 153, 0, 5, 3, 172, 167, 4, 128, 43, 42, 21, 4, 4, 96]
abbrev dktL_law_17 : List UInt8 := dkwL_law_17 ++ dktL_law_18
def dkwL_law_16 : List UInt8 := [21, 4, 4, 96, 46, 182, 0, 105, 54, 6, 44, 182, 0, 91, 21, 5, 159, 0, 5, 3, 172, 21, 5]
abbrev dktL_law_16 : List UInt8 := dkwL_law_16 ++ dktL_law_17
def dkwL_law_15 : List UInt8 := [148, 153, 0, 5, 3, 172, 167, 4, 184, 43, 42, 21, 4, 4, 96, 46, 45, 184, 0, 102, 54, 5, 44, 42]
abbrev dktL_law_15 : List UInt8 := dkwL_law_15 ++ dktL_law_16
def dkwL_law_14 : List UInt8 := [54, 6, 44, 182, 0, 91, 21, 5, 159, 0, 5, 3, 172, 21, 5, 154, 0, 15, 45, 3, 47, 21, 6, 133]
abbrev dktL_law_14 : List UInt8 := dkwL_law_14 ++ dktL_law_15
def dkwL_law_13 : List UInt8 := [42, 21, 4, 7, 96, 46, 42, 21, 4, 8, 96, 46, 153, 0, 7, 4, 167, 0, 4, 3, 182, 0, 101]
abbrev dktL_law_13 : List UInt8 := dkwL_law_13 ++ dktL_law_14
def dkwL_law_12 : List UInt8 := [184, 0, 98, 54, 5, 44, 42, 21, 4, 4, 96, 46, 42, 21, 4, 5, 96, 46, 42, 21, 4, 6, 96, 46]
abbrev dktL_law_12 : List UInt8 := dkwL_law_12 ++ dktL_law_13
def dkwL_law_11 : List UInt8 := [6, 96, 46, 42, 21, 4, 7, 96, 46, 42, 21, 4, 8, 96, 46, 153, 0, 7, 4, 167, 0, 4, 3, 45]
abbrev dktL_law_11 : List UInt8 := dkwL_law_11 ++ dktL_law_12
def dkwL_law_10 : List UInt8 := [153, 0, 5, 3, 172, 167, 5, 48, 43, 42, 21, 4, 4, 96, 46, 42, 21, 4, 5, 96, 46, 42, 21, 4]
abbrev dktL_law_10 : List UInt8 := dkwL_law_10 ++ dktL_law_11
def dkwL_law_9 : List UInt8 := [182, 0, 91, 21, 5, 159, 0, 5, 3, 172, 21, 5, 154, 0, 15, 45, 3, 47, 21, 6, 133, 148]
abbrev dktL_law_9 : List UInt8 := dkwL_law_9 ++ dktL_law_10
def dkwL_law_8 : List UInt8 := [42, 21, 4, 5, 96, 46, 42, 21, 4, 6, 96, 46, 42, 21, 4, 7, 96, 46, 182, 0, 97, 54, 6, 44]
abbrev dktL_law_8 : List UInt8 := dkwL_law_8 ++ dktL_law_9
def dkwL_law_7 : List UInt8 := [21, 4, 6, 96, 46, 42, 21, 4, 7, 96, 46, 45, 184, 0, 94, 54, 5, 44, 42, 21, 4, 4, 96, 46]
abbrev dktL_law_7 : List UInt8 := dkwL_law_7 ++ dktL_law_8
def dkwL_law_6 : List UInt8 := [148, 153, 0, 5, 3, 172, 167, 5, 140, 43, 42, 21, 4, 4, 96, 46, 42, 21, 4, 5, 96, 46, 42]
abbrev dktL_law_6 : List UInt8 := dkwL_law_6 ++ dktL_law_7
def dkwL_law_5 : List UInt8 := [54, 6, 44, 182, 0, 91, 21, 5, 159, 0, 5, 3, 172, 21, 5, 154, 0, 15, 45, 3, 47, 21, 6, 133]
abbrev dktL_law_5 : List UInt8 := dkwL_law_5 ++ dktL_law_6
def dkwL_law_4 : List UInt8 := [54, 5, 44, 42, 21, 4, 4, 96, 46, 42, 21, 4, 5, 96, 46, 42, 21, 4, 6, 96, 46, 182, 0, 90]
abbrev dktL_law_4 : List UInt8 := dkwL_law_4 ++ dktL_law_5
def dkwL_law_3 : List UInt8 := [43, 42, 21, 4, 4, 96, 46, 42, 21, 4, 5, 96, 46, 42, 21, 4, 6, 96, 46, 45, 184, 0, 85]
abbrev dktL_law_3 : List UInt8 := dkwL_law_3 ++ dktL_law_4
def dkwL_law_2 : List UInt8 := [170, 0, 0, 0, 0, 0, 6, 65, 0, 0, 0, 0, 0, 0, 0, 21, 0, 0, 0, 104, 0, 0, 0, 184, 0, 0, 1, 20, 0, 0, 1, 140, 0, 0, 1, 196, 0, 0, 1, 252, 0, 0, 2, 64, 0, 0, 2, 132, 0, 0, 2, 240, 0, 0, 3, 71, 0, 0, 3, 139, 0, 0, 3, 219, 0, 0, 4, 81, 0, 0, 4, 125, 0, 0, 4, 138, 0, 0, 4, 194, 0, 0, 4, 250, 0, 0, 5, 74, 0, 0, 5, 130, 0, 0, 5, 186, 0, 0, 6, 10, 0, 0, 6, 51]
abbrev dktL_law_2 : List UInt8 := dkwL_law_2 ++ dktL_law_3
def dkwL_law_1 : List UInt8 := [21, 4, 42, 190, 16, 7, 100, 163, 6, 81, 42, 21, 4, 46, 16, 31, 126]
abbrev dktL_law_1 : List UInt8 := dkwL_law_1 ++ dktL_law_2
def dkwL_law_0 : List UInt8 := [187, 0, 8, 89, 183, 0, 81, 76, 187, 0, 82, 89, 183, 0, 84, 77, 4, 188, 11, 78, 3, 54, 4]
abbrev dktL_law_0 : List UInt8 := dkwL_law_0 ++ dktL_law_1
theorem dksL_law_0 : cL_law.data.toList.drop 0 = dktL_law_0 := by decide +kernel
theorem dksL_law_1 : cL_law.data.toList.drop 23 = dktL_law_1 := dk_seg dksL_law_0 23 rfl rfl
theorem dksL_law_2 : cL_law.data.toList.drop 40 = dktL_law_2 := dk_seg dksL_law_1 17 rfl rfl
theorem dksL_law_3 : cL_law.data.toList.drop 144 = dktL_law_3 := dk_seg dksL_law_2 104 rfl rfl
theorem dksL_law_4 : cL_law.data.toList.drop 167 = dktL_law_4 := dk_seg dksL_law_3 23 rfl rfl
theorem dksL_law_5 : cL_law.data.toList.drop 191 = dktL_law_5 := dk_seg dksL_law_4 24 rfl rfl
theorem dksL_law_6 : cL_law.data.toList.drop 215 = dktL_law_6 := dk_seg dksL_law_5 24 rfl rfl
theorem dksL_law_7 : cL_law.data.toList.drop 238 = dktL_law_7 := dk_seg dksL_law_6 23 rfl rfl
theorem dksL_law_8 : cL_law.data.toList.drop 262 = dktL_law_8 := dk_seg dksL_law_7 24 rfl rfl
theorem dksL_law_9 : cL_law.data.toList.drop 286 = dktL_law_9 := dk_seg dksL_law_8 24 rfl rfl
theorem dksL_law_10 : cL_law.data.toList.drop 308 = dktL_law_10 := dk_seg dksL_law_9 22 rfl rfl
theorem dksL_law_11 : cL_law.data.toList.drop 332 = dktL_law_11 := dk_seg dksL_law_10 24 rfl rfl
theorem dksL_law_12 : cL_law.data.toList.drop 356 = dktL_law_12 := dk_seg dksL_law_11 24 rfl rfl
theorem dksL_law_13 : cL_law.data.toList.drop 380 = dktL_law_13 := dk_seg dksL_law_12 24 rfl rfl
theorem dksL_law_14 : cL_law.data.toList.drop 403 = dktL_law_14 := dk_seg dksL_law_13 23 rfl rfl
theorem dksL_law_15 : cL_law.data.toList.drop 427 = dktL_law_15 := dk_seg dksL_law_14 24 rfl rfl
theorem dksL_law_16 : cL_law.data.toList.drop 451 = dktL_law_16 := dk_seg dksL_law_15 24 rfl rfl
theorem dksL_law_17 : cL_law.data.toList.drop 474 = dktL_law_17 := dk_seg dksL_law_16 23 rfl rfl
theorem dksL_law_18 : cL_law.data.toList.drop 498 = dktL_law_18 := dk_seg dksL_law_17 24 rfl rfl
theorem dksL_law_19 : cL_law.data.toList.drop 521 = dktL_law_19 := dk_seg dksL_law_18 23 rfl rfl
theorem dksL_law_20 : cL_law.data.toList.drop 545 = dktL_law_20 := dk_seg dksL_law_19 24 rfl rfl
theorem dksL_law_21 : cL_law.data.toList.drop 569 = dktL_law_21 := dk_seg dksL_law_20 24 rfl rfl
theorem dksL_law_22 : cL_law.data.toList.drop 591 = dktL_law_22 := dk_seg dksL_law_21 22 rfl rfl
theorem dksL_law_23 : cL_law.data.toList.drop 613 = dktL_law_23 := dk_seg dksL_law_22 22 rfl rfl
theorem dksL_law_24 : cL_law.data.toList.drop 637 = dktL_law_24 := dk_seg dksL_law_23 24 rfl rfl
theorem dksL_law_25 : cL_law.data.toList.drop 659 = dktL_law_25 := dk_seg dksL_law_24 22 rfl rfl
theorem dksL_law_26 : cL_law.data.toList.drop 681 = dktL_law_26 := dk_seg dksL_law_25 22 rfl rfl
theorem dksL_law_27 : cL_law.data.toList.drop 704 = dktL_law_27 := dk_seg dksL_law_26 23 rfl rfl
theorem dksL_law_28 : cL_law.data.toList.drop 728 = dktL_law_28 := dk_seg dksL_law_27 24 rfl rfl
theorem dksL_law_29 : cL_law.data.toList.drop 752 = dktL_law_29 := dk_seg dksL_law_28 24 rfl rfl
theorem dksL_law_30 : cL_law.data.toList.drop 774 = dktL_law_30 := dk_seg dksL_law_29 22 rfl rfl
theorem dksL_law_31 : cL_law.data.toList.drop 798 = dktL_law_31 := dk_seg dksL_law_30 24 rfl rfl
theorem dksL_law_32 : cL_law.data.toList.drop 822 = dktL_law_32 := dk_seg dksL_law_31 24 rfl rfl
theorem dksL_law_33 : cL_law.data.toList.drop 845 = dktL_law_33 := dk_seg dksL_law_32 23 rfl rfl
theorem dksL_law_34 : cL_law.data.toList.drop 869 = dktL_law_34 := dk_seg dksL_law_33 24 rfl rfl
theorem dksL_law_35 : cL_law.data.toList.drop 893 = dktL_law_35 := dk_seg dksL_law_34 24 rfl rfl
theorem dksL_law_36 : cL_law.data.toList.drop 917 = dktL_law_36 := dk_seg dksL_law_35 24 rfl rfl
theorem dksL_law_37 : cL_law.data.toList.drop 939 = dktL_law_37 := dk_seg dksL_law_36 22 rfl rfl
theorem dksL_law_38 : cL_law.data.toList.drop 963 = dktL_law_38 := dk_seg dksL_law_37 24 rfl rfl
theorem dksL_law_39 : cL_law.data.toList.drop 986 = dktL_law_39 := dk_seg dksL_law_38 23 rfl rfl
theorem dksL_law_40 : cL_law.data.toList.drop 1009 = dktL_law_40 := dk_seg dksL_law_39 23 rfl rfl
theorem dksL_law_41 : cL_law.data.toList.drop 1033 = dktL_law_41 := dk_seg dksL_law_40 24 rfl rfl
theorem dksL_law_42 : cL_law.data.toList.drop 1057 = dktL_law_42 := dk_seg dksL_law_41 24 rfl rfl
theorem dksL_law_43 : cL_law.data.toList.drop 1081 = dktL_law_43 := dk_seg dksL_law_42 24 rfl rfl
theorem dksL_law_44 : cL_law.data.toList.drop 1105 = dktL_law_44 := dk_seg dksL_law_43 24 rfl rfl
theorem dksL_law_45 : cL_law.data.toList.drop 1127 = dktL_law_45 := dk_seg dksL_law_44 22 rfl rfl
theorem dksL_law_46 : cL_law.data.toList.drop 1150 = dktL_law_46 := dk_seg dksL_law_45 23 rfl rfl
theorem dksL_law_47 : cL_law.data.toList.drop 1174 = dktL_law_47 := dk_seg dksL_law_46 24 rfl rfl
theorem dksL_law_48 : cL_law.data.toList.drop 1197 = dktL_law_48 := dk_seg dksL_law_47 23 rfl rfl
theorem dksL_law_49 : cL_law.data.toList.drop 1221 = dktL_law_49 := dk_seg dksL_law_48 24 rfl rfl
theorem dksL_law_50 : cL_law.data.toList.drop 1245 = dktL_law_50 := dk_seg dksL_law_49 24 rfl rfl
theorem dksL_law_51 : cL_law.data.toList.drop 1269 = dktL_law_51 := dk_seg dksL_law_50 24 rfl rfl
theorem dksL_law_52 : cL_law.data.toList.drop 1293 = dktL_law_52 := dk_seg dksL_law_51 24 rfl rfl
theorem dksL_law_53 : cL_law.data.toList.drop 1316 = dktL_law_53 := dk_seg dksL_law_52 23 rfl rfl
theorem dksL_law_54 : cL_law.data.toList.drop 1340 = dktL_law_54 := dk_seg dksL_law_53 24 rfl rfl
theorem dksL_law_55 : cL_law.data.toList.drop 1364 = dktL_law_55 := dk_seg dksL_law_54 24 rfl rfl
theorem dksL_law_56 : cL_law.data.toList.drop 1386 = dktL_law_56 := dk_seg dksL_law_55 22 rfl rfl
theorem dksL_law_57 : cL_law.data.toList.drop 1409 = dktL_law_57 := dk_seg dksL_law_56 23 rfl rfl
theorem dksL_law_58 : cL_law.data.toList.drop 1432 = dktL_law_58 := dk_seg dksL_law_57 23 rfl rfl
theorem dksL_law_59 : cL_law.data.toList.drop 1456 = dktL_law_59 := dk_seg dksL_law_58 24 rfl rfl
theorem dksL_law_60 : cL_law.data.toList.drop 1479 = dktL_law_60 := dk_seg dksL_law_59 23 rfl rfl
theorem dksL_law_61 : cL_law.data.toList.drop 1503 = dktL_law_61 := dk_seg dksL_law_60 24 rfl rfl
theorem dksL_law_62 : cL_law.data.toList.drop 1526 = dktL_law_62 := dk_seg dksL_law_61 23 rfl rfl
theorem dksL_law_63 : cL_law.data.toList.drop 1550 = dktL_law_63 := dk_seg dksL_law_62 24 rfl rfl
theorem dksL_law_64 : cL_law.data.toList.drop 1574 = dktL_law_64 := dk_seg dksL_law_63 24 rfl rfl
theorem dksL_law_65 : cL_law.data.toList.drop 1598 = dktL_law_65 := dk_seg dksL_law_64 24 rfl rfl
theorem dksL_law_66 : cL_law.data.toList.drop 1622 = dktL_law_66 := dk_seg dksL_law_65 24 rfl rfl
theorem dksL_law_67 : cL_law.data.toList.drop 1644 = dktL_law_67 := dk_seg dksL_law_66 22 rfl rfl
theorem dL_law_0 : decode cL_law 0 = .ok (.new 8, 3) := dk_187 0 8 (dk_at dksL_law_0 0 rfl rfl)
theorem dL_law_3 : decode cL_law 3 = .ok (.dup, 1) := dk_89 (dk_at dksL_law_0 3 rfl rfl)
theorem dL_law_4 : decode cL_law 4 = .ok (.invokespecial 81, 3) := dk_183 0 81 (dk_at dksL_law_0 4 rfl rfl)
theorem dL_law_7 : decode cL_law 7 = .ok (.astore_n 1, 1) := dk_76 (dk_at dksL_law_0 7 rfl rfl)
theorem dL_law_8 : decode cL_law 8 = .ok (.new 82, 3) := dk_187 0 82 (dk_at dksL_law_0 8 rfl rfl)
theorem dL_law_11 : decode cL_law 11 = .ok (.dup, 1) := dk_89 (dk_at dksL_law_0 11 rfl rfl)
theorem dL_law_12 : decode cL_law 12 = .ok (.invokespecial 84, 3) := dk_183 0 84 (dk_at dksL_law_0 12 rfl rfl)
theorem dL_law_15 : decode cL_law 15 = .ok (.astore_n 2, 1) := dk_77 (dk_at dksL_law_0 15 rfl rfl)
theorem dL_law_16 : decode cL_law 16 = .ok (.iconst 1, 1) := dk_4 (dk_at dksL_law_0 16 rfl rfl)
theorem dL_law_17 : decode cL_law 17 = .ok (.newarray .long, 2) := dk_188_11 (dk_at dksL_law_0 17 rfl rfl)
theorem dL_law_19 : decode cL_law 19 = .ok (.astore_n 3, 1) := dk_78 (dk_at dksL_law_0 19 rfl rfl)
theorem dL_law_20 : decode cL_law 20 = .ok (.iconst 0, 1) := dk_3 (dk_at dksL_law_0 20 rfl rfl)
theorem dL_law_21 : decode cL_law 21 = .ok (.istore 4, 2) := dk_54 4 (dk_at dksL_law_0 21 rfl rfl)
theorem dL_law_23 : decode cL_law 23 = .ok (.iload 4, 2) := dk_21 4 (dk_at dksL_law_1 0 rfl rfl)
theorem dL_law_25 : decode cL_law 25 = .ok (.aload_n 0, 1) := dk_42 (dk_at dksL_law_1 2 rfl rfl)
theorem dL_law_26 : decode cL_law 26 = .ok (.arraylength, 1) := dk_190 (dk_at dksL_law_1 3 rfl rfl)
theorem dL_law_27 : decode cL_law 27 = .ok (.bipush 7, 2) := dk_16 7 (dk_at dksL_law_1 4 rfl rfl)
theorem dL_law_29 : decode cL_law 29 = .ok (.isub, 1) := dk_100 (dk_at dksL_law_1 6 rfl rfl)
theorem dL_law_30 : decode cL_law 30 = .ok (.if_icmp .gt 1617, 3) := dk_163 6 81 (dk_at dksL_law_1 7 rfl rfl)
theorem dL_law_33 : decode cL_law 33 = .ok (.aload_n 0, 1) := dk_42 (dk_at dksL_law_1 10 rfl rfl)
theorem dL_law_34 : decode cL_law 34 = .ok (.iload 4, 2) := dk_21 4 (dk_at dksL_law_1 11 rfl rfl)
theorem dL_law_36 : decode cL_law 36 = .ok (.iaload, 1) := dk_46 (dk_at dksL_law_1 13 rfl rfl)
theorem dL_law_37 : decode cL_law 37 = .ok (.bipush 31, 2) := dk_16 31 (dk_at dksL_law_1 14 rfl rfl)
theorem dL_law_39 : decode cL_law 39 = .ok (.iand, 1) := dk_126 (dk_at dksL_law_1 16 rfl rfl)
theorem dL_law_40 : decode cL_law 40 = .ok (.tableswitch 1601 0 21 #[104, 184, 276, 396, 452, 508, 576, 644, 752, 839, 907, 987, 1105, 1149, 1162, 1218, 1274, 1354, 1410, 1466, 1546, 1587], 104) := by decide +kernel
theorem dL_law_144 : decode cL_law 144 = .ok (.aload_n 1, 1) := dk_43 (dk_at dksL_law_3 0 rfl rfl)
theorem dL_law_145 : decode cL_law 145 = .ok (.aload_n 0, 1) := dk_42 (dk_at dksL_law_3 1 rfl rfl)
theorem dL_law_146 : decode cL_law 146 = .ok (.iload 4, 2) := dk_21 4 (dk_at dksL_law_3 2 rfl rfl)
theorem dL_law_148 : decode cL_law 148 = .ok (.iconst 1, 1) := dk_4 (dk_at dksL_law_3 4 rfl rfl)
theorem dL_law_149 : decode cL_law 149 = .ok (.iadd, 1) := dk_96 (dk_at dksL_law_3 5 rfl rfl)
theorem dL_law_150 : decode cL_law 150 = .ok (.iaload, 1) := dk_46 (dk_at dksL_law_3 6 rfl rfl)
theorem dL_law_151 : decode cL_law 151 = .ok (.aload_n 0, 1) := dk_42 (dk_at dksL_law_3 7 rfl rfl)
theorem dL_law_152 : decode cL_law 152 = .ok (.iload 4, 2) := dk_21 4 (dk_at dksL_law_3 8 rfl rfl)
theorem dL_law_154 : decode cL_law 154 = .ok (.iconst 2, 1) := dk_5 (dk_at dksL_law_3 10 rfl rfl)
theorem dL_law_155 : decode cL_law 155 = .ok (.iadd, 1) := dk_96 (dk_at dksL_law_3 11 rfl rfl)
theorem dL_law_156 : decode cL_law 156 = .ok (.iaload, 1) := dk_46 (dk_at dksL_law_3 12 rfl rfl)
theorem dL_law_157 : decode cL_law 157 = .ok (.aload_n 0, 1) := dk_42 (dk_at dksL_law_3 13 rfl rfl)
theorem dL_law_158 : decode cL_law 158 = .ok (.iload 4, 2) := dk_21 4 (dk_at dksL_law_3 14 rfl rfl)
theorem dL_law_160 : decode cL_law 160 = .ok (.iconst 3, 1) := dk_6 (dk_at dksL_law_3 16 rfl rfl)
theorem dL_law_161 : decode cL_law 161 = .ok (.iadd, 1) := dk_96 (dk_at dksL_law_3 17 rfl rfl)
theorem dL_law_162 : decode cL_law 162 = .ok (.iaload, 1) := dk_46 (dk_at dksL_law_3 18 rfl rfl)
theorem dL_law_163 : decode cL_law 163 = .ok (.aload_n 3, 1) := dk_45 (dk_at dksL_law_3 19 rfl rfl)
theorem dL_law_164 : decode cL_law 164 = .ok (.invokestatic 85, 3) := dk_184 0 85 (dk_at dksL_law_3 20 rfl rfl)
theorem dL_law_167 : decode cL_law 167 = .ok (.istore 5, 2) := dk_54 5 (dk_at dksL_law_4 0 rfl rfl)
theorem dL_law_169 : decode cL_law 169 = .ok (.aload_n 2, 1) := dk_44 (dk_at dksL_law_4 2 rfl rfl)
theorem dL_law_170 : decode cL_law 170 = .ok (.aload_n 0, 1) := dk_42 (dk_at dksL_law_4 3 rfl rfl)
theorem dL_law_171 : decode cL_law 171 = .ok (.iload 4, 2) := dk_21 4 (dk_at dksL_law_4 4 rfl rfl)
theorem dL_law_173 : decode cL_law 173 = .ok (.iconst 1, 1) := dk_4 (dk_at dksL_law_4 6 rfl rfl)
theorem dL_law_174 : decode cL_law 174 = .ok (.iadd, 1) := dk_96 (dk_at dksL_law_4 7 rfl rfl)
theorem dL_law_175 : decode cL_law 175 = .ok (.iaload, 1) := dk_46 (dk_at dksL_law_4 8 rfl rfl)
theorem dL_law_176 : decode cL_law 176 = .ok (.aload_n 0, 1) := dk_42 (dk_at dksL_law_4 9 rfl rfl)
theorem dL_law_177 : decode cL_law 177 = .ok (.iload 4, 2) := dk_21 4 (dk_at dksL_law_4 10 rfl rfl)
theorem dL_law_179 : decode cL_law 179 = .ok (.iconst 2, 1) := dk_5 (dk_at dksL_law_4 12 rfl rfl)
theorem dL_law_180 : decode cL_law 180 = .ok (.iadd, 1) := dk_96 (dk_at dksL_law_4 13 rfl rfl)
theorem dL_law_181 : decode cL_law 181 = .ok (.iaload, 1) := dk_46 (dk_at dksL_law_4 14 rfl rfl)
theorem dL_law_182 : decode cL_law 182 = .ok (.aload_n 0, 1) := dk_42 (dk_at dksL_law_4 15 rfl rfl)
theorem dL_law_183 : decode cL_law 183 = .ok (.iload 4, 2) := dk_21 4 (dk_at dksL_law_4 16 rfl rfl)
theorem dL_law_185 : decode cL_law 185 = .ok (.iconst 3, 1) := dk_6 (dk_at dksL_law_4 18 rfl rfl)
theorem dL_law_186 : decode cL_law 186 = .ok (.iadd, 1) := dk_96 (dk_at dksL_law_4 19 rfl rfl)
theorem dL_law_187 : decode cL_law 187 = .ok (.iaload, 1) := dk_46 (dk_at dksL_law_4 20 rfl rfl)
theorem dL_law_188 : decode cL_law 188 = .ok (.invokevirtual 90, 3) := dk_182 0 90 (dk_at dksL_law_4 21 rfl rfl)
theorem dL_law_191 : decode cL_law 191 = .ok (.istore 6, 2) := dk_54 6 (dk_at dksL_law_5 0 rfl rfl)
theorem dL_law_193 : decode cL_law 193 = .ok (.aload_n 2, 1) := dk_44 (dk_at dksL_law_5 2 rfl rfl)
theorem dL_law_194 : decode cL_law 194 = .ok (.invokevirtual 91, 3) := dk_182 0 91 (dk_at dksL_law_5 3 rfl rfl)
theorem dL_law_197 : decode cL_law 197 = .ok (.iload 5, 2) := dk_21 5 (dk_at dksL_law_5 6 rfl rfl)
theorem dL_law_199 : decode cL_law 199 = .ok (.if_icmp .eq 5, 3) := dk_159 0 5 (dk_at dksL_law_5 8 rfl rfl)
theorem dL_law_202 : decode cL_law 202 = .ok (.iconst 0, 1) := dk_3 (dk_at dksL_law_5 11 rfl rfl)
theorem dL_law_203 : decode cL_law 203 = .ok (.ireturn, 1) := dk_172 (dk_at dksL_law_5 12 rfl rfl)
theorem dL_law_204 : decode cL_law 204 = .ok (.iload 5, 2) := dk_21 5 (dk_at dksL_law_5 13 rfl rfl)
theorem dL_law_206 : decode cL_law 206 = .ok (.ifCond .ne 15, 3) := dk_154 0 15 (dk_at dksL_law_5 15 rfl rfl)
theorem dL_law_209 : decode cL_law 209 = .ok (.aload_n 3, 1) := dk_45 (dk_at dksL_law_5 18 rfl rfl)
theorem dL_law_210 : decode cL_law 210 = .ok (.iconst 0, 1) := dk_3 (dk_at dksL_law_5 19 rfl rfl)
theorem dL_law_211 : decode cL_law 211 = .ok (.laload, 1) := dk_47 (dk_at dksL_law_5 20 rfl rfl)
theorem dL_law_212 : decode cL_law 212 = .ok (.iload 6, 2) := dk_21 6 (dk_at dksL_law_5 21 rfl rfl)
theorem dL_law_214 : decode cL_law 214 = .ok (.i2l, 1) := dk_133 (dk_at dksL_law_5 23 rfl rfl)
theorem dL_law_215 : decode cL_law 215 = .ok (.lcmp, 1) := dk_148 (dk_at dksL_law_6 0 rfl rfl)
theorem dL_law_216 : decode cL_law 216 = .ok (.ifCond .eq 5, 3) := dk_153 0 5 (dk_at dksL_law_6 1 rfl rfl)
theorem dL_law_219 : decode cL_law 219 = .ok (.iconst 0, 1) := dk_3 (dk_at dksL_law_6 4 rfl rfl)
theorem dL_law_220 : decode cL_law 220 = .ok (.ireturn, 1) := dk_172 (dk_at dksL_law_6 5 rfl rfl)
theorem dL_law_221 : decode cL_law 221 = .ok (.goto 1420, 3) := dk_167 5 140 (dk_at dksL_law_6 6 rfl rfl)
theorem dL_law_224 : decode cL_law 224 = .ok (.aload_n 1, 1) := dk_43 (dk_at dksL_law_6 9 rfl rfl)
theorem dL_law_225 : decode cL_law 225 = .ok (.aload_n 0, 1) := dk_42 (dk_at dksL_law_6 10 rfl rfl)
theorem dL_law_226 : decode cL_law 226 = .ok (.iload 4, 2) := dk_21 4 (dk_at dksL_law_6 11 rfl rfl)
theorem dL_law_228 : decode cL_law 228 = .ok (.iconst 1, 1) := dk_4 (dk_at dksL_law_6 13 rfl rfl)
theorem dL_law_229 : decode cL_law 229 = .ok (.iadd, 1) := dk_96 (dk_at dksL_law_6 14 rfl rfl)
theorem dL_law_230 : decode cL_law 230 = .ok (.iaload, 1) := dk_46 (dk_at dksL_law_6 15 rfl rfl)
theorem dL_law_231 : decode cL_law 231 = .ok (.aload_n 0, 1) := dk_42 (dk_at dksL_law_6 16 rfl rfl)
theorem dL_law_232 : decode cL_law 232 = .ok (.iload 4, 2) := dk_21 4 (dk_at dksL_law_6 17 rfl rfl)
theorem dL_law_234 : decode cL_law 234 = .ok (.iconst 2, 1) := dk_5 (dk_at dksL_law_6 19 rfl rfl)
theorem dL_law_235 : decode cL_law 235 = .ok (.iadd, 1) := dk_96 (dk_at dksL_law_6 20 rfl rfl)
theorem dL_law_236 : decode cL_law 236 = .ok (.iaload, 1) := dk_46 (dk_at dksL_law_6 21 rfl rfl)
theorem dL_law_237 : decode cL_law 237 = .ok (.aload_n 0, 1) := dk_42 (dk_at dksL_law_6 22 rfl rfl)
theorem dL_law_238 : decode cL_law 238 = .ok (.iload 4, 2) := dk_21 4 (dk_at dksL_law_7 0 rfl rfl)
theorem dL_law_240 : decode cL_law 240 = .ok (.iconst 3, 1) := dk_6 (dk_at dksL_law_7 2 rfl rfl)
theorem dL_law_241 : decode cL_law 241 = .ok (.iadd, 1) := dk_96 (dk_at dksL_law_7 3 rfl rfl)
theorem dL_law_242 : decode cL_law 242 = .ok (.iaload, 1) := dk_46 (dk_at dksL_law_7 4 rfl rfl)
theorem dL_law_243 : decode cL_law 243 = .ok (.aload_n 0, 1) := dk_42 (dk_at dksL_law_7 5 rfl rfl)
theorem dL_law_244 : decode cL_law 244 = .ok (.iload 4, 2) := dk_21 4 (dk_at dksL_law_7 6 rfl rfl)
theorem dL_law_246 : decode cL_law 246 = .ok (.iconst 4, 1) := dk_7 (dk_at dksL_law_7 8 rfl rfl)
theorem dL_law_247 : decode cL_law 247 = .ok (.iadd, 1) := dk_96 (dk_at dksL_law_7 9 rfl rfl)
theorem dL_law_248 : decode cL_law 248 = .ok (.iaload, 1) := dk_46 (dk_at dksL_law_7 10 rfl rfl)
theorem dL_law_249 : decode cL_law 249 = .ok (.aload_n 3, 1) := dk_45 (dk_at dksL_law_7 11 rfl rfl)
theorem dL_law_250 : decode cL_law 250 = .ok (.invokestatic 94, 3) := dk_184 0 94 (dk_at dksL_law_7 12 rfl rfl)
theorem dL_law_253 : decode cL_law 253 = .ok (.istore 5, 2) := dk_54 5 (dk_at dksL_law_7 15 rfl rfl)
theorem dL_law_255 : decode cL_law 255 = .ok (.aload_n 2, 1) := dk_44 (dk_at dksL_law_7 17 rfl rfl)
theorem dL_law_256 : decode cL_law 256 = .ok (.aload_n 0, 1) := dk_42 (dk_at dksL_law_7 18 rfl rfl)
theorem dL_law_257 : decode cL_law 257 = .ok (.iload 4, 2) := dk_21 4 (dk_at dksL_law_7 19 rfl rfl)
theorem dL_law_259 : decode cL_law 259 = .ok (.iconst 1, 1) := dk_4 (dk_at dksL_law_7 21 rfl rfl)
theorem dL_law_260 : decode cL_law 260 = .ok (.iadd, 1) := dk_96 (dk_at dksL_law_7 22 rfl rfl)
theorem dL_law_261 : decode cL_law 261 = .ok (.iaload, 1) := dk_46 (dk_at dksL_law_7 23 rfl rfl)
theorem dL_law_262 : decode cL_law 262 = .ok (.aload_n 0, 1) := dk_42 (dk_at dksL_law_8 0 rfl rfl)
theorem dL_law_263 : decode cL_law 263 = .ok (.iload 4, 2) := dk_21 4 (dk_at dksL_law_8 1 rfl rfl)
theorem dL_law_265 : decode cL_law 265 = .ok (.iconst 2, 1) := dk_5 (dk_at dksL_law_8 3 rfl rfl)
theorem dL_law_266 : decode cL_law 266 = .ok (.iadd, 1) := dk_96 (dk_at dksL_law_8 4 rfl rfl)
theorem dL_law_267 : decode cL_law 267 = .ok (.iaload, 1) := dk_46 (dk_at dksL_law_8 5 rfl rfl)
theorem dL_law_268 : decode cL_law 268 = .ok (.aload_n 0, 1) := dk_42 (dk_at dksL_law_8 6 rfl rfl)
theorem dL_law_269 : decode cL_law 269 = .ok (.iload 4, 2) := dk_21 4 (dk_at dksL_law_8 7 rfl rfl)
theorem dL_law_271 : decode cL_law 271 = .ok (.iconst 3, 1) := dk_6 (dk_at dksL_law_8 9 rfl rfl)
theorem dL_law_272 : decode cL_law 272 = .ok (.iadd, 1) := dk_96 (dk_at dksL_law_8 10 rfl rfl)
theorem dL_law_273 : decode cL_law 273 = .ok (.iaload, 1) := dk_46 (dk_at dksL_law_8 11 rfl rfl)
theorem dL_law_274 : decode cL_law 274 = .ok (.aload_n 0, 1) := dk_42 (dk_at dksL_law_8 12 rfl rfl)
theorem dL_law_275 : decode cL_law 275 = .ok (.iload 4, 2) := dk_21 4 (dk_at dksL_law_8 13 rfl rfl)
theorem dL_law_277 : decode cL_law 277 = .ok (.iconst 4, 1) := dk_7 (dk_at dksL_law_8 15 rfl rfl)
theorem dL_law_278 : decode cL_law 278 = .ok (.iadd, 1) := dk_96 (dk_at dksL_law_8 16 rfl rfl)
theorem dL_law_279 : decode cL_law 279 = .ok (.iaload, 1) := dk_46 (dk_at dksL_law_8 17 rfl rfl)
theorem dL_law_280 : decode cL_law 280 = .ok (.invokevirtual 97, 3) := dk_182 0 97 (dk_at dksL_law_8 18 rfl rfl)
theorem dL_law_283 : decode cL_law 283 = .ok (.istore 6, 2) := dk_54 6 (dk_at dksL_law_8 21 rfl rfl)
theorem dL_law_285 : decode cL_law 285 = .ok (.aload_n 2, 1) := dk_44 (dk_at dksL_law_8 23 rfl rfl)
theorem dL_law_286 : decode cL_law 286 = .ok (.invokevirtual 91, 3) := dk_182 0 91 (dk_at dksL_law_9 0 rfl rfl)
theorem dL_law_289 : decode cL_law 289 = .ok (.iload 5, 2) := dk_21 5 (dk_at dksL_law_9 3 rfl rfl)
theorem dL_law_291 : decode cL_law 291 = .ok (.if_icmp .eq 5, 3) := dk_159 0 5 (dk_at dksL_law_9 5 rfl rfl)
theorem dL_law_294 : decode cL_law 294 = .ok (.iconst 0, 1) := dk_3 (dk_at dksL_law_9 8 rfl rfl)
theorem dL_law_295 : decode cL_law 295 = .ok (.ireturn, 1) := dk_172 (dk_at dksL_law_9 9 rfl rfl)
theorem dL_law_296 : decode cL_law 296 = .ok (.iload 5, 2) := dk_21 5 (dk_at dksL_law_9 10 rfl rfl)
theorem dL_law_298 : decode cL_law 298 = .ok (.ifCond .ne 15, 3) := dk_154 0 15 (dk_at dksL_law_9 12 rfl rfl)
theorem dL_law_301 : decode cL_law 301 = .ok (.aload_n 3, 1) := dk_45 (dk_at dksL_law_9 15 rfl rfl)
theorem dL_law_302 : decode cL_law 302 = .ok (.iconst 0, 1) := dk_3 (dk_at dksL_law_9 16 rfl rfl)
theorem dL_law_303 : decode cL_law 303 = .ok (.laload, 1) := dk_47 (dk_at dksL_law_9 17 rfl rfl)
theorem dL_law_304 : decode cL_law 304 = .ok (.iload 6, 2) := dk_21 6 (dk_at dksL_law_9 18 rfl rfl)
theorem dL_law_306 : decode cL_law 306 = .ok (.i2l, 1) := dk_133 (dk_at dksL_law_9 20 rfl rfl)
theorem dL_law_307 : decode cL_law 307 = .ok (.lcmp, 1) := dk_148 (dk_at dksL_law_9 21 rfl rfl)
theorem dL_law_308 : decode cL_law 308 = .ok (.ifCond .eq 5, 3) := dk_153 0 5 (dk_at dksL_law_10 0 rfl rfl)
theorem dL_law_311 : decode cL_law 311 = .ok (.iconst 0, 1) := dk_3 (dk_at dksL_law_10 3 rfl rfl)
theorem dL_law_312 : decode cL_law 312 = .ok (.ireturn, 1) := dk_172 (dk_at dksL_law_10 4 rfl rfl)
theorem dL_law_313 : decode cL_law 313 = .ok (.goto 1328, 3) := dk_167 5 48 (dk_at dksL_law_10 5 rfl rfl)
theorem dL_law_316 : decode cL_law 316 = .ok (.aload_n 1, 1) := dk_43 (dk_at dksL_law_10 8 rfl rfl)
theorem dL_law_317 : decode cL_law 317 = .ok (.aload_n 0, 1) := dk_42 (dk_at dksL_law_10 9 rfl rfl)
theorem dL_law_318 : decode cL_law 318 = .ok (.iload 4, 2) := dk_21 4 (dk_at dksL_law_10 10 rfl rfl)
theorem dL_law_320 : decode cL_law 320 = .ok (.iconst 1, 1) := dk_4 (dk_at dksL_law_10 12 rfl rfl)
theorem dL_law_321 : decode cL_law 321 = .ok (.iadd, 1) := dk_96 (dk_at dksL_law_10 13 rfl rfl)
theorem dL_law_322 : decode cL_law 322 = .ok (.iaload, 1) := dk_46 (dk_at dksL_law_10 14 rfl rfl)
theorem dL_law_323 : decode cL_law 323 = .ok (.aload_n 0, 1) := dk_42 (dk_at dksL_law_10 15 rfl rfl)
theorem dL_law_324 : decode cL_law 324 = .ok (.iload 4, 2) := dk_21 4 (dk_at dksL_law_10 16 rfl rfl)
theorem dL_law_326 : decode cL_law 326 = .ok (.iconst 2, 1) := dk_5 (dk_at dksL_law_10 18 rfl rfl)
theorem dL_law_327 : decode cL_law 327 = .ok (.iadd, 1) := dk_96 (dk_at dksL_law_10 19 rfl rfl)
theorem dL_law_328 : decode cL_law 328 = .ok (.iaload, 1) := dk_46 (dk_at dksL_law_10 20 rfl rfl)
theorem dL_law_329 : decode cL_law 329 = .ok (.aload_n 0, 1) := dk_42 (dk_at dksL_law_10 21 rfl rfl)
theorem dL_law_330 : decode cL_law 330 = .ok (.iload 4, 2) := dk_21 4 (dk_at dksL_law_10 22 rfl rfl)
theorem dL_law_332 : decode cL_law 332 = .ok (.iconst 3, 1) := dk_6 (dk_at dksL_law_11 0 rfl rfl)
theorem dL_law_333 : decode cL_law 333 = .ok (.iadd, 1) := dk_96 (dk_at dksL_law_11 1 rfl rfl)
theorem dL_law_334 : decode cL_law 334 = .ok (.iaload, 1) := dk_46 (dk_at dksL_law_11 2 rfl rfl)
theorem dL_law_335 : decode cL_law 335 = .ok (.aload_n 0, 1) := dk_42 (dk_at dksL_law_11 3 rfl rfl)
theorem dL_law_336 : decode cL_law 336 = .ok (.iload 4, 2) := dk_21 4 (dk_at dksL_law_11 4 rfl rfl)
theorem dL_law_338 : decode cL_law 338 = .ok (.iconst 4, 1) := dk_7 (dk_at dksL_law_11 6 rfl rfl)
theorem dL_law_339 : decode cL_law 339 = .ok (.iadd, 1) := dk_96 (dk_at dksL_law_11 7 rfl rfl)
theorem dL_law_340 : decode cL_law 340 = .ok (.iaload, 1) := dk_46 (dk_at dksL_law_11 8 rfl rfl)
theorem dL_law_341 : decode cL_law 341 = .ok (.aload_n 0, 1) := dk_42 (dk_at dksL_law_11 9 rfl rfl)
theorem dL_law_342 : decode cL_law 342 = .ok (.iload 4, 2) := dk_21 4 (dk_at dksL_law_11 10 rfl rfl)
theorem dL_law_344 : decode cL_law 344 = .ok (.iconst 5, 1) := dk_8 (dk_at dksL_law_11 12 rfl rfl)
theorem dL_law_345 : decode cL_law 345 = .ok (.iadd, 1) := dk_96 (dk_at dksL_law_11 13 rfl rfl)
theorem dL_law_346 : decode cL_law 346 = .ok (.iaload, 1) := dk_46 (dk_at dksL_law_11 14 rfl rfl)
theorem dL_law_347 : decode cL_law 347 = .ok (.ifCond .eq 7, 3) := dk_153 0 7 (dk_at dksL_law_11 15 rfl rfl)
theorem dL_law_350 : decode cL_law 350 = .ok (.iconst 1, 1) := dk_4 (dk_at dksL_law_11 18 rfl rfl)
theorem dL_law_351 : decode cL_law 351 = .ok (.goto 4, 3) := dk_167 0 4 (dk_at dksL_law_11 19 rfl rfl)
theorem dL_law_354 : decode cL_law 354 = .ok (.iconst 0, 1) := dk_3 (dk_at dksL_law_11 22 rfl rfl)
theorem dL_law_355 : decode cL_law 355 = .ok (.aload_n 3, 1) := dk_45 (dk_at dksL_law_11 23 rfl rfl)
theorem dL_law_356 : decode cL_law 356 = .ok (.invokestatic 98, 3) := dk_184 0 98 (dk_at dksL_law_12 0 rfl rfl)
theorem dL_law_359 : decode cL_law 359 = .ok (.istore 5, 2) := dk_54 5 (dk_at dksL_law_12 3 rfl rfl)
theorem dL_law_361 : decode cL_law 361 = .ok (.aload_n 2, 1) := dk_44 (dk_at dksL_law_12 5 rfl rfl)
theorem dL_law_362 : decode cL_law 362 = .ok (.aload_n 0, 1) := dk_42 (dk_at dksL_law_12 6 rfl rfl)
theorem dL_law_363 : decode cL_law 363 = .ok (.iload 4, 2) := dk_21 4 (dk_at dksL_law_12 7 rfl rfl)
theorem dL_law_365 : decode cL_law 365 = .ok (.iconst 1, 1) := dk_4 (dk_at dksL_law_12 9 rfl rfl)
theorem dL_law_366 : decode cL_law 366 = .ok (.iadd, 1) := dk_96 (dk_at dksL_law_12 10 rfl rfl)
theorem dL_law_367 : decode cL_law 367 = .ok (.iaload, 1) := dk_46 (dk_at dksL_law_12 11 rfl rfl)
theorem dL_law_368 : decode cL_law 368 = .ok (.aload_n 0, 1) := dk_42 (dk_at dksL_law_12 12 rfl rfl)
theorem dL_law_369 : decode cL_law 369 = .ok (.iload 4, 2) := dk_21 4 (dk_at dksL_law_12 13 rfl rfl)
theorem dL_law_371 : decode cL_law 371 = .ok (.iconst 2, 1) := dk_5 (dk_at dksL_law_12 15 rfl rfl)
theorem dL_law_372 : decode cL_law 372 = .ok (.iadd, 1) := dk_96 (dk_at dksL_law_12 16 rfl rfl)
theorem dL_law_373 : decode cL_law 373 = .ok (.iaload, 1) := dk_46 (dk_at dksL_law_12 17 rfl rfl)
theorem dL_law_374 : decode cL_law 374 = .ok (.aload_n 0, 1) := dk_42 (dk_at dksL_law_12 18 rfl rfl)
theorem dL_law_375 : decode cL_law 375 = .ok (.iload 4, 2) := dk_21 4 (dk_at dksL_law_12 19 rfl rfl)
theorem dL_law_377 : decode cL_law 377 = .ok (.iconst 3, 1) := dk_6 (dk_at dksL_law_12 21 rfl rfl)
theorem dL_law_378 : decode cL_law 378 = .ok (.iadd, 1) := dk_96 (dk_at dksL_law_12 22 rfl rfl)
theorem dL_law_379 : decode cL_law 379 = .ok (.iaload, 1) := dk_46 (dk_at dksL_law_12 23 rfl rfl)
theorem dL_law_380 : decode cL_law 380 = .ok (.aload_n 0, 1) := dk_42 (dk_at dksL_law_13 0 rfl rfl)
theorem dL_law_381 : decode cL_law 381 = .ok (.iload 4, 2) := dk_21 4 (dk_at dksL_law_13 1 rfl rfl)
theorem dL_law_383 : decode cL_law 383 = .ok (.iconst 4, 1) := dk_7 (dk_at dksL_law_13 3 rfl rfl)
theorem dL_law_384 : decode cL_law 384 = .ok (.iadd, 1) := dk_96 (dk_at dksL_law_13 4 rfl rfl)
theorem dL_law_385 : decode cL_law 385 = .ok (.iaload, 1) := dk_46 (dk_at dksL_law_13 5 rfl rfl)
theorem dL_law_386 : decode cL_law 386 = .ok (.aload_n 0, 1) := dk_42 (dk_at dksL_law_13 6 rfl rfl)
theorem dL_law_387 : decode cL_law 387 = .ok (.iload 4, 2) := dk_21 4 (dk_at dksL_law_13 7 rfl rfl)
theorem dL_law_389 : decode cL_law 389 = .ok (.iconst 5, 1) := dk_8 (dk_at dksL_law_13 9 rfl rfl)
theorem dL_law_390 : decode cL_law 390 = .ok (.iadd, 1) := dk_96 (dk_at dksL_law_13 10 rfl rfl)
theorem dL_law_391 : decode cL_law 391 = .ok (.iaload, 1) := dk_46 (dk_at dksL_law_13 11 rfl rfl)
theorem dL_law_392 : decode cL_law 392 = .ok (.ifCond .eq 7, 3) := dk_153 0 7 (dk_at dksL_law_13 12 rfl rfl)
theorem dL_law_395 : decode cL_law 395 = .ok (.iconst 1, 1) := dk_4 (dk_at dksL_law_13 15 rfl rfl)
theorem dL_law_396 : decode cL_law 396 = .ok (.goto 4, 3) := dk_167 0 4 (dk_at dksL_law_13 16 rfl rfl)
theorem dL_law_399 : decode cL_law 399 = .ok (.iconst 0, 1) := dk_3 (dk_at dksL_law_13 19 rfl rfl)
theorem dL_law_400 : decode cL_law 400 = .ok (.invokevirtual 101, 3) := dk_182 0 101 (dk_at dksL_law_13 20 rfl rfl)
theorem dL_law_403 : decode cL_law 403 = .ok (.istore 6, 2) := dk_54 6 (dk_at dksL_law_14 0 rfl rfl)
theorem dL_law_405 : decode cL_law 405 = .ok (.aload_n 2, 1) := dk_44 (dk_at dksL_law_14 2 rfl rfl)
theorem dL_law_406 : decode cL_law 406 = .ok (.invokevirtual 91, 3) := dk_182 0 91 (dk_at dksL_law_14 3 rfl rfl)
theorem dL_law_409 : decode cL_law 409 = .ok (.iload 5, 2) := dk_21 5 (dk_at dksL_law_14 6 rfl rfl)
theorem dL_law_411 : decode cL_law 411 = .ok (.if_icmp .eq 5, 3) := dk_159 0 5 (dk_at dksL_law_14 8 rfl rfl)
theorem dL_law_414 : decode cL_law 414 = .ok (.iconst 0, 1) := dk_3 (dk_at dksL_law_14 11 rfl rfl)
theorem dL_law_415 : decode cL_law 415 = .ok (.ireturn, 1) := dk_172 (dk_at dksL_law_14 12 rfl rfl)
theorem dL_law_416 : decode cL_law 416 = .ok (.iload 5, 2) := dk_21 5 (dk_at dksL_law_14 13 rfl rfl)
theorem dL_law_418 : decode cL_law 418 = .ok (.ifCond .ne 15, 3) := dk_154 0 15 (dk_at dksL_law_14 15 rfl rfl)
theorem dL_law_421 : decode cL_law 421 = .ok (.aload_n 3, 1) := dk_45 (dk_at dksL_law_14 18 rfl rfl)
theorem dL_law_422 : decode cL_law 422 = .ok (.iconst 0, 1) := dk_3 (dk_at dksL_law_14 19 rfl rfl)
theorem dL_law_423 : decode cL_law 423 = .ok (.laload, 1) := dk_47 (dk_at dksL_law_14 20 rfl rfl)
theorem dL_law_424 : decode cL_law 424 = .ok (.iload 6, 2) := dk_21 6 (dk_at dksL_law_14 21 rfl rfl)
theorem dL_law_426 : decode cL_law 426 = .ok (.i2l, 1) := dk_133 (dk_at dksL_law_14 23 rfl rfl)
theorem dL_law_427 : decode cL_law 427 = .ok (.lcmp, 1) := dk_148 (dk_at dksL_law_15 0 rfl rfl)
theorem dL_law_428 : decode cL_law 428 = .ok (.ifCond .eq 5, 3) := dk_153 0 5 (dk_at dksL_law_15 1 rfl rfl)
theorem dL_law_431 : decode cL_law 431 = .ok (.iconst 0, 1) := dk_3 (dk_at dksL_law_15 4 rfl rfl)
theorem dL_law_432 : decode cL_law 432 = .ok (.ireturn, 1) := dk_172 (dk_at dksL_law_15 5 rfl rfl)
theorem dL_law_433 : decode cL_law 433 = .ok (.goto 1208, 3) := dk_167 4 184 (dk_at dksL_law_15 6 rfl rfl)
theorem dL_law_436 : decode cL_law 436 = .ok (.aload_n 1, 1) := dk_43 (dk_at dksL_law_15 9 rfl rfl)
theorem dL_law_437 : decode cL_law 437 = .ok (.aload_n 0, 1) := dk_42 (dk_at dksL_law_15 10 rfl rfl)
theorem dL_law_438 : decode cL_law 438 = .ok (.iload 4, 2) := dk_21 4 (dk_at dksL_law_15 11 rfl rfl)
theorem dL_law_440 : decode cL_law 440 = .ok (.iconst 1, 1) := dk_4 (dk_at dksL_law_15 13 rfl rfl)
theorem dL_law_441 : decode cL_law 441 = .ok (.iadd, 1) := dk_96 (dk_at dksL_law_15 14 rfl rfl)
theorem dL_law_442 : decode cL_law 442 = .ok (.iaload, 1) := dk_46 (dk_at dksL_law_15 15 rfl rfl)
theorem dL_law_443 : decode cL_law 443 = .ok (.aload_n 3, 1) := dk_45 (dk_at dksL_law_15 16 rfl rfl)
theorem dL_law_444 : decode cL_law 444 = .ok (.invokestatic 102, 3) := dk_184 0 102 (dk_at dksL_law_15 17 rfl rfl)
theorem dL_law_447 : decode cL_law 447 = .ok (.istore 5, 2) := dk_54 5 (dk_at dksL_law_15 20 rfl rfl)
theorem dL_law_449 : decode cL_law 449 = .ok (.aload_n 2, 1) := dk_44 (dk_at dksL_law_15 22 rfl rfl)
theorem dL_law_450 : decode cL_law 450 = .ok (.aload_n 0, 1) := dk_42 (dk_at dksL_law_15 23 rfl rfl)
theorem dL_law_451 : decode cL_law 451 = .ok (.iload 4, 2) := dk_21 4 (dk_at dksL_law_16 0 rfl rfl)
theorem dL_law_453 : decode cL_law 453 = .ok (.iconst 1, 1) := dk_4 (dk_at dksL_law_16 2 rfl rfl)
theorem dL_law_454 : decode cL_law 454 = .ok (.iadd, 1) := dk_96 (dk_at dksL_law_16 3 rfl rfl)
theorem dL_law_455 : decode cL_law 455 = .ok (.iaload, 1) := dk_46 (dk_at dksL_law_16 4 rfl rfl)
theorem dL_law_456 : decode cL_law 456 = .ok (.invokevirtual 105, 3) := dk_182 0 105 (dk_at dksL_law_16 5 rfl rfl)
theorem dL_law_459 : decode cL_law 459 = .ok (.istore 6, 2) := dk_54 6 (dk_at dksL_law_16 8 rfl rfl)
theorem dL_law_461 : decode cL_law 461 = .ok (.aload_n 2, 1) := dk_44 (dk_at dksL_law_16 10 rfl rfl)
theorem dL_law_462 : decode cL_law 462 = .ok (.invokevirtual 91, 3) := dk_182 0 91 (dk_at dksL_law_16 11 rfl rfl)
theorem dL_law_465 : decode cL_law 465 = .ok (.iload 5, 2) := dk_21 5 (dk_at dksL_law_16 14 rfl rfl)
theorem dL_law_467 : decode cL_law 467 = .ok (.if_icmp .eq 5, 3) := dk_159 0 5 (dk_at dksL_law_16 16 rfl rfl)
theorem dL_law_470 : decode cL_law 470 = .ok (.iconst 0, 1) := dk_3 (dk_at dksL_law_16 19 rfl rfl)
theorem dL_law_471 : decode cL_law 471 = .ok (.ireturn, 1) := dk_172 (dk_at dksL_law_16 20 rfl rfl)
theorem dL_law_472 : decode cL_law 472 = .ok (.iload 5, 2) := dk_21 5 (dk_at dksL_law_16 21 rfl rfl)
theorem dL_law_474 : decode cL_law 474 = .ok (.ifCond .ne 15, 3) := dk_154 0 15 (dk_at dksL_law_17 0 rfl rfl)
theorem dL_law_477 : decode cL_law 477 = .ok (.aload_n 3, 1) := dk_45 (dk_at dksL_law_17 3 rfl rfl)
theorem dL_law_478 : decode cL_law 478 = .ok (.iconst 0, 1) := dk_3 (dk_at dksL_law_17 4 rfl rfl)
theorem dL_law_479 : decode cL_law 479 = .ok (.laload, 1) := dk_47 (dk_at dksL_law_17 5 rfl rfl)
theorem dL_law_480 : decode cL_law 480 = .ok (.iload 6, 2) := dk_21 6 (dk_at dksL_law_17 6 rfl rfl)
theorem dL_law_482 : decode cL_law 482 = .ok (.i2l, 1) := dk_133 (dk_at dksL_law_17 8 rfl rfl)
theorem dL_law_483 : decode cL_law 483 = .ok (.lcmp, 1) := dk_148 (dk_at dksL_law_17 9 rfl rfl)
theorem dL_law_484 : decode cL_law 484 = .ok (.ifCond .eq 5, 3) := dk_153 0 5 (dk_at dksL_law_17 10 rfl rfl)
theorem dL_law_487 : decode cL_law 487 = .ok (.iconst 0, 1) := dk_3 (dk_at dksL_law_17 13 rfl rfl)
theorem dL_law_488 : decode cL_law 488 = .ok (.ireturn, 1) := dk_172 (dk_at dksL_law_17 14 rfl rfl)
theorem dL_law_489 : decode cL_law 489 = .ok (.goto 1152, 3) := dk_167 4 128 (dk_at dksL_law_17 15 rfl rfl)
theorem dL_law_492 : decode cL_law 492 = .ok (.aload_n 1, 1) := dk_43 (dk_at dksL_law_17 18 rfl rfl)
theorem dL_law_493 : decode cL_law 493 = .ok (.aload_n 0, 1) := dk_42 (dk_at dksL_law_17 19 rfl rfl)
theorem dL_law_494 : decode cL_law 494 = .ok (.iload 4, 2) := dk_21 4 (dk_at dksL_law_17 20 rfl rfl)
theorem dL_law_496 : decode cL_law 496 = .ok (.iconst 1, 1) := dk_4 (dk_at dksL_law_17 22 rfl rfl)
theorem dL_law_497 : decode cL_law 497 = .ok (.iadd, 1) := dk_96 (dk_at dksL_law_17 23 rfl rfl)
theorem dL_law_498 : decode cL_law 498 = .ok (.iaload, 1) := dk_46 (dk_at dksL_law_18 0 rfl rfl)
theorem dL_law_499 : decode cL_law 499 = .ok (.aload_n 3, 1) := dk_45 (dk_at dksL_law_18 1 rfl rfl)
theorem dL_law_500 : decode cL_law 500 = .ok (.invokestatic 106, 3) := dk_184 0 106 (dk_at dksL_law_18 2 rfl rfl)
theorem dL_law_503 : decode cL_law 503 = .ok (.istore 5, 2) := dk_54 5 (dk_at dksL_law_18 5 rfl rfl)
theorem dL_law_505 : decode cL_law 505 = .ok (.aload_n 2, 1) := dk_44 (dk_at dksL_law_18 7 rfl rfl)
theorem dL_law_506 : decode cL_law 506 = .ok (.aload_n 0, 1) := dk_42 (dk_at dksL_law_18 8 rfl rfl)
theorem dL_law_507 : decode cL_law 507 = .ok (.iload 4, 2) := dk_21 4 (dk_at dksL_law_18 9 rfl rfl)
theorem dL_law_509 : decode cL_law 509 = .ok (.iconst 1, 1) := dk_4 (dk_at dksL_law_18 11 rfl rfl)
theorem dL_law_510 : decode cL_law 510 = .ok (.iadd, 1) := dk_96 (dk_at dksL_law_18 12 rfl rfl)
theorem dL_law_511 : decode cL_law 511 = .ok (.iaload, 1) := dk_46 (dk_at dksL_law_18 13 rfl rfl)
theorem dL_law_512 : decode cL_law 512 = .ok (.invokevirtual 108, 3) := dk_182 0 108 (dk_at dksL_law_18 14 rfl rfl)
theorem dL_law_515 : decode cL_law 515 = .ok (.istore 6, 2) := dk_54 6 (dk_at dksL_law_18 17 rfl rfl)
theorem dL_law_517 : decode cL_law 517 = .ok (.aload_n 2, 1) := dk_44 (dk_at dksL_law_18 19 rfl rfl)
theorem dL_law_518 : decode cL_law 518 = .ok (.invokevirtual 91, 3) := dk_182 0 91 (dk_at dksL_law_18 20 rfl rfl)
theorem dL_law_521 : decode cL_law 521 = .ok (.iload 5, 2) := dk_21 5 (dk_at dksL_law_19 0 rfl rfl)
theorem dL_law_523 : decode cL_law 523 = .ok (.if_icmp .eq 5, 3) := dk_159 0 5 (dk_at dksL_law_19 2 rfl rfl)
theorem dL_law_526 : decode cL_law 526 = .ok (.iconst 0, 1) := dk_3 (dk_at dksL_law_19 5 rfl rfl)
theorem dL_law_527 : decode cL_law 527 = .ok (.ireturn, 1) := dk_172 (dk_at dksL_law_19 6 rfl rfl)
theorem dL_law_528 : decode cL_law 528 = .ok (.iload 5, 2) := dk_21 5 (dk_at dksL_law_19 7 rfl rfl)
theorem dL_law_530 : decode cL_law 530 = .ok (.ifCond .ne 15, 3) := dk_154 0 15 (dk_at dksL_law_19 9 rfl rfl)
theorem dL_law_533 : decode cL_law 533 = .ok (.aload_n 3, 1) := dk_45 (dk_at dksL_law_19 12 rfl rfl)
theorem dL_law_534 : decode cL_law 534 = .ok (.iconst 0, 1) := dk_3 (dk_at dksL_law_19 13 rfl rfl)
theorem dL_law_535 : decode cL_law 535 = .ok (.laload, 1) := dk_47 (dk_at dksL_law_19 14 rfl rfl)
theorem dL_law_536 : decode cL_law 536 = .ok (.iload 6, 2) := dk_21 6 (dk_at dksL_law_19 15 rfl rfl)
theorem dL_law_538 : decode cL_law 538 = .ok (.i2l, 1) := dk_133 (dk_at dksL_law_19 17 rfl rfl)
theorem dL_law_539 : decode cL_law 539 = .ok (.lcmp, 1) := dk_148 (dk_at dksL_law_19 18 rfl rfl)
theorem dL_law_540 : decode cL_law 540 = .ok (.ifCond .eq 5, 3) := dk_153 0 5 (dk_at dksL_law_19 19 rfl rfl)
theorem dL_law_543 : decode cL_law 543 = .ok (.iconst 0, 1) := dk_3 (dk_at dksL_law_19 22 rfl rfl)
theorem dL_law_544 : decode cL_law 544 = .ok (.ireturn, 1) := dk_172 (dk_at dksL_law_19 23 rfl rfl)
theorem dL_law_545 : decode cL_law 545 = .ok (.goto 1096, 3) := dk_167 4 72 (dk_at dksL_law_20 0 rfl rfl)
theorem dL_law_548 : decode cL_law 548 = .ok (.aload_n 1, 1) := dk_43 (dk_at dksL_law_20 3 rfl rfl)
theorem dL_law_549 : decode cL_law 549 = .ok (.aload_n 0, 1) := dk_42 (dk_at dksL_law_20 4 rfl rfl)
theorem dL_law_550 : decode cL_law 550 = .ok (.iload 4, 2) := dk_21 4 (dk_at dksL_law_20 5 rfl rfl)
theorem dL_law_552 : decode cL_law 552 = .ok (.iconst 1, 1) := dk_4 (dk_at dksL_law_20 7 rfl rfl)
theorem dL_law_553 : decode cL_law 553 = .ok (.iadd, 1) := dk_96 (dk_at dksL_law_20 8 rfl rfl)
theorem dL_law_554 : decode cL_law 554 = .ok (.iaload, 1) := dk_46 (dk_at dksL_law_20 9 rfl rfl)
theorem dL_law_555 : decode cL_law 555 = .ok (.aload_n 0, 1) := dk_42 (dk_at dksL_law_20 10 rfl rfl)
theorem dL_law_556 : decode cL_law 556 = .ok (.iload 4, 2) := dk_21 4 (dk_at dksL_law_20 11 rfl rfl)
theorem dL_law_558 : decode cL_law 558 = .ok (.iconst 2, 1) := dk_5 (dk_at dksL_law_20 13 rfl rfl)
theorem dL_law_559 : decode cL_law 559 = .ok (.iadd, 1) := dk_96 (dk_at dksL_law_20 14 rfl rfl)
theorem dL_law_560 : decode cL_law 560 = .ok (.iaload, 1) := dk_46 (dk_at dksL_law_20 15 rfl rfl)
theorem dL_law_561 : decode cL_law 561 = .ok (.aload_n 3, 1) := dk_45 (dk_at dksL_law_20 16 rfl rfl)
theorem dL_law_562 : decode cL_law 562 = .ok (.invokestatic 109, 3) := dk_184 0 109 (dk_at dksL_law_20 17 rfl rfl)
theorem dL_law_565 : decode cL_law 565 = .ok (.istore 5, 2) := dk_54 5 (dk_at dksL_law_20 20 rfl rfl)
theorem dL_law_567 : decode cL_law 567 = .ok (.aload_n 2, 1) := dk_44 (dk_at dksL_law_20 22 rfl rfl)
theorem dL_law_568 : decode cL_law 568 = .ok (.aload_n 0, 1) := dk_42 (dk_at dksL_law_20 23 rfl rfl)
theorem dL_law_569 : decode cL_law 569 = .ok (.iload 4, 2) := dk_21 4 (dk_at dksL_law_21 0 rfl rfl)
theorem dL_law_571 : decode cL_law 571 = .ok (.iconst 1, 1) := dk_4 (dk_at dksL_law_21 2 rfl rfl)
theorem dL_law_572 : decode cL_law 572 = .ok (.iadd, 1) := dk_96 (dk_at dksL_law_21 3 rfl rfl)
theorem dL_law_573 : decode cL_law 573 = .ok (.iaload, 1) := dk_46 (dk_at dksL_law_21 4 rfl rfl)
theorem dL_law_574 : decode cL_law 574 = .ok (.aload_n 0, 1) := dk_42 (dk_at dksL_law_21 5 rfl rfl)
theorem dL_law_575 : decode cL_law 575 = .ok (.iload 4, 2) := dk_21 4 (dk_at dksL_law_21 6 rfl rfl)
theorem dL_law_577 : decode cL_law 577 = .ok (.iconst 2, 1) := dk_5 (dk_at dksL_law_21 8 rfl rfl)
theorem dL_law_578 : decode cL_law 578 = .ok (.iadd, 1) := dk_96 (dk_at dksL_law_21 9 rfl rfl)
theorem dL_law_579 : decode cL_law 579 = .ok (.iaload, 1) := dk_46 (dk_at dksL_law_21 10 rfl rfl)
theorem dL_law_580 : decode cL_law 580 = .ok (.invokevirtual 112, 3) := dk_182 0 112 (dk_at dksL_law_21 11 rfl rfl)
theorem dL_law_583 : decode cL_law 583 = .ok (.istore 6, 2) := dk_54 6 (dk_at dksL_law_21 14 rfl rfl)
theorem dL_law_585 : decode cL_law 585 = .ok (.aload_n 2, 1) := dk_44 (dk_at dksL_law_21 16 rfl rfl)
theorem dL_law_586 : decode cL_law 586 = .ok (.invokevirtual 91, 3) := dk_182 0 91 (dk_at dksL_law_21 17 rfl rfl)
theorem dL_law_589 : decode cL_law 589 = .ok (.iload 5, 2) := dk_21 5 (dk_at dksL_law_21 20 rfl rfl)
theorem dL_law_591 : decode cL_law 591 = .ok (.if_icmp .eq 5, 3) := dk_159 0 5 (dk_at dksL_law_22 0 rfl rfl)
theorem dL_law_594 : decode cL_law 594 = .ok (.iconst 0, 1) := dk_3 (dk_at dksL_law_22 3 rfl rfl)
theorem dL_law_595 : decode cL_law 595 = .ok (.ireturn, 1) := dk_172 (dk_at dksL_law_22 4 rfl rfl)
theorem dL_law_596 : decode cL_law 596 = .ok (.iload 5, 2) := dk_21 5 (dk_at dksL_law_22 5 rfl rfl)
theorem dL_law_598 : decode cL_law 598 = .ok (.ifCond .ne 15, 3) := dk_154 0 15 (dk_at dksL_law_22 7 rfl rfl)
theorem dL_law_601 : decode cL_law 601 = .ok (.aload_n 3, 1) := dk_45 (dk_at dksL_law_22 10 rfl rfl)
theorem dL_law_602 : decode cL_law 602 = .ok (.iconst 0, 1) := dk_3 (dk_at dksL_law_22 11 rfl rfl)
theorem dL_law_603 : decode cL_law 603 = .ok (.laload, 1) := dk_47 (dk_at dksL_law_22 12 rfl rfl)
theorem dL_law_604 : decode cL_law 604 = .ok (.iload 6, 2) := dk_21 6 (dk_at dksL_law_22 13 rfl rfl)
theorem dL_law_606 : decode cL_law 606 = .ok (.i2l, 1) := dk_133 (dk_at dksL_law_22 15 rfl rfl)
theorem dL_law_607 : decode cL_law 607 = .ok (.lcmp, 1) := dk_148 (dk_at dksL_law_22 16 rfl rfl)
theorem dL_law_608 : decode cL_law 608 = .ok (.ifCond .eq 5, 3) := dk_153 0 5 (dk_at dksL_law_22 17 rfl rfl)
theorem dL_law_611 : decode cL_law 611 = .ok (.iconst 0, 1) := dk_3 (dk_at dksL_law_22 20 rfl rfl)
theorem dL_law_612 : decode cL_law 612 = .ok (.ireturn, 1) := dk_172 (dk_at dksL_law_22 21 rfl rfl)
theorem dL_law_613 : decode cL_law 613 = .ok (.goto 1028, 3) := dk_167 4 4 (dk_at dksL_law_23 0 rfl rfl)
theorem dL_law_616 : decode cL_law 616 = .ok (.aload_n 1, 1) := dk_43 (dk_at dksL_law_23 3 rfl rfl)
theorem dL_law_617 : decode cL_law 617 = .ok (.aload_n 0, 1) := dk_42 (dk_at dksL_law_23 4 rfl rfl)
theorem dL_law_618 : decode cL_law 618 = .ok (.iload 4, 2) := dk_21 4 (dk_at dksL_law_23 5 rfl rfl)
theorem dL_law_620 : decode cL_law 620 = .ok (.iconst 1, 1) := dk_4 (dk_at dksL_law_23 7 rfl rfl)
theorem dL_law_621 : decode cL_law 621 = .ok (.iadd, 1) := dk_96 (dk_at dksL_law_23 8 rfl rfl)
theorem dL_law_622 : decode cL_law 622 = .ok (.iaload, 1) := dk_46 (dk_at dksL_law_23 9 rfl rfl)
theorem dL_law_623 : decode cL_law 623 = .ok (.aload_n 0, 1) := dk_42 (dk_at dksL_law_23 10 rfl rfl)
theorem dL_law_624 : decode cL_law 624 = .ok (.iload 4, 2) := dk_21 4 (dk_at dksL_law_23 11 rfl rfl)
theorem dL_law_626 : decode cL_law 626 = .ok (.iconst 2, 1) := dk_5 (dk_at dksL_law_23 13 rfl rfl)
theorem dL_law_627 : decode cL_law 627 = .ok (.iadd, 1) := dk_96 (dk_at dksL_law_23 14 rfl rfl)
theorem dL_law_628 : decode cL_law 628 = .ok (.iaload, 1) := dk_46 (dk_at dksL_law_23 15 rfl rfl)
theorem dL_law_629 : decode cL_law 629 = .ok (.aload_n 3, 1) := dk_45 (dk_at dksL_law_23 16 rfl rfl)
theorem dL_law_630 : decode cL_law 630 = .ok (.invokestatic 113, 3) := dk_184 0 113 (dk_at dksL_law_23 17 rfl rfl)
theorem dL_law_633 : decode cL_law 633 = .ok (.istore 5, 2) := dk_54 5 (dk_at dksL_law_23 20 rfl rfl)
theorem dL_law_635 : decode cL_law 635 = .ok (.aload_n 2, 1) := dk_44 (dk_at dksL_law_23 22 rfl rfl)
theorem dL_law_636 : decode cL_law 636 = .ok (.aload_n 0, 1) := dk_42 (dk_at dksL_law_23 23 rfl rfl)
theorem dL_law_637 : decode cL_law 637 = .ok (.iload 4, 2) := dk_21 4 (dk_at dksL_law_24 0 rfl rfl)
theorem dL_law_639 : decode cL_law 639 = .ok (.iconst 1, 1) := dk_4 (dk_at dksL_law_24 2 rfl rfl)
theorem dL_law_640 : decode cL_law 640 = .ok (.iadd, 1) := dk_96 (dk_at dksL_law_24 3 rfl rfl)
theorem dL_law_641 : decode cL_law 641 = .ok (.iaload, 1) := dk_46 (dk_at dksL_law_24 4 rfl rfl)
theorem dL_law_642 : decode cL_law 642 = .ok (.aload_n 0, 1) := dk_42 (dk_at dksL_law_24 5 rfl rfl)
theorem dL_law_643 : decode cL_law 643 = .ok (.iload 4, 2) := dk_21 4 (dk_at dksL_law_24 6 rfl rfl)
theorem dL_law_645 : decode cL_law 645 = .ok (.iconst 2, 1) := dk_5 (dk_at dksL_law_24 8 rfl rfl)
theorem dL_law_646 : decode cL_law 646 = .ok (.iadd, 1) := dk_96 (dk_at dksL_law_24 9 rfl rfl)
theorem dL_law_647 : decode cL_law 647 = .ok (.iaload, 1) := dk_46 (dk_at dksL_law_24 10 rfl rfl)
theorem dL_law_648 : decode cL_law 648 = .ok (.invokevirtual 115, 3) := dk_182 0 115 (dk_at dksL_law_24 11 rfl rfl)
theorem dL_law_651 : decode cL_law 651 = .ok (.istore 6, 2) := dk_54 6 (dk_at dksL_law_24 14 rfl rfl)
theorem dL_law_653 : decode cL_law 653 = .ok (.aload_n 2, 1) := dk_44 (dk_at dksL_law_24 16 rfl rfl)
theorem dL_law_654 : decode cL_law 654 = .ok (.invokevirtual 91, 3) := dk_182 0 91 (dk_at dksL_law_24 17 rfl rfl)
theorem dL_law_657 : decode cL_law 657 = .ok (.iload 5, 2) := dk_21 5 (dk_at dksL_law_24 20 rfl rfl)
theorem dL_law_659 : decode cL_law 659 = .ok (.if_icmp .eq 5, 3) := dk_159 0 5 (dk_at dksL_law_25 0 rfl rfl)
theorem dL_law_662 : decode cL_law 662 = .ok (.iconst 0, 1) := dk_3 (dk_at dksL_law_25 3 rfl rfl)
theorem dL_law_663 : decode cL_law 663 = .ok (.ireturn, 1) := dk_172 (dk_at dksL_law_25 4 rfl rfl)
theorem dL_law_664 : decode cL_law 664 = .ok (.iload 5, 2) := dk_21 5 (dk_at dksL_law_25 5 rfl rfl)
theorem dL_law_666 : decode cL_law 666 = .ok (.ifCond .ne 15, 3) := dk_154 0 15 (dk_at dksL_law_25 7 rfl rfl)
theorem dL_law_669 : decode cL_law 669 = .ok (.aload_n 3, 1) := dk_45 (dk_at dksL_law_25 10 rfl rfl)
theorem dL_law_670 : decode cL_law 670 = .ok (.iconst 0, 1) := dk_3 (dk_at dksL_law_25 11 rfl rfl)
theorem dL_law_671 : decode cL_law 671 = .ok (.laload, 1) := dk_47 (dk_at dksL_law_25 12 rfl rfl)
theorem dL_law_672 : decode cL_law 672 = .ok (.iload 6, 2) := dk_21 6 (dk_at dksL_law_25 13 rfl rfl)
theorem dL_law_674 : decode cL_law 674 = .ok (.i2l, 1) := dk_133 (dk_at dksL_law_25 15 rfl rfl)
theorem dL_law_675 : decode cL_law 675 = .ok (.lcmp, 1) := dk_148 (dk_at dksL_law_25 16 rfl rfl)
theorem dL_law_676 : decode cL_law 676 = .ok (.ifCond .eq 5, 3) := dk_153 0 5 (dk_at dksL_law_25 17 rfl rfl)
theorem dL_law_679 : decode cL_law 679 = .ok (.iconst 0, 1) := dk_3 (dk_at dksL_law_25 20 rfl rfl)
theorem dL_law_680 : decode cL_law 680 = .ok (.ireturn, 1) := dk_172 (dk_at dksL_law_25 21 rfl rfl)
theorem dL_law_681 : decode cL_law 681 = .ok (.goto 960, 3) := dk_167 3 192 (dk_at dksL_law_26 0 rfl rfl)
theorem dL_law_684 : decode cL_law 684 = .ok (.aload_n 1, 1) := dk_43 (dk_at dksL_law_26 3 rfl rfl)
theorem dL_law_685 : decode cL_law 685 = .ok (.aload_n 0, 1) := dk_42 (dk_at dksL_law_26 4 rfl rfl)
theorem dL_law_686 : decode cL_law 686 = .ok (.iload 4, 2) := dk_21 4 (dk_at dksL_law_26 5 rfl rfl)
theorem dL_law_688 : decode cL_law 688 = .ok (.iconst 1, 1) := dk_4 (dk_at dksL_law_26 7 rfl rfl)
theorem dL_law_689 : decode cL_law 689 = .ok (.iadd, 1) := dk_96 (dk_at dksL_law_26 8 rfl rfl)
theorem dL_law_690 : decode cL_law 690 = .ok (.iaload, 1) := dk_46 (dk_at dksL_law_26 9 rfl rfl)
theorem dL_law_691 : decode cL_law 691 = .ok (.aload_n 0, 1) := dk_42 (dk_at dksL_law_26 10 rfl rfl)
theorem dL_law_692 : decode cL_law 692 = .ok (.iload 4, 2) := dk_21 4 (dk_at dksL_law_26 11 rfl rfl)
theorem dL_law_694 : decode cL_law 694 = .ok (.iconst 2, 1) := dk_5 (dk_at dksL_law_26 13 rfl rfl)
theorem dL_law_695 : decode cL_law 695 = .ok (.iadd, 1) := dk_96 (dk_at dksL_law_26 14 rfl rfl)
theorem dL_law_696 : decode cL_law 696 = .ok (.iaload, 1) := dk_46 (dk_at dksL_law_26 15 rfl rfl)
theorem dL_law_697 : decode cL_law 697 = .ok (.aload_n 0, 1) := dk_42 (dk_at dksL_law_26 16 rfl rfl)
theorem dL_law_698 : decode cL_law 698 = .ok (.iload 4, 2) := dk_21 4 (dk_at dksL_law_26 17 rfl rfl)
theorem dL_law_700 : decode cL_law 700 = .ok (.iconst 3, 1) := dk_6 (dk_at dksL_law_26 19 rfl rfl)
theorem dL_law_701 : decode cL_law 701 = .ok (.iadd, 1) := dk_96 (dk_at dksL_law_26 20 rfl rfl)
theorem dL_law_702 : decode cL_law 702 = .ok (.iaload, 1) := dk_46 (dk_at dksL_law_26 21 rfl rfl)
theorem dL_law_703 : decode cL_law 703 = .ok (.aload_n 0, 1) := dk_42 (dk_at dksL_law_26 22 rfl rfl)
theorem dL_law_704 : decode cL_law 704 = .ok (.iload 4, 2) := dk_21 4 (dk_at dksL_law_27 0 rfl rfl)
theorem dL_law_706 : decode cL_law 706 = .ok (.iconst 4, 1) := dk_7 (dk_at dksL_law_27 2 rfl rfl)
theorem dL_law_707 : decode cL_law 707 = .ok (.iadd, 1) := dk_96 (dk_at dksL_law_27 3 rfl rfl)
theorem dL_law_708 : decode cL_law 708 = .ok (.iaload, 1) := dk_46 (dk_at dksL_law_27 4 rfl rfl)
theorem dL_law_709 : decode cL_law 709 = .ok (.ifCond .eq 7, 3) := dk_153 0 7 (dk_at dksL_law_27 5 rfl rfl)
theorem dL_law_712 : decode cL_law 712 = .ok (.iconst 1, 1) := dk_4 (dk_at dksL_law_27 8 rfl rfl)
theorem dL_law_713 : decode cL_law 713 = .ok (.goto 4, 3) := dk_167 0 4 (dk_at dksL_law_27 9 rfl rfl)
theorem dL_law_716 : decode cL_law 716 = .ok (.iconst 0, 1) := dk_3 (dk_at dksL_law_27 12 rfl rfl)
theorem dL_law_717 : decode cL_law 717 = .ok (.aload_n 3, 1) := dk_45 (dk_at dksL_law_27 13 rfl rfl)
theorem dL_law_718 : decode cL_law 718 = .ok (.invokestatic 116, 3) := dk_184 0 116 (dk_at dksL_law_27 14 rfl rfl)
theorem dL_law_721 : decode cL_law 721 = .ok (.istore 5, 2) := dk_54 5 (dk_at dksL_law_27 17 rfl rfl)
theorem dL_law_723 : decode cL_law 723 = .ok (.aload_n 2, 1) := dk_44 (dk_at dksL_law_27 19 rfl rfl)
theorem dL_law_724 : decode cL_law 724 = .ok (.aload_n 0, 1) := dk_42 (dk_at dksL_law_27 20 rfl rfl)
theorem dL_law_725 : decode cL_law 725 = .ok (.iload 4, 2) := dk_21 4 (dk_at dksL_law_27 21 rfl rfl)
theorem dL_law_727 : decode cL_law 727 = .ok (.iconst 1, 1) := dk_4 (dk_at dksL_law_27 23 rfl rfl)
theorem dL_law_728 : decode cL_law 728 = .ok (.iadd, 1) := dk_96 (dk_at dksL_law_28 0 rfl rfl)
theorem dL_law_729 : decode cL_law 729 = .ok (.iaload, 1) := dk_46 (dk_at dksL_law_28 1 rfl rfl)
theorem dL_law_730 : decode cL_law 730 = .ok (.aload_n 0, 1) := dk_42 (dk_at dksL_law_28 2 rfl rfl)
theorem dL_law_731 : decode cL_law 731 = .ok (.iload 4, 2) := dk_21 4 (dk_at dksL_law_28 3 rfl rfl)
theorem dL_law_733 : decode cL_law 733 = .ok (.iconst 2, 1) := dk_5 (dk_at dksL_law_28 5 rfl rfl)
theorem dL_law_734 : decode cL_law 734 = .ok (.iadd, 1) := dk_96 (dk_at dksL_law_28 6 rfl rfl)
theorem dL_law_735 : decode cL_law 735 = .ok (.iaload, 1) := dk_46 (dk_at dksL_law_28 7 rfl rfl)
theorem dL_law_736 : decode cL_law 736 = .ok (.aload_n 0, 1) := dk_42 (dk_at dksL_law_28 8 rfl rfl)
theorem dL_law_737 : decode cL_law 737 = .ok (.iload 4, 2) := dk_21 4 (dk_at dksL_law_28 9 rfl rfl)
theorem dL_law_739 : decode cL_law 739 = .ok (.iconst 3, 1) := dk_6 (dk_at dksL_law_28 11 rfl rfl)
theorem dL_law_740 : decode cL_law 740 = .ok (.iadd, 1) := dk_96 (dk_at dksL_law_28 12 rfl rfl)
theorem dL_law_741 : decode cL_law 741 = .ok (.iaload, 1) := dk_46 (dk_at dksL_law_28 13 rfl rfl)
theorem dL_law_742 : decode cL_law 742 = .ok (.aload_n 0, 1) := dk_42 (dk_at dksL_law_28 14 rfl rfl)
theorem dL_law_743 : decode cL_law 743 = .ok (.iload 4, 2) := dk_21 4 (dk_at dksL_law_28 15 rfl rfl)
theorem dL_law_745 : decode cL_law 745 = .ok (.iconst 4, 1) := dk_7 (dk_at dksL_law_28 17 rfl rfl)
theorem dL_law_746 : decode cL_law 746 = .ok (.iadd, 1) := dk_96 (dk_at dksL_law_28 18 rfl rfl)
theorem dL_law_747 : decode cL_law 747 = .ok (.iaload, 1) := dk_46 (dk_at dksL_law_28 19 rfl rfl)
theorem dL_law_748 : decode cL_law 748 = .ok (.ifCond .eq 7, 3) := dk_153 0 7 (dk_at dksL_law_28 20 rfl rfl)
theorem dL_law_751 : decode cL_law 751 = .ok (.iconst 1, 1) := dk_4 (dk_at dksL_law_28 23 rfl rfl)
theorem dL_law_752 : decode cL_law 752 = .ok (.goto 4, 3) := dk_167 0 4 (dk_at dksL_law_29 0 rfl rfl)
theorem dL_law_755 : decode cL_law 755 = .ok (.iconst 0, 1) := dk_3 (dk_at dksL_law_29 3 rfl rfl)
theorem dL_law_756 : decode cL_law 756 = .ok (.invokevirtual 119, 3) := dk_182 0 119 (dk_at dksL_law_29 4 rfl rfl)
theorem dL_law_759 : decode cL_law 759 = .ok (.istore 6, 2) := dk_54 6 (dk_at dksL_law_29 7 rfl rfl)
theorem dL_law_761 : decode cL_law 761 = .ok (.aload_n 2, 1) := dk_44 (dk_at dksL_law_29 9 rfl rfl)
theorem dL_law_762 : decode cL_law 762 = .ok (.invokevirtual 91, 3) := dk_182 0 91 (dk_at dksL_law_29 10 rfl rfl)
theorem dL_law_765 : decode cL_law 765 = .ok (.iload 5, 2) := dk_21 5 (dk_at dksL_law_29 13 rfl rfl)
theorem dL_law_767 : decode cL_law 767 = .ok (.if_icmp .eq 5, 3) := dk_159 0 5 (dk_at dksL_law_29 15 rfl rfl)
theorem dL_law_770 : decode cL_law 770 = .ok (.iconst 0, 1) := dk_3 (dk_at dksL_law_29 18 rfl rfl)
theorem dL_law_771 : decode cL_law 771 = .ok (.ireturn, 1) := dk_172 (dk_at dksL_law_29 19 rfl rfl)
theorem dL_law_772 : decode cL_law 772 = .ok (.iload 5, 2) := dk_21 5 (dk_at dksL_law_29 20 rfl rfl)
theorem dL_law_774 : decode cL_law 774 = .ok (.ifCond .ne 15, 3) := dk_154 0 15 (dk_at dksL_law_30 0 rfl rfl)
theorem dL_law_777 : decode cL_law 777 = .ok (.aload_n 3, 1) := dk_45 (dk_at dksL_law_30 3 rfl rfl)
theorem dL_law_778 : decode cL_law 778 = .ok (.iconst 0, 1) := dk_3 (dk_at dksL_law_30 4 rfl rfl)
theorem dL_law_779 : decode cL_law 779 = .ok (.laload, 1) := dk_47 (dk_at dksL_law_30 5 rfl rfl)
theorem dL_law_780 : decode cL_law 780 = .ok (.iload 6, 2) := dk_21 6 (dk_at dksL_law_30 6 rfl rfl)
theorem dL_law_782 : decode cL_law 782 = .ok (.i2l, 1) := dk_133 (dk_at dksL_law_30 8 rfl rfl)
theorem dL_law_783 : decode cL_law 783 = .ok (.lcmp, 1) := dk_148 (dk_at dksL_law_30 9 rfl rfl)
theorem dL_law_784 : decode cL_law 784 = .ok (.ifCond .eq 5, 3) := dk_153 0 5 (dk_at dksL_law_30 10 rfl rfl)
theorem dL_law_787 : decode cL_law 787 = .ok (.iconst 0, 1) := dk_3 (dk_at dksL_law_30 13 rfl rfl)
theorem dL_law_788 : decode cL_law 788 = .ok (.ireturn, 1) := dk_172 (dk_at dksL_law_30 14 rfl rfl)
theorem dL_law_789 : decode cL_law 789 = .ok (.goto 852, 3) := dk_167 3 84 (dk_at dksL_law_30 15 rfl rfl)
theorem dL_law_792 : decode cL_law 792 = .ok (.aload_n 1, 1) := dk_43 (dk_at dksL_law_30 18 rfl rfl)
theorem dL_law_793 : decode cL_law 793 = .ok (.aload_n 0, 1) := dk_42 (dk_at dksL_law_30 19 rfl rfl)
theorem dL_law_794 : decode cL_law 794 = .ok (.iload 4, 2) := dk_21 4 (dk_at dksL_law_30 20 rfl rfl)
theorem dL_law_796 : decode cL_law 796 = .ok (.iconst 1, 1) := dk_4 (dk_at dksL_law_30 22 rfl rfl)
theorem dL_law_797 : decode cL_law 797 = .ok (.iadd, 1) := dk_96 (dk_at dksL_law_30 23 rfl rfl)
theorem dL_law_798 : decode cL_law 798 = .ok (.iaload, 1) := dk_46 (dk_at dksL_law_31 0 rfl rfl)
theorem dL_law_799 : decode cL_law 799 = .ok (.aload_n 0, 1) := dk_42 (dk_at dksL_law_31 1 rfl rfl)
theorem dL_law_800 : decode cL_law 800 = .ok (.iload 4, 2) := dk_21 4 (dk_at dksL_law_31 2 rfl rfl)
theorem dL_law_802 : decode cL_law 802 = .ok (.iconst 2, 1) := dk_5 (dk_at dksL_law_31 4 rfl rfl)
theorem dL_law_803 : decode cL_law 803 = .ok (.iadd, 1) := dk_96 (dk_at dksL_law_31 5 rfl rfl)
theorem dL_law_804 : decode cL_law 804 = .ok (.iaload, 1) := dk_46 (dk_at dksL_law_31 6 rfl rfl)
theorem dL_law_805 : decode cL_law 805 = .ok (.aload_n 0, 1) := dk_42 (dk_at dksL_law_31 7 rfl rfl)
theorem dL_law_806 : decode cL_law 806 = .ok (.iload 4, 2) := dk_21 4 (dk_at dksL_law_31 8 rfl rfl)
theorem dL_law_808 : decode cL_law 808 = .ok (.iconst 3, 1) := dk_6 (dk_at dksL_law_31 10 rfl rfl)
theorem dL_law_809 : decode cL_law 809 = .ok (.iadd, 1) := dk_96 (dk_at dksL_law_31 11 rfl rfl)
theorem dL_law_810 : decode cL_law 810 = .ok (.iaload, 1) := dk_46 (dk_at dksL_law_31 12 rfl rfl)
theorem dL_law_811 : decode cL_law 811 = .ok (.aload_n 3, 1) := dk_45 (dk_at dksL_law_31 13 rfl rfl)
theorem dL_law_812 : decode cL_law 812 = .ok (.invokestatic 120, 3) := dk_184 0 120 (dk_at dksL_law_31 14 rfl rfl)
theorem dL_law_815 : decode cL_law 815 = .ok (.istore 5, 2) := dk_54 5 (dk_at dksL_law_31 17 rfl rfl)
theorem dL_law_817 : decode cL_law 817 = .ok (.aload_n 2, 1) := dk_44 (dk_at dksL_law_31 19 rfl rfl)
theorem dL_law_818 : decode cL_law 818 = .ok (.aload_n 0, 1) := dk_42 (dk_at dksL_law_31 20 rfl rfl)
theorem dL_law_819 : decode cL_law 819 = .ok (.iload 4, 2) := dk_21 4 (dk_at dksL_law_31 21 rfl rfl)
theorem dL_law_821 : decode cL_law 821 = .ok (.iconst 1, 1) := dk_4 (dk_at dksL_law_31 23 rfl rfl)
theorem dL_law_822 : decode cL_law 822 = .ok (.iadd, 1) := dk_96 (dk_at dksL_law_32 0 rfl rfl)
theorem dL_law_823 : decode cL_law 823 = .ok (.iaload, 1) := dk_46 (dk_at dksL_law_32 1 rfl rfl)
theorem dL_law_824 : decode cL_law 824 = .ok (.aload_n 0, 1) := dk_42 (dk_at dksL_law_32 2 rfl rfl)
theorem dL_law_825 : decode cL_law 825 = .ok (.iload 4, 2) := dk_21 4 (dk_at dksL_law_32 3 rfl rfl)
theorem dL_law_827 : decode cL_law 827 = .ok (.iconst 2, 1) := dk_5 (dk_at dksL_law_32 5 rfl rfl)
theorem dL_law_828 : decode cL_law 828 = .ok (.iadd, 1) := dk_96 (dk_at dksL_law_32 6 rfl rfl)
theorem dL_law_829 : decode cL_law 829 = .ok (.iaload, 1) := dk_46 (dk_at dksL_law_32 7 rfl rfl)
theorem dL_law_830 : decode cL_law 830 = .ok (.aload_n 0, 1) := dk_42 (dk_at dksL_law_32 8 rfl rfl)
theorem dL_law_831 : decode cL_law 831 = .ok (.iload 4, 2) := dk_21 4 (dk_at dksL_law_32 9 rfl rfl)
theorem dL_law_833 : decode cL_law 833 = .ok (.iconst 3, 1) := dk_6 (dk_at dksL_law_32 11 rfl rfl)
theorem dL_law_834 : decode cL_law 834 = .ok (.iadd, 1) := dk_96 (dk_at dksL_law_32 12 rfl rfl)
theorem dL_law_835 : decode cL_law 835 = .ok (.iaload, 1) := dk_46 (dk_at dksL_law_32 13 rfl rfl)
theorem dL_law_836 : decode cL_law 836 = .ok (.invokevirtual 122, 3) := dk_182 0 122 (dk_at dksL_law_32 14 rfl rfl)
theorem dL_law_839 : decode cL_law 839 = .ok (.istore 6, 2) := dk_54 6 (dk_at dksL_law_32 17 rfl rfl)
theorem dL_law_841 : decode cL_law 841 = .ok (.aload_n 2, 1) := dk_44 (dk_at dksL_law_32 19 rfl rfl)
theorem dL_law_842 : decode cL_law 842 = .ok (.invokevirtual 91, 3) := dk_182 0 91 (dk_at dksL_law_32 20 rfl rfl)
theorem dL_law_845 : decode cL_law 845 = .ok (.iload 5, 2) := dk_21 5 (dk_at dksL_law_33 0 rfl rfl)
theorem dL_law_847 : decode cL_law 847 = .ok (.if_icmp .eq 5, 3) := dk_159 0 5 (dk_at dksL_law_33 2 rfl rfl)
theorem dL_law_850 : decode cL_law 850 = .ok (.iconst 0, 1) := dk_3 (dk_at dksL_law_33 5 rfl rfl)
theorem dL_law_851 : decode cL_law 851 = .ok (.ireturn, 1) := dk_172 (dk_at dksL_law_33 6 rfl rfl)
theorem dL_law_852 : decode cL_law 852 = .ok (.iload 5, 2) := dk_21 5 (dk_at dksL_law_33 7 rfl rfl)
theorem dL_law_854 : decode cL_law 854 = .ok (.ifCond .ne 22, 3) := dk_154 0 22 (dk_at dksL_law_33 9 rfl rfl)
theorem dL_law_857 : decode cL_law 857 = .ok (.aload_n 3, 1) := dk_45 (dk_at dksL_law_33 12 rfl rfl)
theorem dL_law_858 : decode cL_law 858 = .ok (.iconst 0, 1) := dk_3 (dk_at dksL_law_33 13 rfl rfl)
theorem dL_law_859 : decode cL_law 859 = .ok (.laload, 1) := dk_47 (dk_at dksL_law_33 14 rfl rfl)
theorem dL_law_860 : decode cL_law 860 = .ok (.iload 6, 2) := dk_21 6 (dk_at dksL_law_33 15 rfl rfl)
theorem dL_law_862 : decode cL_law 862 = .ok (.ifCond .eq 7, 3) := dk_153 0 7 (dk_at dksL_law_33 17 rfl rfl)
theorem dL_law_865 : decode cL_law 865 = .ok (.lconst 1, 1) := dk_10 (dk_at dksL_law_33 20 rfl rfl)
theorem dL_law_866 : decode cL_law 866 = .ok (.goto 4, 3) := dk_167 0 4 (dk_at dksL_law_33 21 rfl rfl)
theorem dL_law_869 : decode cL_law 869 = .ok (.lconst 0, 1) := dk_9 (dk_at dksL_law_34 0 rfl rfl)
theorem dL_law_870 : decode cL_law 870 = .ok (.lcmp, 1) := dk_148 (dk_at dksL_law_34 1 rfl rfl)
theorem dL_law_871 : decode cL_law 871 = .ok (.ifCond .eq 5, 3) := dk_153 0 5 (dk_at dksL_law_34 2 rfl rfl)
theorem dL_law_874 : decode cL_law 874 = .ok (.iconst 0, 1) := dk_3 (dk_at dksL_law_34 5 rfl rfl)
theorem dL_law_875 : decode cL_law 875 = .ok (.ireturn, 1) := dk_172 (dk_at dksL_law_34 6 rfl rfl)
theorem dL_law_876 : decode cL_law 876 = .ok (.goto 765, 3) := dk_167 2 253 (dk_at dksL_law_34 7 rfl rfl)
theorem dL_law_879 : decode cL_law 879 = .ok (.aload_n 1, 1) := dk_43 (dk_at dksL_law_34 10 rfl rfl)
theorem dL_law_880 : decode cL_law 880 = .ok (.aload_n 0, 1) := dk_42 (dk_at dksL_law_34 11 rfl rfl)
theorem dL_law_881 : decode cL_law 881 = .ok (.iload 4, 2) := dk_21 4 (dk_at dksL_law_34 12 rfl rfl)
theorem dL_law_883 : decode cL_law 883 = .ok (.iconst 1, 1) := dk_4 (dk_at dksL_law_34 14 rfl rfl)
theorem dL_law_884 : decode cL_law 884 = .ok (.iadd, 1) := dk_96 (dk_at dksL_law_34 15 rfl rfl)
theorem dL_law_885 : decode cL_law 885 = .ok (.iaload, 1) := dk_46 (dk_at dksL_law_34 16 rfl rfl)
theorem dL_law_886 : decode cL_law 886 = .ok (.aload_n 0, 1) := dk_42 (dk_at dksL_law_34 17 rfl rfl)
theorem dL_law_887 : decode cL_law 887 = .ok (.iload 4, 2) := dk_21 4 (dk_at dksL_law_34 18 rfl rfl)
theorem dL_law_889 : decode cL_law 889 = .ok (.iconst 2, 1) := dk_5 (dk_at dksL_law_34 20 rfl rfl)
theorem dL_law_890 : decode cL_law 890 = .ok (.iadd, 1) := dk_96 (dk_at dksL_law_34 21 rfl rfl)
theorem dL_law_891 : decode cL_law 891 = .ok (.iaload, 1) := dk_46 (dk_at dksL_law_34 22 rfl rfl)
theorem dL_law_892 : decode cL_law 892 = .ok (.aload_n 3, 1) := dk_45 (dk_at dksL_law_34 23 rfl rfl)
theorem dL_law_893 : decode cL_law 893 = .ok (.invokestatic 123, 3) := dk_184 0 123 (dk_at dksL_law_35 0 rfl rfl)
theorem dL_law_896 : decode cL_law 896 = .ok (.istore 5, 2) := dk_54 5 (dk_at dksL_law_35 3 rfl rfl)
theorem dL_law_898 : decode cL_law 898 = .ok (.aload_n 2, 1) := dk_44 (dk_at dksL_law_35 5 rfl rfl)
theorem dL_law_899 : decode cL_law 899 = .ok (.aload_n 0, 1) := dk_42 (dk_at dksL_law_35 6 rfl rfl)
theorem dL_law_900 : decode cL_law 900 = .ok (.iload 4, 2) := dk_21 4 (dk_at dksL_law_35 7 rfl rfl)
theorem dL_law_902 : decode cL_law 902 = .ok (.iconst 1, 1) := dk_4 (dk_at dksL_law_35 9 rfl rfl)
theorem dL_law_903 : decode cL_law 903 = .ok (.iadd, 1) := dk_96 (dk_at dksL_law_35 10 rfl rfl)
theorem dL_law_904 : decode cL_law 904 = .ok (.iaload, 1) := dk_46 (dk_at dksL_law_35 11 rfl rfl)
theorem dL_law_905 : decode cL_law 905 = .ok (.aload_n 0, 1) := dk_42 (dk_at dksL_law_35 12 rfl rfl)
theorem dL_law_906 : decode cL_law 906 = .ok (.iload 4, 2) := dk_21 4 (dk_at dksL_law_35 13 rfl rfl)
theorem dL_law_908 : decode cL_law 908 = .ok (.iconst 2, 1) := dk_5 (dk_at dksL_law_35 15 rfl rfl)
theorem dL_law_909 : decode cL_law 909 = .ok (.iadd, 1) := dk_96 (dk_at dksL_law_35 16 rfl rfl)
theorem dL_law_910 : decode cL_law 910 = .ok (.iaload, 1) := dk_46 (dk_at dksL_law_35 17 rfl rfl)
theorem dL_law_911 : decode cL_law 911 = .ok (.invokevirtual 125, 3) := dk_182 0 125 (dk_at dksL_law_35 18 rfl rfl)
theorem dL_law_914 : decode cL_law 914 = .ok (.istore 6, 2) := dk_54 6 (dk_at dksL_law_35 21 rfl rfl)
theorem dL_law_916 : decode cL_law 916 = .ok (.aload_n 2, 1) := dk_44 (dk_at dksL_law_35 23 rfl rfl)
theorem dL_law_917 : decode cL_law 917 = .ok (.invokevirtual 91, 3) := dk_182 0 91 (dk_at dksL_law_36 0 rfl rfl)
theorem dL_law_920 : decode cL_law 920 = .ok (.iload 5, 2) := dk_21 5 (dk_at dksL_law_36 3 rfl rfl)
theorem dL_law_922 : decode cL_law 922 = .ok (.if_icmp .eq 5, 3) := dk_159 0 5 (dk_at dksL_law_36 5 rfl rfl)
theorem dL_law_925 : decode cL_law 925 = .ok (.iconst 0, 1) := dk_3 (dk_at dksL_law_36 8 rfl rfl)
theorem dL_law_926 : decode cL_law 926 = .ok (.ireturn, 1) := dk_172 (dk_at dksL_law_36 9 rfl rfl)
theorem dL_law_927 : decode cL_law 927 = .ok (.iload 5, 2) := dk_21 5 (dk_at dksL_law_36 10 rfl rfl)
theorem dL_law_929 : decode cL_law 929 = .ok (.ifCond .ne 15, 3) := dk_154 0 15 (dk_at dksL_law_36 12 rfl rfl)
theorem dL_law_932 : decode cL_law 932 = .ok (.aload_n 3, 1) := dk_45 (dk_at dksL_law_36 15 rfl rfl)
theorem dL_law_933 : decode cL_law 933 = .ok (.iconst 0, 1) := dk_3 (dk_at dksL_law_36 16 rfl rfl)
theorem dL_law_934 : decode cL_law 934 = .ok (.laload, 1) := dk_47 (dk_at dksL_law_36 17 rfl rfl)
theorem dL_law_935 : decode cL_law 935 = .ok (.iload 6, 2) := dk_21 6 (dk_at dksL_law_36 18 rfl rfl)
theorem dL_law_937 : decode cL_law 937 = .ok (.i2l, 1) := dk_133 (dk_at dksL_law_36 20 rfl rfl)
theorem dL_law_938 : decode cL_law 938 = .ok (.lcmp, 1) := dk_148 (dk_at dksL_law_36 21 rfl rfl)
theorem dL_law_939 : decode cL_law 939 = .ok (.ifCond .eq 5, 3) := dk_153 0 5 (dk_at dksL_law_37 0 rfl rfl)
theorem dL_law_942 : decode cL_law 942 = .ok (.iconst 0, 1) := dk_3 (dk_at dksL_law_37 3 rfl rfl)
theorem dL_law_943 : decode cL_law 943 = .ok (.ireturn, 1) := dk_172 (dk_at dksL_law_37 4 rfl rfl)
theorem dL_law_944 : decode cL_law 944 = .ok (.goto 697, 3) := dk_167 2 185 (dk_at dksL_law_37 5 rfl rfl)
theorem dL_law_947 : decode cL_law 947 = .ok (.aload_n 1, 1) := dk_43 (dk_at dksL_law_37 8 rfl rfl)
theorem dL_law_948 : decode cL_law 948 = .ok (.aload_n 0, 1) := dk_42 (dk_at dksL_law_37 9 rfl rfl)
theorem dL_law_949 : decode cL_law 949 = .ok (.iload 4, 2) := dk_21 4 (dk_at dksL_law_37 10 rfl rfl)
theorem dL_law_951 : decode cL_law 951 = .ok (.iconst 1, 1) := dk_4 (dk_at dksL_law_37 12 rfl rfl)
theorem dL_law_952 : decode cL_law 952 = .ok (.iadd, 1) := dk_96 (dk_at dksL_law_37 13 rfl rfl)
theorem dL_law_953 : decode cL_law 953 = .ok (.iaload, 1) := dk_46 (dk_at dksL_law_37 14 rfl rfl)
theorem dL_law_954 : decode cL_law 954 = .ok (.aload_n 0, 1) := dk_42 (dk_at dksL_law_37 15 rfl rfl)
theorem dL_law_955 : decode cL_law 955 = .ok (.iload 4, 2) := dk_21 4 (dk_at dksL_law_37 16 rfl rfl)
theorem dL_law_957 : decode cL_law 957 = .ok (.iconst 2, 1) := dk_5 (dk_at dksL_law_37 18 rfl rfl)
theorem dL_law_958 : decode cL_law 958 = .ok (.iadd, 1) := dk_96 (dk_at dksL_law_37 19 rfl rfl)
theorem dL_law_959 : decode cL_law 959 = .ok (.iaload, 1) := dk_46 (dk_at dksL_law_37 20 rfl rfl)
theorem dL_law_960 : decode cL_law 960 = .ok (.aload_n 0, 1) := dk_42 (dk_at dksL_law_37 21 rfl rfl)
theorem dL_law_961 : decode cL_law 961 = .ok (.iload 4, 2) := dk_21 4 (dk_at dksL_law_37 22 rfl rfl)
theorem dL_law_963 : decode cL_law 963 = .ok (.iconst 3, 1) := dk_6 (dk_at dksL_law_38 0 rfl rfl)
theorem dL_law_964 : decode cL_law 964 = .ok (.iadd, 1) := dk_96 (dk_at dksL_law_38 1 rfl rfl)
theorem dL_law_965 : decode cL_law 965 = .ok (.iaload, 1) := dk_46 (dk_at dksL_law_38 2 rfl rfl)
theorem dL_law_966 : decode cL_law 966 = .ok (.aload_n 3, 1) := dk_45 (dk_at dksL_law_38 3 rfl rfl)
theorem dL_law_967 : decode cL_law 967 = .ok (.invokestatic 126, 3) := dk_184 0 126 (dk_at dksL_law_38 4 rfl rfl)
theorem dL_law_970 : decode cL_law 970 = .ok (.istore 5, 2) := dk_54 5 (dk_at dksL_law_38 7 rfl rfl)
theorem dL_law_972 : decode cL_law 972 = .ok (.aload_n 2, 1) := dk_44 (dk_at dksL_law_38 9 rfl rfl)
theorem dL_law_973 : decode cL_law 973 = .ok (.aload_n 0, 1) := dk_42 (dk_at dksL_law_38 10 rfl rfl)
theorem dL_law_974 : decode cL_law 974 = .ok (.iload 4, 2) := dk_21 4 (dk_at dksL_law_38 11 rfl rfl)
theorem dL_law_976 : decode cL_law 976 = .ok (.iconst 1, 1) := dk_4 (dk_at dksL_law_38 13 rfl rfl)
theorem dL_law_977 : decode cL_law 977 = .ok (.iadd, 1) := dk_96 (dk_at dksL_law_38 14 rfl rfl)
theorem dL_law_978 : decode cL_law 978 = .ok (.iaload, 1) := dk_46 (dk_at dksL_law_38 15 rfl rfl)
theorem dL_law_979 : decode cL_law 979 = .ok (.aload_n 0, 1) := dk_42 (dk_at dksL_law_38 16 rfl rfl)
theorem dL_law_980 : decode cL_law 980 = .ok (.iload 4, 2) := dk_21 4 (dk_at dksL_law_38 17 rfl rfl)
theorem dL_law_982 : decode cL_law 982 = .ok (.iconst 2, 1) := dk_5 (dk_at dksL_law_38 19 rfl rfl)
theorem dL_law_983 : decode cL_law 983 = .ok (.iadd, 1) := dk_96 (dk_at dksL_law_38 20 rfl rfl)
theorem dL_law_984 : decode cL_law 984 = .ok (.iaload, 1) := dk_46 (dk_at dksL_law_38 21 rfl rfl)
theorem dL_law_985 : decode cL_law 985 = .ok (.aload_n 0, 1) := dk_42 (dk_at dksL_law_38 22 rfl rfl)
theorem dL_law_986 : decode cL_law 986 = .ok (.iload 4, 2) := dk_21 4 (dk_at dksL_law_39 0 rfl rfl)
theorem dL_law_988 : decode cL_law 988 = .ok (.iconst 3, 1) := dk_6 (dk_at dksL_law_39 2 rfl rfl)
theorem dL_law_989 : decode cL_law 989 = .ok (.iadd, 1) := dk_96 (dk_at dksL_law_39 3 rfl rfl)
theorem dL_law_990 : decode cL_law 990 = .ok (.iaload, 1) := dk_46 (dk_at dksL_law_39 4 rfl rfl)
theorem dL_law_991 : decode cL_law 991 = .ok (.invokevirtual 128, 3) := dk_182 0 128 (dk_at dksL_law_39 5 rfl rfl)
theorem dL_law_994 : decode cL_law 994 = .ok (.istore 6, 2) := dk_54 6 (dk_at dksL_law_39 8 rfl rfl)
theorem dL_law_996 : decode cL_law 996 = .ok (.aload_n 2, 1) := dk_44 (dk_at dksL_law_39 10 rfl rfl)
theorem dL_law_997 : decode cL_law 997 = .ok (.invokevirtual 91, 3) := dk_182 0 91 (dk_at dksL_law_39 11 rfl rfl)
theorem dL_law_1000 : decode cL_law 1000 = .ok (.iload 5, 2) := dk_21 5 (dk_at dksL_law_39 14 rfl rfl)
theorem dL_law_1002 : decode cL_law 1002 = .ok (.if_icmp .eq 5, 3) := dk_159 0 5 (dk_at dksL_law_39 16 rfl rfl)
theorem dL_law_1005 : decode cL_law 1005 = .ok (.iconst 0, 1) := dk_3 (dk_at dksL_law_39 19 rfl rfl)
theorem dL_law_1006 : decode cL_law 1006 = .ok (.ireturn, 1) := dk_172 (dk_at dksL_law_39 20 rfl rfl)
theorem dL_law_1007 : decode cL_law 1007 = .ok (.iload 5, 2) := dk_21 5 (dk_at dksL_law_39 21 rfl rfl)
theorem dL_law_1009 : decode cL_law 1009 = .ok (.ifCond .ne 15, 3) := dk_154 0 15 (dk_at dksL_law_40 0 rfl rfl)
theorem dL_law_1012 : decode cL_law 1012 = .ok (.aload_n 3, 1) := dk_45 (dk_at dksL_law_40 3 rfl rfl)
theorem dL_law_1013 : decode cL_law 1013 = .ok (.iconst 0, 1) := dk_3 (dk_at dksL_law_40 4 rfl rfl)
theorem dL_law_1014 : decode cL_law 1014 = .ok (.laload, 1) := dk_47 (dk_at dksL_law_40 5 rfl rfl)
theorem dL_law_1015 : decode cL_law 1015 = .ok (.iload 6, 2) := dk_21 6 (dk_at dksL_law_40 6 rfl rfl)
theorem dL_law_1017 : decode cL_law 1017 = .ok (.i2l, 1) := dk_133 (dk_at dksL_law_40 8 rfl rfl)
theorem dL_law_1018 : decode cL_law 1018 = .ok (.lcmp, 1) := dk_148 (dk_at dksL_law_40 9 rfl rfl)
theorem dL_law_1019 : decode cL_law 1019 = .ok (.ifCond .eq 5, 3) := dk_153 0 5 (dk_at dksL_law_40 10 rfl rfl)
theorem dL_law_1022 : decode cL_law 1022 = .ok (.iconst 0, 1) := dk_3 (dk_at dksL_law_40 13 rfl rfl)
theorem dL_law_1023 : decode cL_law 1023 = .ok (.ireturn, 1) := dk_172 (dk_at dksL_law_40 14 rfl rfl)
theorem dL_law_1024 : decode cL_law 1024 = .ok (.goto 617, 3) := dk_167 2 105 (dk_at dksL_law_40 15 rfl rfl)
theorem dL_law_1027 : decode cL_law 1027 = .ok (.aload_n 1, 1) := dk_43 (dk_at dksL_law_40 18 rfl rfl)
theorem dL_law_1028 : decode cL_law 1028 = .ok (.aload_n 0, 1) := dk_42 (dk_at dksL_law_40 19 rfl rfl)
theorem dL_law_1029 : decode cL_law 1029 = .ok (.iload 4, 2) := dk_21 4 (dk_at dksL_law_40 20 rfl rfl)
theorem dL_law_1031 : decode cL_law 1031 = .ok (.iconst 1, 1) := dk_4 (dk_at dksL_law_40 22 rfl rfl)
theorem dL_law_1032 : decode cL_law 1032 = .ok (.iadd, 1) := dk_96 (dk_at dksL_law_40 23 rfl rfl)
theorem dL_law_1033 : decode cL_law 1033 = .ok (.iaload, 1) := dk_46 (dk_at dksL_law_41 0 rfl rfl)
theorem dL_law_1034 : decode cL_law 1034 = .ok (.aload_n 0, 1) := dk_42 (dk_at dksL_law_41 1 rfl rfl)
theorem dL_law_1035 : decode cL_law 1035 = .ok (.iload 4, 2) := dk_21 4 (dk_at dksL_law_41 2 rfl rfl)
theorem dL_law_1037 : decode cL_law 1037 = .ok (.iconst 2, 1) := dk_5 (dk_at dksL_law_41 4 rfl rfl)
theorem dL_law_1038 : decode cL_law 1038 = .ok (.iadd, 1) := dk_96 (dk_at dksL_law_41 5 rfl rfl)
theorem dL_law_1039 : decode cL_law 1039 = .ok (.iaload, 1) := dk_46 (dk_at dksL_law_41 6 rfl rfl)
theorem dL_law_1040 : decode cL_law 1040 = .ok (.aload_n 0, 1) := dk_42 (dk_at dksL_law_41 7 rfl rfl)
theorem dL_law_1041 : decode cL_law 1041 = .ok (.iload 4, 2) := dk_21 4 (dk_at dksL_law_41 8 rfl rfl)
theorem dL_law_1043 : decode cL_law 1043 = .ok (.iconst 3, 1) := dk_6 (dk_at dksL_law_41 10 rfl rfl)
theorem dL_law_1044 : decode cL_law 1044 = .ok (.iadd, 1) := dk_96 (dk_at dksL_law_41 11 rfl rfl)
theorem dL_law_1045 : decode cL_law 1045 = .ok (.iaload, 1) := dk_46 (dk_at dksL_law_41 12 rfl rfl)
theorem dL_law_1046 : decode cL_law 1046 = .ok (.aload_n 0, 1) := dk_42 (dk_at dksL_law_41 13 rfl rfl)
theorem dL_law_1047 : decode cL_law 1047 = .ok (.iload 4, 2) := dk_21 4 (dk_at dksL_law_41 14 rfl rfl)
theorem dL_law_1049 : decode cL_law 1049 = .ok (.iconst 4, 1) := dk_7 (dk_at dksL_law_41 16 rfl rfl)
theorem dL_law_1050 : decode cL_law 1050 = .ok (.iadd, 1) := dk_96 (dk_at dksL_law_41 17 rfl rfl)
theorem dL_law_1051 : decode cL_law 1051 = .ok (.iaload, 1) := dk_46 (dk_at dksL_law_41 18 rfl rfl)
theorem dL_law_1052 : decode cL_law 1052 = .ok (.aload_n 0, 1) := dk_42 (dk_at dksL_law_41 19 rfl rfl)
theorem dL_law_1053 : decode cL_law 1053 = .ok (.iload 4, 2) := dk_21 4 (dk_at dksL_law_41 20 rfl rfl)
theorem dL_law_1055 : decode cL_law 1055 = .ok (.iconst 5, 1) := dk_8 (dk_at dksL_law_41 22 rfl rfl)
theorem dL_law_1056 : decode cL_law 1056 = .ok (.iadd, 1) := dk_96 (dk_at dksL_law_41 23 rfl rfl)
theorem dL_law_1057 : decode cL_law 1057 = .ok (.iaload, 1) := dk_46 (dk_at dksL_law_42 0 rfl rfl)
theorem dL_law_1058 : decode cL_law 1058 = .ok (.aload_n 0, 1) := dk_42 (dk_at dksL_law_42 1 rfl rfl)
theorem dL_law_1059 : decode cL_law 1059 = .ok (.iload 4, 2) := dk_21 4 (dk_at dksL_law_42 2 rfl rfl)
theorem dL_law_1061 : decode cL_law 1061 = .ok (.bipush 6, 2) := dk_16 6 (dk_at dksL_law_42 4 rfl rfl)
theorem dL_law_1063 : decode cL_law 1063 = .ok (.iadd, 1) := dk_96 (dk_at dksL_law_42 6 rfl rfl)
theorem dL_law_1064 : decode cL_law 1064 = .ok (.iaload, 1) := dk_46 (dk_at dksL_law_42 7 rfl rfl)
theorem dL_law_1065 : decode cL_law 1065 = .ok (.aload_n 3, 1) := dk_45 (dk_at dksL_law_42 8 rfl rfl)
theorem dL_law_1066 : decode cL_law 1066 = .ok (.invokestatic 129, 3) := dk_184 0 129 (dk_at dksL_law_42 9 rfl rfl)
theorem dL_law_1069 : decode cL_law 1069 = .ok (.istore 5, 2) := dk_54 5 (dk_at dksL_law_42 12 rfl rfl)
theorem dL_law_1071 : decode cL_law 1071 = .ok (.aload_n 2, 1) := dk_44 (dk_at dksL_law_42 14 rfl rfl)
theorem dL_law_1072 : decode cL_law 1072 = .ok (.aload_n 0, 1) := dk_42 (dk_at dksL_law_42 15 rfl rfl)
theorem dL_law_1073 : decode cL_law 1073 = .ok (.iload 4, 2) := dk_21 4 (dk_at dksL_law_42 16 rfl rfl)
theorem dL_law_1075 : decode cL_law 1075 = .ok (.iconst 1, 1) := dk_4 (dk_at dksL_law_42 18 rfl rfl)
theorem dL_law_1076 : decode cL_law 1076 = .ok (.iadd, 1) := dk_96 (dk_at dksL_law_42 19 rfl rfl)
theorem dL_law_1077 : decode cL_law 1077 = .ok (.iaload, 1) := dk_46 (dk_at dksL_law_42 20 rfl rfl)
theorem dL_law_1078 : decode cL_law 1078 = .ok (.aload_n 0, 1) := dk_42 (dk_at dksL_law_42 21 rfl rfl)
theorem dL_law_1079 : decode cL_law 1079 = .ok (.iload 4, 2) := dk_21 4 (dk_at dksL_law_42 22 rfl rfl)
theorem dL_law_1081 : decode cL_law 1081 = .ok (.iconst 2, 1) := dk_5 (dk_at dksL_law_43 0 rfl rfl)
theorem dL_law_1082 : decode cL_law 1082 = .ok (.iadd, 1) := dk_96 (dk_at dksL_law_43 1 rfl rfl)
theorem dL_law_1083 : decode cL_law 1083 = .ok (.iaload, 1) := dk_46 (dk_at dksL_law_43 2 rfl rfl)
theorem dL_law_1084 : decode cL_law 1084 = .ok (.aload_n 0, 1) := dk_42 (dk_at dksL_law_43 3 rfl rfl)
theorem dL_law_1085 : decode cL_law 1085 = .ok (.iload 4, 2) := dk_21 4 (dk_at dksL_law_43 4 rfl rfl)
theorem dL_law_1087 : decode cL_law 1087 = .ok (.iconst 3, 1) := dk_6 (dk_at dksL_law_43 6 rfl rfl)
theorem dL_law_1088 : decode cL_law 1088 = .ok (.iadd, 1) := dk_96 (dk_at dksL_law_43 7 rfl rfl)
theorem dL_law_1089 : decode cL_law 1089 = .ok (.iaload, 1) := dk_46 (dk_at dksL_law_43 8 rfl rfl)
theorem dL_law_1090 : decode cL_law 1090 = .ok (.aload_n 0, 1) := dk_42 (dk_at dksL_law_43 9 rfl rfl)
theorem dL_law_1091 : decode cL_law 1091 = .ok (.iload 4, 2) := dk_21 4 (dk_at dksL_law_43 10 rfl rfl)
theorem dL_law_1093 : decode cL_law 1093 = .ok (.iconst 4, 1) := dk_7 (dk_at dksL_law_43 12 rfl rfl)
theorem dL_law_1094 : decode cL_law 1094 = .ok (.iadd, 1) := dk_96 (dk_at dksL_law_43 13 rfl rfl)
theorem dL_law_1095 : decode cL_law 1095 = .ok (.iaload, 1) := dk_46 (dk_at dksL_law_43 14 rfl rfl)
theorem dL_law_1096 : decode cL_law 1096 = .ok (.aload_n 0, 1) := dk_42 (dk_at dksL_law_43 15 rfl rfl)
theorem dL_law_1097 : decode cL_law 1097 = .ok (.iload 4, 2) := dk_21 4 (dk_at dksL_law_43 16 rfl rfl)
theorem dL_law_1099 : decode cL_law 1099 = .ok (.iconst 5, 1) := dk_8 (dk_at dksL_law_43 18 rfl rfl)
theorem dL_law_1100 : decode cL_law 1100 = .ok (.iadd, 1) := dk_96 (dk_at dksL_law_43 19 rfl rfl)
theorem dL_law_1101 : decode cL_law 1101 = .ok (.iaload, 1) := dk_46 (dk_at dksL_law_43 20 rfl rfl)
theorem dL_law_1102 : decode cL_law 1102 = .ok (.aload_n 0, 1) := dk_42 (dk_at dksL_law_43 21 rfl rfl)
theorem dL_law_1103 : decode cL_law 1103 = .ok (.iload 4, 2) := dk_21 4 (dk_at dksL_law_43 22 rfl rfl)
theorem dL_law_1105 : decode cL_law 1105 = .ok (.bipush 6, 2) := dk_16 6 (dk_at dksL_law_44 0 rfl rfl)
theorem dL_law_1107 : decode cL_law 1107 = .ok (.iadd, 1) := dk_96 (dk_at dksL_law_44 2 rfl rfl)
theorem dL_law_1108 : decode cL_law 1108 = .ok (.iaload, 1) := dk_46 (dk_at dksL_law_44 3 rfl rfl)
theorem dL_law_1109 : decode cL_law 1109 = .ok (.invokevirtual 132, 3) := dk_182 0 132 (dk_at dksL_law_44 4 rfl rfl)
theorem dL_law_1112 : decode cL_law 1112 = .ok (.istore 6, 2) := dk_54 6 (dk_at dksL_law_44 7 rfl rfl)
theorem dL_law_1114 : decode cL_law 1114 = .ok (.aload_n 2, 1) := dk_44 (dk_at dksL_law_44 9 rfl rfl)
theorem dL_law_1115 : decode cL_law 1115 = .ok (.invokevirtual 91, 3) := dk_182 0 91 (dk_at dksL_law_44 10 rfl rfl)
theorem dL_law_1118 : decode cL_law 1118 = .ok (.iload 5, 2) := dk_21 5 (dk_at dksL_law_44 13 rfl rfl)
theorem dL_law_1120 : decode cL_law 1120 = .ok (.if_icmp .eq 5, 3) := dk_159 0 5 (dk_at dksL_law_44 15 rfl rfl)
theorem dL_law_1123 : decode cL_law 1123 = .ok (.iconst 0, 1) := dk_3 (dk_at dksL_law_44 18 rfl rfl)
theorem dL_law_1124 : decode cL_law 1124 = .ok (.ireturn, 1) := dk_172 (dk_at dksL_law_44 19 rfl rfl)
theorem dL_law_1125 : decode cL_law 1125 = .ok (.iload 5, 2) := dk_21 5 (dk_at dksL_law_44 20 rfl rfl)
theorem dL_law_1127 : decode cL_law 1127 = .ok (.ifCond .ne 15, 3) := dk_154 0 15 (dk_at dksL_law_45 0 rfl rfl)
theorem dL_law_1130 : decode cL_law 1130 = .ok (.aload_n 3, 1) := dk_45 (dk_at dksL_law_45 3 rfl rfl)
theorem dL_law_1131 : decode cL_law 1131 = .ok (.iconst 0, 1) := dk_3 (dk_at dksL_law_45 4 rfl rfl)
theorem dL_law_1132 : decode cL_law 1132 = .ok (.laload, 1) := dk_47 (dk_at dksL_law_45 5 rfl rfl)
theorem dL_law_1133 : decode cL_law 1133 = .ok (.iload 6, 2) := dk_21 6 (dk_at dksL_law_45 6 rfl rfl)
theorem dL_law_1135 : decode cL_law 1135 = .ok (.i2l, 1) := dk_133 (dk_at dksL_law_45 8 rfl rfl)
theorem dL_law_1136 : decode cL_law 1136 = .ok (.lcmp, 1) := dk_148 (dk_at dksL_law_45 9 rfl rfl)
theorem dL_law_1137 : decode cL_law 1137 = .ok (.ifCond .eq 5, 3) := dk_153 0 5 (dk_at dksL_law_45 10 rfl rfl)
theorem dL_law_1140 : decode cL_law 1140 = .ok (.iconst 0, 1) := dk_3 (dk_at dksL_law_45 13 rfl rfl)
theorem dL_law_1141 : decode cL_law 1141 = .ok (.ireturn, 1) := dk_172 (dk_at dksL_law_45 14 rfl rfl)
theorem dL_law_1142 : decode cL_law 1142 = .ok (.goto 499, 3) := dk_167 1 243 (dk_at dksL_law_45 15 rfl rfl)
theorem dL_law_1145 : decode cL_law 1145 = .ok (.aload_n 1, 1) := dk_43 (dk_at dksL_law_45 18 rfl rfl)
theorem dL_law_1146 : decode cL_law 1146 = .ok (.aload_n 3, 1) := dk_45 (dk_at dksL_law_45 19 rfl rfl)
theorem dL_law_1147 : decode cL_law 1147 = .ok (.invokestatic 133, 3) := dk_184 0 133 (dk_at dksL_law_45 20 rfl rfl)
theorem dL_law_1150 : decode cL_law 1150 = .ok (.istore 5, 2) := dk_54 5 (dk_at dksL_law_46 0 rfl rfl)
theorem dL_law_1152 : decode cL_law 1152 = .ok (.aload_n 2, 1) := dk_44 (dk_at dksL_law_46 2 rfl rfl)
theorem dL_law_1153 : decode cL_law 1153 = .ok (.invokevirtual 136, 3) := dk_182 0 136 (dk_at dksL_law_46 3 rfl rfl)
theorem dL_law_1156 : decode cL_law 1156 = .ok (.istore 6, 2) := dk_54 6 (dk_at dksL_law_46 6 rfl rfl)
theorem dL_law_1158 : decode cL_law 1158 = .ok (.aload_n 2, 1) := dk_44 (dk_at dksL_law_46 8 rfl rfl)
theorem dL_law_1159 : decode cL_law 1159 = .ok (.invokevirtual 91, 3) := dk_182 0 91 (dk_at dksL_law_46 9 rfl rfl)
theorem dL_law_1162 : decode cL_law 1162 = .ok (.iload 5, 2) := dk_21 5 (dk_at dksL_law_46 12 rfl rfl)
theorem dL_law_1164 : decode cL_law 1164 = .ok (.if_icmp .eq 5, 3) := dk_159 0 5 (dk_at dksL_law_46 14 rfl rfl)
theorem dL_law_1167 : decode cL_law 1167 = .ok (.iconst 0, 1) := dk_3 (dk_at dksL_law_46 17 rfl rfl)
theorem dL_law_1168 : decode cL_law 1168 = .ok (.ireturn, 1) := dk_172 (dk_at dksL_law_46 18 rfl rfl)
theorem dL_law_1169 : decode cL_law 1169 = .ok (.iload 5, 2) := dk_21 5 (dk_at dksL_law_46 19 rfl rfl)
theorem dL_law_1171 : decode cL_law 1171 = .ok (.ifCond .ne 15, 3) := dk_154 0 15 (dk_at dksL_law_46 21 rfl rfl)
theorem dL_law_1174 : decode cL_law 1174 = .ok (.aload_n 3, 1) := dk_45 (dk_at dksL_law_47 0 rfl rfl)
theorem dL_law_1175 : decode cL_law 1175 = .ok (.iconst 0, 1) := dk_3 (dk_at dksL_law_47 1 rfl rfl)
theorem dL_law_1176 : decode cL_law 1176 = .ok (.laload, 1) := dk_47 (dk_at dksL_law_47 2 rfl rfl)
theorem dL_law_1177 : decode cL_law 1177 = .ok (.iload 6, 2) := dk_21 6 (dk_at dksL_law_47 3 rfl rfl)
theorem dL_law_1179 : decode cL_law 1179 = .ok (.i2l, 1) := dk_133 (dk_at dksL_law_47 5 rfl rfl)
theorem dL_law_1180 : decode cL_law 1180 = .ok (.lcmp, 1) := dk_148 (dk_at dksL_law_47 6 rfl rfl)
theorem dL_law_1181 : decode cL_law 1181 = .ok (.ifCond .eq 5, 3) := dk_153 0 5 (dk_at dksL_law_47 7 rfl rfl)
theorem dL_law_1184 : decode cL_law 1184 = .ok (.iconst 0, 1) := dk_3 (dk_at dksL_law_47 10 rfl rfl)
theorem dL_law_1185 : decode cL_law 1185 = .ok (.ireturn, 1) := dk_172 (dk_at dksL_law_47 11 rfl rfl)
theorem dL_law_1186 : decode cL_law 1186 = .ok (.goto 455, 3) := dk_167 1 199 (dk_at dksL_law_47 12 rfl rfl)
theorem dL_law_1189 : decode cL_law 1189 = .ok (.aload_n 1, 1) := dk_43 (dk_at dksL_law_47 15 rfl rfl)
theorem dL_law_1190 : decode cL_law 1190 = .ok (.invokevirtual 137, 3) := dk_182 0 137 (dk_at dksL_law_47 16 rfl rfl)
theorem dL_law_1193 : decode cL_law 1193 = .ok (.aload_n 2, 1) := dk_44 (dk_at dksL_law_47 19 rfl rfl)
theorem dL_law_1194 : decode cL_law 1194 = .ok (.invokevirtual 140, 3) := dk_182 0 140 (dk_at dksL_law_47 20 rfl rfl)
theorem dL_law_1197 : decode cL_law 1197 = .ok (.if_icmp .eq 444, 3) := dk_159 1 188 (dk_at dksL_law_48 0 rfl rfl)
theorem dL_law_1200 : decode cL_law 1200 = .ok (.iconst 0, 1) := dk_3 (dk_at dksL_law_48 3 rfl rfl)
theorem dL_law_1201 : decode cL_law 1201 = .ok (.ireturn, 1) := dk_172 (dk_at dksL_law_48 4 rfl rfl)
theorem dL_law_1202 : decode cL_law 1202 = .ok (.aload_n 1, 1) := dk_43 (dk_at dksL_law_48 5 rfl rfl)
theorem dL_law_1203 : decode cL_law 1203 = .ok (.aload_n 0, 1) := dk_42 (dk_at dksL_law_48 6 rfl rfl)
theorem dL_law_1204 : decode cL_law 1204 = .ok (.iload 4, 2) := dk_21 4 (dk_at dksL_law_48 7 rfl rfl)
theorem dL_law_1206 : decode cL_law 1206 = .ok (.iconst 1, 1) := dk_4 (dk_at dksL_law_48 9 rfl rfl)
theorem dL_law_1207 : decode cL_law 1207 = .ok (.iadd, 1) := dk_96 (dk_at dksL_law_48 10 rfl rfl)
theorem dL_law_1208 : decode cL_law 1208 = .ok (.iaload, 1) := dk_46 (dk_at dksL_law_48 11 rfl rfl)
theorem dL_law_1209 : decode cL_law 1209 = .ok (.aload_n 3, 1) := dk_45 (dk_at dksL_law_48 12 rfl rfl)
theorem dL_law_1210 : decode cL_law 1210 = .ok (.invokestatic 141, 3) := dk_184 0 141 (dk_at dksL_law_48 13 rfl rfl)
theorem dL_law_1213 : decode cL_law 1213 = .ok (.istore 5, 2) := dk_54 5 (dk_at dksL_law_48 16 rfl rfl)
theorem dL_law_1215 : decode cL_law 1215 = .ok (.aload_n 2, 1) := dk_44 (dk_at dksL_law_48 18 rfl rfl)
theorem dL_law_1216 : decode cL_law 1216 = .ok (.aload_n 0, 1) := dk_42 (dk_at dksL_law_48 19 rfl rfl)
theorem dL_law_1217 : decode cL_law 1217 = .ok (.iload 4, 2) := dk_21 4 (dk_at dksL_law_48 20 rfl rfl)
theorem dL_law_1219 : decode cL_law 1219 = .ok (.iconst 1, 1) := dk_4 (dk_at dksL_law_48 22 rfl rfl)
theorem dL_law_1220 : decode cL_law 1220 = .ok (.iadd, 1) := dk_96 (dk_at dksL_law_48 23 rfl rfl)
theorem dL_law_1221 : decode cL_law 1221 = .ok (.iaload, 1) := dk_46 (dk_at dksL_law_49 0 rfl rfl)
theorem dL_law_1222 : decode cL_law 1222 = .ok (.invokevirtual 143, 3) := dk_182 0 143 (dk_at dksL_law_49 1 rfl rfl)
theorem dL_law_1225 : decode cL_law 1225 = .ok (.istore 6, 2) := dk_54 6 (dk_at dksL_law_49 4 rfl rfl)
theorem dL_law_1227 : decode cL_law 1227 = .ok (.aload_n 2, 1) := dk_44 (dk_at dksL_law_49 6 rfl rfl)
theorem dL_law_1228 : decode cL_law 1228 = .ok (.invokevirtual 91, 3) := dk_182 0 91 (dk_at dksL_law_49 7 rfl rfl)
theorem dL_law_1231 : decode cL_law 1231 = .ok (.iload 5, 2) := dk_21 5 (dk_at dksL_law_49 10 rfl rfl)
theorem dL_law_1233 : decode cL_law 1233 = .ok (.if_icmp .eq 5, 3) := dk_159 0 5 (dk_at dksL_law_49 12 rfl rfl)
theorem dL_law_1236 : decode cL_law 1236 = .ok (.iconst 0, 1) := dk_3 (dk_at dksL_law_49 15 rfl rfl)
theorem dL_law_1237 : decode cL_law 1237 = .ok (.ireturn, 1) := dk_172 (dk_at dksL_law_49 16 rfl rfl)
theorem dL_law_1238 : decode cL_law 1238 = .ok (.iload 5, 2) := dk_21 5 (dk_at dksL_law_49 17 rfl rfl)
theorem dL_law_1240 : decode cL_law 1240 = .ok (.ifCond .ne 15, 3) := dk_154 0 15 (dk_at dksL_law_49 19 rfl rfl)
theorem dL_law_1243 : decode cL_law 1243 = .ok (.aload_n 3, 1) := dk_45 (dk_at dksL_law_49 22 rfl rfl)
theorem dL_law_1244 : decode cL_law 1244 = .ok (.iconst 0, 1) := dk_3 (dk_at dksL_law_49 23 rfl rfl)
theorem dL_law_1245 : decode cL_law 1245 = .ok (.laload, 1) := dk_47 (dk_at dksL_law_50 0 rfl rfl)
theorem dL_law_1246 : decode cL_law 1246 = .ok (.iload 6, 2) := dk_21 6 (dk_at dksL_law_50 1 rfl rfl)
theorem dL_law_1248 : decode cL_law 1248 = .ok (.i2l, 1) := dk_133 (dk_at dksL_law_50 3 rfl rfl)
theorem dL_law_1249 : decode cL_law 1249 = .ok (.lcmp, 1) := dk_148 (dk_at dksL_law_50 4 rfl rfl)
theorem dL_law_1250 : decode cL_law 1250 = .ok (.ifCond .eq 5, 3) := dk_153 0 5 (dk_at dksL_law_50 5 rfl rfl)
theorem dL_law_1253 : decode cL_law 1253 = .ok (.iconst 0, 1) := dk_3 (dk_at dksL_law_50 8 rfl rfl)
theorem dL_law_1254 : decode cL_law 1254 = .ok (.ireturn, 1) := dk_172 (dk_at dksL_law_50 9 rfl rfl)
theorem dL_law_1255 : decode cL_law 1255 = .ok (.goto 386, 3) := dk_167 1 130 (dk_at dksL_law_50 10 rfl rfl)
theorem dL_law_1258 : decode cL_law 1258 = .ok (.aload_n 1, 1) := dk_43 (dk_at dksL_law_50 13 rfl rfl)
theorem dL_law_1259 : decode cL_law 1259 = .ok (.aload_n 0, 1) := dk_42 (dk_at dksL_law_50 14 rfl rfl)
theorem dL_law_1260 : decode cL_law 1260 = .ok (.iload 4, 2) := dk_21 4 (dk_at dksL_law_50 15 rfl rfl)
theorem dL_law_1262 : decode cL_law 1262 = .ok (.iconst 1, 1) := dk_4 (dk_at dksL_law_50 17 rfl rfl)
theorem dL_law_1263 : decode cL_law 1263 = .ok (.iadd, 1) := dk_96 (dk_at dksL_law_50 18 rfl rfl)
theorem dL_law_1264 : decode cL_law 1264 = .ok (.iaload, 1) := dk_46 (dk_at dksL_law_50 19 rfl rfl)
theorem dL_law_1265 : decode cL_law 1265 = .ok (.aload_n 3, 1) := dk_45 (dk_at dksL_law_50 20 rfl rfl)
theorem dL_law_1266 : decode cL_law 1266 = .ok (.invokestatic 144, 3) := dk_184 0 144 (dk_at dksL_law_50 21 rfl rfl)
theorem dL_law_1269 : decode cL_law 1269 = .ok (.istore 5, 2) := dk_54 5 (dk_at dksL_law_51 0 rfl rfl)
theorem dL_law_1271 : decode cL_law 1271 = .ok (.aload_n 2, 1) := dk_44 (dk_at dksL_law_51 2 rfl rfl)
theorem dL_law_1272 : decode cL_law 1272 = .ok (.aload_n 0, 1) := dk_42 (dk_at dksL_law_51 3 rfl rfl)
theorem dL_law_1273 : decode cL_law 1273 = .ok (.iload 4, 2) := dk_21 4 (dk_at dksL_law_51 4 rfl rfl)
theorem dL_law_1275 : decode cL_law 1275 = .ok (.iconst 1, 1) := dk_4 (dk_at dksL_law_51 6 rfl rfl)
theorem dL_law_1276 : decode cL_law 1276 = .ok (.iadd, 1) := dk_96 (dk_at dksL_law_51 7 rfl rfl)
theorem dL_law_1277 : decode cL_law 1277 = .ok (.iaload, 1) := dk_46 (dk_at dksL_law_51 8 rfl rfl)
theorem dL_law_1278 : decode cL_law 1278 = .ok (.invokevirtual 146, 3) := dk_182 0 146 (dk_at dksL_law_51 9 rfl rfl)
theorem dL_law_1281 : decode cL_law 1281 = .ok (.istore 6, 2) := dk_54 6 (dk_at dksL_law_51 12 rfl rfl)
theorem dL_law_1283 : decode cL_law 1283 = .ok (.aload_n 2, 1) := dk_44 (dk_at dksL_law_51 14 rfl rfl)
theorem dL_law_1284 : decode cL_law 1284 = .ok (.invokevirtual 91, 3) := dk_182 0 91 (dk_at dksL_law_51 15 rfl rfl)
theorem dL_law_1287 : decode cL_law 1287 = .ok (.iload 5, 2) := dk_21 5 (dk_at dksL_law_51 18 rfl rfl)
theorem dL_law_1289 : decode cL_law 1289 = .ok (.if_icmp .eq 5, 3) := dk_159 0 5 (dk_at dksL_law_51 20 rfl rfl)
theorem dL_law_1292 : decode cL_law 1292 = .ok (.iconst 0, 1) := dk_3 (dk_at dksL_law_51 23 rfl rfl)
theorem dL_law_1293 : decode cL_law 1293 = .ok (.ireturn, 1) := dk_172 (dk_at dksL_law_52 0 rfl rfl)
theorem dL_law_1294 : decode cL_law 1294 = .ok (.iload 5, 2) := dk_21 5 (dk_at dksL_law_52 1 rfl rfl)
theorem dL_law_1296 : decode cL_law 1296 = .ok (.ifCond .ne 15, 3) := dk_154 0 15 (dk_at dksL_law_52 3 rfl rfl)
theorem dL_law_1299 : decode cL_law 1299 = .ok (.aload_n 3, 1) := dk_45 (dk_at dksL_law_52 6 rfl rfl)
theorem dL_law_1300 : decode cL_law 1300 = .ok (.iconst 0, 1) := dk_3 (dk_at dksL_law_52 7 rfl rfl)
theorem dL_law_1301 : decode cL_law 1301 = .ok (.laload, 1) := dk_47 (dk_at dksL_law_52 8 rfl rfl)
theorem dL_law_1302 : decode cL_law 1302 = .ok (.iload 6, 2) := dk_21 6 (dk_at dksL_law_52 9 rfl rfl)
theorem dL_law_1304 : decode cL_law 1304 = .ok (.i2l, 1) := dk_133 (dk_at dksL_law_52 11 rfl rfl)
theorem dL_law_1305 : decode cL_law 1305 = .ok (.lcmp, 1) := dk_148 (dk_at dksL_law_52 12 rfl rfl)
theorem dL_law_1306 : decode cL_law 1306 = .ok (.ifCond .eq 5, 3) := dk_153 0 5 (dk_at dksL_law_52 13 rfl rfl)
theorem dL_law_1309 : decode cL_law 1309 = .ok (.iconst 0, 1) := dk_3 (dk_at dksL_law_52 16 rfl rfl)
theorem dL_law_1310 : decode cL_law 1310 = .ok (.ireturn, 1) := dk_172 (dk_at dksL_law_52 17 rfl rfl)
theorem dL_law_1311 : decode cL_law 1311 = .ok (.goto 330, 3) := dk_167 1 74 (dk_at dksL_law_52 18 rfl rfl)
theorem dL_law_1314 : decode cL_law 1314 = .ok (.aload_n 1, 1) := dk_43 (dk_at dksL_law_52 21 rfl rfl)
theorem dL_law_1315 : decode cL_law 1315 = .ok (.aload_n 0, 1) := dk_42 (dk_at dksL_law_52 22 rfl rfl)
theorem dL_law_1316 : decode cL_law 1316 = .ok (.iload 4, 2) := dk_21 4 (dk_at dksL_law_53 0 rfl rfl)
theorem dL_law_1318 : decode cL_law 1318 = .ok (.iconst 1, 1) := dk_4 (dk_at dksL_law_53 2 rfl rfl)
theorem dL_law_1319 : decode cL_law 1319 = .ok (.iadd, 1) := dk_96 (dk_at dksL_law_53 3 rfl rfl)
theorem dL_law_1320 : decode cL_law 1320 = .ok (.iaload, 1) := dk_46 (dk_at dksL_law_53 4 rfl rfl)
theorem dL_law_1321 : decode cL_law 1321 = .ok (.aload_n 0, 1) := dk_42 (dk_at dksL_law_53 5 rfl rfl)
theorem dL_law_1322 : decode cL_law 1322 = .ok (.iload 4, 2) := dk_21 4 (dk_at dksL_law_53 6 rfl rfl)
theorem dL_law_1324 : decode cL_law 1324 = .ok (.iconst 2, 1) := dk_5 (dk_at dksL_law_53 8 rfl rfl)
theorem dL_law_1325 : decode cL_law 1325 = .ok (.iadd, 1) := dk_96 (dk_at dksL_law_53 9 rfl rfl)
theorem dL_law_1326 : decode cL_law 1326 = .ok (.iaload, 1) := dk_46 (dk_at dksL_law_53 10 rfl rfl)
theorem dL_law_1327 : decode cL_law 1327 = .ok (.aload_n 0, 1) := dk_42 (dk_at dksL_law_53 11 rfl rfl)
theorem dL_law_1328 : decode cL_law 1328 = .ok (.iload 4, 2) := dk_21 4 (dk_at dksL_law_53 12 rfl rfl)
theorem dL_law_1330 : decode cL_law 1330 = .ok (.iconst 3, 1) := dk_6 (dk_at dksL_law_53 14 rfl rfl)
theorem dL_law_1331 : decode cL_law 1331 = .ok (.iadd, 1) := dk_96 (dk_at dksL_law_53 15 rfl rfl)
theorem dL_law_1332 : decode cL_law 1332 = .ok (.iaload, 1) := dk_46 (dk_at dksL_law_53 16 rfl rfl)
theorem dL_law_1333 : decode cL_law 1333 = .ok (.aload_n 3, 1) := dk_45 (dk_at dksL_law_53 17 rfl rfl)
theorem dL_law_1334 : decode cL_law 1334 = .ok (.invokestatic 147, 3) := dk_184 0 147 (dk_at dksL_law_53 18 rfl rfl)
theorem dL_law_1337 : decode cL_law 1337 = .ok (.istore 5, 2) := dk_54 5 (dk_at dksL_law_53 21 rfl rfl)
theorem dL_law_1339 : decode cL_law 1339 = .ok (.aload_n 2, 1) := dk_44 (dk_at dksL_law_53 23 rfl rfl)
theorem dL_law_1340 : decode cL_law 1340 = .ok (.aload_n 0, 1) := dk_42 (dk_at dksL_law_54 0 rfl rfl)
theorem dL_law_1341 : decode cL_law 1341 = .ok (.iload 4, 2) := dk_21 4 (dk_at dksL_law_54 1 rfl rfl)
theorem dL_law_1343 : decode cL_law 1343 = .ok (.iconst 1, 1) := dk_4 (dk_at dksL_law_54 3 rfl rfl)
theorem dL_law_1344 : decode cL_law 1344 = .ok (.iadd, 1) := dk_96 (dk_at dksL_law_54 4 rfl rfl)
theorem dL_law_1345 : decode cL_law 1345 = .ok (.iaload, 1) := dk_46 (dk_at dksL_law_54 5 rfl rfl)
theorem dL_law_1346 : decode cL_law 1346 = .ok (.aload_n 0, 1) := dk_42 (dk_at dksL_law_54 6 rfl rfl)
theorem dL_law_1347 : decode cL_law 1347 = .ok (.iload 4, 2) := dk_21 4 (dk_at dksL_law_54 7 rfl rfl)
theorem dL_law_1349 : decode cL_law 1349 = .ok (.iconst 2, 1) := dk_5 (dk_at dksL_law_54 9 rfl rfl)
theorem dL_law_1350 : decode cL_law 1350 = .ok (.iadd, 1) := dk_96 (dk_at dksL_law_54 10 rfl rfl)
theorem dL_law_1351 : decode cL_law 1351 = .ok (.iaload, 1) := dk_46 (dk_at dksL_law_54 11 rfl rfl)
theorem dL_law_1352 : decode cL_law 1352 = .ok (.aload_n 0, 1) := dk_42 (dk_at dksL_law_54 12 rfl rfl)
theorem dL_law_1353 : decode cL_law 1353 = .ok (.iload 4, 2) := dk_21 4 (dk_at dksL_law_54 13 rfl rfl)
theorem dL_law_1355 : decode cL_law 1355 = .ok (.iconst 3, 1) := dk_6 (dk_at dksL_law_54 15 rfl rfl)
theorem dL_law_1356 : decode cL_law 1356 = .ok (.iadd, 1) := dk_96 (dk_at dksL_law_54 16 rfl rfl)
theorem dL_law_1357 : decode cL_law 1357 = .ok (.iaload, 1) := dk_46 (dk_at dksL_law_54 17 rfl rfl)
theorem dL_law_1358 : decode cL_law 1358 = .ok (.invokevirtual 149, 3) := dk_182 0 149 (dk_at dksL_law_54 18 rfl rfl)
theorem dL_law_1361 : decode cL_law 1361 = .ok (.istore 6, 2) := dk_54 6 (dk_at dksL_law_54 21 rfl rfl)
theorem dL_law_1363 : decode cL_law 1363 = .ok (.aload_n 2, 1) := dk_44 (dk_at dksL_law_54 23 rfl rfl)
theorem dL_law_1364 : decode cL_law 1364 = .ok (.invokevirtual 91, 3) := dk_182 0 91 (dk_at dksL_law_55 0 rfl rfl)
theorem dL_law_1367 : decode cL_law 1367 = .ok (.iload 5, 2) := dk_21 5 (dk_at dksL_law_55 3 rfl rfl)
theorem dL_law_1369 : decode cL_law 1369 = .ok (.if_icmp .eq 5, 3) := dk_159 0 5 (dk_at dksL_law_55 5 rfl rfl)
theorem dL_law_1372 : decode cL_law 1372 = .ok (.iconst 0, 1) := dk_3 (dk_at dksL_law_55 8 rfl rfl)
theorem dL_law_1373 : decode cL_law 1373 = .ok (.ireturn, 1) := dk_172 (dk_at dksL_law_55 9 rfl rfl)
theorem dL_law_1374 : decode cL_law 1374 = .ok (.iload 5, 2) := dk_21 5 (dk_at dksL_law_55 10 rfl rfl)
theorem dL_law_1376 : decode cL_law 1376 = .ok (.ifCond .ne 15, 3) := dk_154 0 15 (dk_at dksL_law_55 12 rfl rfl)
theorem dL_law_1379 : decode cL_law 1379 = .ok (.aload_n 3, 1) := dk_45 (dk_at dksL_law_55 15 rfl rfl)
theorem dL_law_1380 : decode cL_law 1380 = .ok (.iconst 0, 1) := dk_3 (dk_at dksL_law_55 16 rfl rfl)
theorem dL_law_1381 : decode cL_law 1381 = .ok (.laload, 1) := dk_47 (dk_at dksL_law_55 17 rfl rfl)
theorem dL_law_1382 : decode cL_law 1382 = .ok (.iload 6, 2) := dk_21 6 (dk_at dksL_law_55 18 rfl rfl)
theorem dL_law_1384 : decode cL_law 1384 = .ok (.i2l, 1) := dk_133 (dk_at dksL_law_55 20 rfl rfl)
theorem dL_law_1385 : decode cL_law 1385 = .ok (.lcmp, 1) := dk_148 (dk_at dksL_law_55 21 rfl rfl)
theorem dL_law_1386 : decode cL_law 1386 = .ok (.ifCond .eq 5, 3) := dk_153 0 5 (dk_at dksL_law_56 0 rfl rfl)
theorem dL_law_1389 : decode cL_law 1389 = .ok (.iconst 0, 1) := dk_3 (dk_at dksL_law_56 3 rfl rfl)
theorem dL_law_1390 : decode cL_law 1390 = .ok (.ireturn, 1) := dk_172 (dk_at dksL_law_56 4 rfl rfl)
theorem dL_law_1391 : decode cL_law 1391 = .ok (.goto 250, 3) := dk_167 0 250 (dk_at dksL_law_56 5 rfl rfl)
theorem dL_law_1394 : decode cL_law 1394 = .ok (.aload_n 1, 1) := dk_43 (dk_at dksL_law_56 8 rfl rfl)
theorem dL_law_1395 : decode cL_law 1395 = .ok (.aload_n 0, 1) := dk_42 (dk_at dksL_law_56 9 rfl rfl)
theorem dL_law_1396 : decode cL_law 1396 = .ok (.iload 4, 2) := dk_21 4 (dk_at dksL_law_56 10 rfl rfl)
theorem dL_law_1398 : decode cL_law 1398 = .ok (.iconst 1, 1) := dk_4 (dk_at dksL_law_56 12 rfl rfl)
theorem dL_law_1399 : decode cL_law 1399 = .ok (.iadd, 1) := dk_96 (dk_at dksL_law_56 13 rfl rfl)
theorem dL_law_1400 : decode cL_law 1400 = .ok (.iaload, 1) := dk_46 (dk_at dksL_law_56 14 rfl rfl)
theorem dL_law_1401 : decode cL_law 1401 = .ok (.aload_n 3, 1) := dk_45 (dk_at dksL_law_56 15 rfl rfl)
theorem dL_law_1402 : decode cL_law 1402 = .ok (.invokestatic 150, 3) := dk_184 0 150 (dk_at dksL_law_56 16 rfl rfl)
theorem dL_law_1405 : decode cL_law 1405 = .ok (.istore 5, 2) := dk_54 5 (dk_at dksL_law_56 19 rfl rfl)
theorem dL_law_1407 : decode cL_law 1407 = .ok (.aload_n 2, 1) := dk_44 (dk_at dksL_law_56 21 rfl rfl)
theorem dL_law_1408 : decode cL_law 1408 = .ok (.aload_n 0, 1) := dk_42 (dk_at dksL_law_56 22 rfl rfl)
theorem dL_law_1409 : decode cL_law 1409 = .ok (.iload 4, 2) := dk_21 4 (dk_at dksL_law_57 0 rfl rfl)
theorem dL_law_1411 : decode cL_law 1411 = .ok (.iconst 1, 1) := dk_4 (dk_at dksL_law_57 2 rfl rfl)
theorem dL_law_1412 : decode cL_law 1412 = .ok (.iadd, 1) := dk_96 (dk_at dksL_law_57 3 rfl rfl)
theorem dL_law_1413 : decode cL_law 1413 = .ok (.iaload, 1) := dk_46 (dk_at dksL_law_57 4 rfl rfl)
theorem dL_law_1414 : decode cL_law 1414 = .ok (.invokevirtual 152, 3) := dk_182 0 152 (dk_at dksL_law_57 5 rfl rfl)
theorem dL_law_1417 : decode cL_law 1417 = .ok (.istore 6, 2) := dk_54 6 (dk_at dksL_law_57 8 rfl rfl)
theorem dL_law_1419 : decode cL_law 1419 = .ok (.aload_n 2, 1) := dk_44 (dk_at dksL_law_57 10 rfl rfl)
theorem dL_law_1420 : decode cL_law 1420 = .ok (.invokevirtual 91, 3) := dk_182 0 91 (dk_at dksL_law_57 11 rfl rfl)
theorem dL_law_1423 : decode cL_law 1423 = .ok (.iload 5, 2) := dk_21 5 (dk_at dksL_law_57 14 rfl rfl)
theorem dL_law_1425 : decode cL_law 1425 = .ok (.if_icmp .eq 5, 3) := dk_159 0 5 (dk_at dksL_law_57 16 rfl rfl)
theorem dL_law_1428 : decode cL_law 1428 = .ok (.iconst 0, 1) := dk_3 (dk_at dksL_law_57 19 rfl rfl)
theorem dL_law_1429 : decode cL_law 1429 = .ok (.ireturn, 1) := dk_172 (dk_at dksL_law_57 20 rfl rfl)
theorem dL_law_1430 : decode cL_law 1430 = .ok (.iload 5, 2) := dk_21 5 (dk_at dksL_law_57 21 rfl rfl)
theorem dL_law_1432 : decode cL_law 1432 = .ok (.ifCond .ne 15, 3) := dk_154 0 15 (dk_at dksL_law_58 0 rfl rfl)
theorem dL_law_1435 : decode cL_law 1435 = .ok (.aload_n 3, 1) := dk_45 (dk_at dksL_law_58 3 rfl rfl)
theorem dL_law_1436 : decode cL_law 1436 = .ok (.iconst 0, 1) := dk_3 (dk_at dksL_law_58 4 rfl rfl)
theorem dL_law_1437 : decode cL_law 1437 = .ok (.laload, 1) := dk_47 (dk_at dksL_law_58 5 rfl rfl)
theorem dL_law_1438 : decode cL_law 1438 = .ok (.iload 6, 2) := dk_21 6 (dk_at dksL_law_58 6 rfl rfl)
theorem dL_law_1440 : decode cL_law 1440 = .ok (.i2l, 1) := dk_133 (dk_at dksL_law_58 8 rfl rfl)
theorem dL_law_1441 : decode cL_law 1441 = .ok (.lcmp, 1) := dk_148 (dk_at dksL_law_58 9 rfl rfl)
theorem dL_law_1442 : decode cL_law 1442 = .ok (.ifCond .eq 5, 3) := dk_153 0 5 (dk_at dksL_law_58 10 rfl rfl)
theorem dL_law_1445 : decode cL_law 1445 = .ok (.iconst 0, 1) := dk_3 (dk_at dksL_law_58 13 rfl rfl)
theorem dL_law_1446 : decode cL_law 1446 = .ok (.ireturn, 1) := dk_172 (dk_at dksL_law_58 14 rfl rfl)
theorem dL_law_1447 : decode cL_law 1447 = .ok (.goto 194, 3) := dk_167 0 194 (dk_at dksL_law_58 15 rfl rfl)
theorem dL_law_1450 : decode cL_law 1450 = .ok (.aload_n 1, 1) := dk_43 (dk_at dksL_law_58 18 rfl rfl)
theorem dL_law_1451 : decode cL_law 1451 = .ok (.aload_n 0, 1) := dk_42 (dk_at dksL_law_58 19 rfl rfl)
theorem dL_law_1452 : decode cL_law 1452 = .ok (.iload 4, 2) := dk_21 4 (dk_at dksL_law_58 20 rfl rfl)
theorem dL_law_1454 : decode cL_law 1454 = .ok (.iconst 1, 1) := dk_4 (dk_at dksL_law_58 22 rfl rfl)
theorem dL_law_1455 : decode cL_law 1455 = .ok (.iadd, 1) := dk_96 (dk_at dksL_law_58 23 rfl rfl)
theorem dL_law_1456 : decode cL_law 1456 = .ok (.iaload, 1) := dk_46 (dk_at dksL_law_59 0 rfl rfl)
theorem dL_law_1457 : decode cL_law 1457 = .ok (.aload_n 3, 1) := dk_45 (dk_at dksL_law_59 1 rfl rfl)
theorem dL_law_1458 : decode cL_law 1458 = .ok (.invokestatic 153, 3) := dk_184 0 153 (dk_at dksL_law_59 2 rfl rfl)
theorem dL_law_1461 : decode cL_law 1461 = .ok (.istore 5, 2) := dk_54 5 (dk_at dksL_law_59 5 rfl rfl)
theorem dL_law_1463 : decode cL_law 1463 = .ok (.aload_n 2, 1) := dk_44 (dk_at dksL_law_59 7 rfl rfl)
theorem dL_law_1464 : decode cL_law 1464 = .ok (.aload_n 0, 1) := dk_42 (dk_at dksL_law_59 8 rfl rfl)
theorem dL_law_1465 : decode cL_law 1465 = .ok (.iload 4, 2) := dk_21 4 (dk_at dksL_law_59 9 rfl rfl)
theorem dL_law_1467 : decode cL_law 1467 = .ok (.iconst 1, 1) := dk_4 (dk_at dksL_law_59 11 rfl rfl)
theorem dL_law_1468 : decode cL_law 1468 = .ok (.iadd, 1) := dk_96 (dk_at dksL_law_59 12 rfl rfl)
theorem dL_law_1469 : decode cL_law 1469 = .ok (.iaload, 1) := dk_46 (dk_at dksL_law_59 13 rfl rfl)
theorem dL_law_1470 : decode cL_law 1470 = .ok (.invokevirtual 155, 3) := dk_182 0 155 (dk_at dksL_law_59 14 rfl rfl)
theorem dL_law_1473 : decode cL_law 1473 = .ok (.istore 6, 2) := dk_54 6 (dk_at dksL_law_59 17 rfl rfl)
theorem dL_law_1475 : decode cL_law 1475 = .ok (.aload_n 2, 1) := dk_44 (dk_at dksL_law_59 19 rfl rfl)
theorem dL_law_1476 : decode cL_law 1476 = .ok (.invokevirtual 91, 3) := dk_182 0 91 (dk_at dksL_law_59 20 rfl rfl)
theorem dL_law_1479 : decode cL_law 1479 = .ok (.iload 5, 2) := dk_21 5 (dk_at dksL_law_60 0 rfl rfl)
theorem dL_law_1481 : decode cL_law 1481 = .ok (.if_icmp .eq 5, 3) := dk_159 0 5 (dk_at dksL_law_60 2 rfl rfl)
theorem dL_law_1484 : decode cL_law 1484 = .ok (.iconst 0, 1) := dk_3 (dk_at dksL_law_60 5 rfl rfl)
theorem dL_law_1485 : decode cL_law 1485 = .ok (.ireturn, 1) := dk_172 (dk_at dksL_law_60 6 rfl rfl)
theorem dL_law_1486 : decode cL_law 1486 = .ok (.iload 5, 2) := dk_21 5 (dk_at dksL_law_60 7 rfl rfl)
theorem dL_law_1488 : decode cL_law 1488 = .ok (.ifCond .ne 15, 3) := dk_154 0 15 (dk_at dksL_law_60 9 rfl rfl)
theorem dL_law_1491 : decode cL_law 1491 = .ok (.aload_n 3, 1) := dk_45 (dk_at dksL_law_60 12 rfl rfl)
theorem dL_law_1492 : decode cL_law 1492 = .ok (.iconst 0, 1) := dk_3 (dk_at dksL_law_60 13 rfl rfl)
theorem dL_law_1493 : decode cL_law 1493 = .ok (.laload, 1) := dk_47 (dk_at dksL_law_60 14 rfl rfl)
theorem dL_law_1494 : decode cL_law 1494 = .ok (.iload 6, 2) := dk_21 6 (dk_at dksL_law_60 15 rfl rfl)
theorem dL_law_1496 : decode cL_law 1496 = .ok (.i2l, 1) := dk_133 (dk_at dksL_law_60 17 rfl rfl)
theorem dL_law_1497 : decode cL_law 1497 = .ok (.lcmp, 1) := dk_148 (dk_at dksL_law_60 18 rfl rfl)
theorem dL_law_1498 : decode cL_law 1498 = .ok (.ifCond .eq 5, 3) := dk_153 0 5 (dk_at dksL_law_60 19 rfl rfl)
theorem dL_law_1501 : decode cL_law 1501 = .ok (.iconst 0, 1) := dk_3 (dk_at dksL_law_60 22 rfl rfl)
theorem dL_law_1502 : decode cL_law 1502 = .ok (.ireturn, 1) := dk_172 (dk_at dksL_law_60 23 rfl rfl)
theorem dL_law_1503 : decode cL_law 1503 = .ok (.goto 138, 3) := dk_167 0 138 (dk_at dksL_law_61 0 rfl rfl)
theorem dL_law_1506 : decode cL_law 1506 = .ok (.aload_n 1, 1) := dk_43 (dk_at dksL_law_61 3 rfl rfl)
theorem dL_law_1507 : decode cL_law 1507 = .ok (.aload_n 0, 1) := dk_42 (dk_at dksL_law_61 4 rfl rfl)
theorem dL_law_1508 : decode cL_law 1508 = .ok (.iload 4, 2) := dk_21 4 (dk_at dksL_law_61 5 rfl rfl)
theorem dL_law_1510 : decode cL_law 1510 = .ok (.iconst 1, 1) := dk_4 (dk_at dksL_law_61 7 rfl rfl)
theorem dL_law_1511 : decode cL_law 1511 = .ok (.iadd, 1) := dk_96 (dk_at dksL_law_61 8 rfl rfl)
theorem dL_law_1512 : decode cL_law 1512 = .ok (.iaload, 1) := dk_46 (dk_at dksL_law_61 9 rfl rfl)
theorem dL_law_1513 : decode cL_law 1513 = .ok (.aload_n 0, 1) := dk_42 (dk_at dksL_law_61 10 rfl rfl)
theorem dL_law_1514 : decode cL_law 1514 = .ok (.iload 4, 2) := dk_21 4 (dk_at dksL_law_61 11 rfl rfl)
theorem dL_law_1516 : decode cL_law 1516 = .ok (.iconst 2, 1) := dk_5 (dk_at dksL_law_61 13 rfl rfl)
theorem dL_law_1517 : decode cL_law 1517 = .ok (.iadd, 1) := dk_96 (dk_at dksL_law_61 14 rfl rfl)
theorem dL_law_1518 : decode cL_law 1518 = .ok (.iaload, 1) := dk_46 (dk_at dksL_law_61 15 rfl rfl)
theorem dL_law_1519 : decode cL_law 1519 = .ok (.aload_n 0, 1) := dk_42 (dk_at dksL_law_61 16 rfl rfl)
theorem dL_law_1520 : decode cL_law 1520 = .ok (.iload 4, 2) := dk_21 4 (dk_at dksL_law_61 17 rfl rfl)
theorem dL_law_1522 : decode cL_law 1522 = .ok (.iconst 3, 1) := dk_6 (dk_at dksL_law_61 19 rfl rfl)
theorem dL_law_1523 : decode cL_law 1523 = .ok (.iadd, 1) := dk_96 (dk_at dksL_law_61 20 rfl rfl)
theorem dL_law_1524 : decode cL_law 1524 = .ok (.iaload, 1) := dk_46 (dk_at dksL_law_61 21 rfl rfl)
theorem dL_law_1525 : decode cL_law 1525 = .ok (.aload_n 3, 1) := dk_45 (dk_at dksL_law_61 22 rfl rfl)
theorem dL_law_1526 : decode cL_law 1526 = .ok (.invokestatic 156, 3) := dk_184 0 156 (dk_at dksL_law_62 0 rfl rfl)
theorem dL_law_1529 : decode cL_law 1529 = .ok (.istore 5, 2) := dk_54 5 (dk_at dksL_law_62 3 rfl rfl)
theorem dL_law_1531 : decode cL_law 1531 = .ok (.aload_n 2, 1) := dk_44 (dk_at dksL_law_62 5 rfl rfl)
theorem dL_law_1532 : decode cL_law 1532 = .ok (.aload_n 0, 1) := dk_42 (dk_at dksL_law_62 6 rfl rfl)
theorem dL_law_1533 : decode cL_law 1533 = .ok (.iload 4, 2) := dk_21 4 (dk_at dksL_law_62 7 rfl rfl)
theorem dL_law_1535 : decode cL_law 1535 = .ok (.iconst 1, 1) := dk_4 (dk_at dksL_law_62 9 rfl rfl)
theorem dL_law_1536 : decode cL_law 1536 = .ok (.iadd, 1) := dk_96 (dk_at dksL_law_62 10 rfl rfl)
theorem dL_law_1537 : decode cL_law 1537 = .ok (.iaload, 1) := dk_46 (dk_at dksL_law_62 11 rfl rfl)
theorem dL_law_1538 : decode cL_law 1538 = .ok (.aload_n 0, 1) := dk_42 (dk_at dksL_law_62 12 rfl rfl)
theorem dL_law_1539 : decode cL_law 1539 = .ok (.iload 4, 2) := dk_21 4 (dk_at dksL_law_62 13 rfl rfl)
theorem dL_law_1541 : decode cL_law 1541 = .ok (.iconst 2, 1) := dk_5 (dk_at dksL_law_62 15 rfl rfl)
theorem dL_law_1542 : decode cL_law 1542 = .ok (.iadd, 1) := dk_96 (dk_at dksL_law_62 16 rfl rfl)
theorem dL_law_1543 : decode cL_law 1543 = .ok (.iaload, 1) := dk_46 (dk_at dksL_law_62 17 rfl rfl)
theorem dL_law_1544 : decode cL_law 1544 = .ok (.aload_n 0, 1) := dk_42 (dk_at dksL_law_62 18 rfl rfl)
theorem dL_law_1545 : decode cL_law 1545 = .ok (.iload 4, 2) := dk_21 4 (dk_at dksL_law_62 19 rfl rfl)
theorem dL_law_1547 : decode cL_law 1547 = .ok (.iconst 3, 1) := dk_6 (dk_at dksL_law_62 21 rfl rfl)
theorem dL_law_1548 : decode cL_law 1548 = .ok (.iadd, 1) := dk_96 (dk_at dksL_law_62 22 rfl rfl)
theorem dL_law_1549 : decode cL_law 1549 = .ok (.iaload, 1) := dk_46 (dk_at dksL_law_62 23 rfl rfl)
theorem dL_law_1550 : decode cL_law 1550 = .ok (.invokevirtual 158, 3) := dk_182 0 158 (dk_at dksL_law_63 0 rfl rfl)
theorem dL_law_1553 : decode cL_law 1553 = .ok (.istore 6, 2) := dk_54 6 (dk_at dksL_law_63 3 rfl rfl)
theorem dL_law_1555 : decode cL_law 1555 = .ok (.aload_n 2, 1) := dk_44 (dk_at dksL_law_63 5 rfl rfl)
theorem dL_law_1556 : decode cL_law 1556 = .ok (.invokevirtual 91, 3) := dk_182 0 91 (dk_at dksL_law_63 6 rfl rfl)
theorem dL_law_1559 : decode cL_law 1559 = .ok (.iload 5, 2) := dk_21 5 (dk_at dksL_law_63 9 rfl rfl)
theorem dL_law_1561 : decode cL_law 1561 = .ok (.if_icmp .eq 5, 3) := dk_159 0 5 (dk_at dksL_law_63 11 rfl rfl)
theorem dL_law_1564 : decode cL_law 1564 = .ok (.iconst 0, 1) := dk_3 (dk_at dksL_law_63 14 rfl rfl)
theorem dL_law_1565 : decode cL_law 1565 = .ok (.ireturn, 1) := dk_172 (dk_at dksL_law_63 15 rfl rfl)
theorem dL_law_1566 : decode cL_law 1566 = .ok (.iload 5, 2) := dk_21 5 (dk_at dksL_law_63 16 rfl rfl)
theorem dL_law_1568 : decode cL_law 1568 = .ok (.ifCond .ne 15, 3) := dk_154 0 15 (dk_at dksL_law_63 18 rfl rfl)
theorem dL_law_1571 : decode cL_law 1571 = .ok (.aload_n 3, 1) := dk_45 (dk_at dksL_law_63 21 rfl rfl)
theorem dL_law_1572 : decode cL_law 1572 = .ok (.iconst 0, 1) := dk_3 (dk_at dksL_law_63 22 rfl rfl)
theorem dL_law_1573 : decode cL_law 1573 = .ok (.laload, 1) := dk_47 (dk_at dksL_law_63 23 rfl rfl)
theorem dL_law_1574 : decode cL_law 1574 = .ok (.iload 6, 2) := dk_21 6 (dk_at dksL_law_64 0 rfl rfl)
theorem dL_law_1576 : decode cL_law 1576 = .ok (.i2l, 1) := dk_133 (dk_at dksL_law_64 2 rfl rfl)
theorem dL_law_1577 : decode cL_law 1577 = .ok (.lcmp, 1) := dk_148 (dk_at dksL_law_64 3 rfl rfl)
theorem dL_law_1578 : decode cL_law 1578 = .ok (.ifCond .eq 5, 3) := dk_153 0 5 (dk_at dksL_law_64 4 rfl rfl)
theorem dL_law_1581 : decode cL_law 1581 = .ok (.iconst 0, 1) := dk_3 (dk_at dksL_law_64 7 rfl rfl)
theorem dL_law_1582 : decode cL_law 1582 = .ok (.ireturn, 1) := dk_172 (dk_at dksL_law_64 8 rfl rfl)
theorem dL_law_1583 : decode cL_law 1583 = .ok (.goto 58, 3) := dk_167 0 58 (dk_at dksL_law_64 9 rfl rfl)
theorem dL_law_1586 : decode cL_law 1586 = .ok (.aload_n 1, 1) := dk_43 (dk_at dksL_law_64 12 rfl rfl)
theorem dL_law_1587 : decode cL_law 1587 = .ok (.invokevirtual 159, 3) := dk_182 0 159 (dk_at dksL_law_64 13 rfl rfl)
theorem dL_law_1590 : decode cL_law 1590 = .ok (.dstore 5, 2) := dk_57 5 (dk_at dksL_law_64 16 rfl rfl)
theorem dL_law_1592 : decode cL_law 1592 = .ok (.aload_n 2, 1) := dk_44 (dk_at dksL_law_64 18 rfl rfl)
theorem dL_law_1593 : decode cL_law 1593 = .ok (.invokevirtual 163, 3) := dk_182 0 163 (dk_at dksL_law_64 19 rfl rfl)
theorem dL_law_1596 : decode cL_law 1596 = .ok (.dstore 7, 2) := dk_57 7 (dk_at dksL_law_64 22 rfl rfl)
theorem dL_law_1598 : decode cL_law 1598 = .ok (.dload 5, 2) := dk_24 5 (dk_at dksL_law_65 0 rfl rfl)
theorem dL_law_1600 : decode cL_law 1600 = .ok (.dload 7, 2) := dk_24 7 (dk_at dksL_law_65 2 rfl rfl)
theorem dL_law_1602 : decode cL_law 1602 = .ok (.dcmp .l, 1) := dk_151 (dk_at dksL_law_65 4 rfl rfl)
theorem dL_law_1603 : decode cL_law 1603 = .ok (.ifCond .eq 21, 3) := dk_153 0 21 (dk_at dksL_law_65 5 rfl rfl)
theorem dL_law_1606 : decode cL_law 1606 = .ok (.dload 5, 2) := dk_24 5 (dk_at dksL_law_65 8 rfl rfl)
theorem dL_law_1608 : decode cL_law 1608 = .ok (.dload 5, 2) := dk_24 5 (dk_at dksL_law_65 10 rfl rfl)
theorem dL_law_1610 : decode cL_law 1610 = .ok (.dcmp .l, 1) := dk_151 (dk_at dksL_law_65 12 rfl rfl)
theorem dL_law_1611 : decode cL_law 1611 = .ok (.ifCond .eq 11, 3) := dk_153 0 11 (dk_at dksL_law_65 13 rfl rfl)
theorem dL_law_1614 : decode cL_law 1614 = .ok (.dload 7, 2) := dk_24 7 (dk_at dksL_law_65 16 rfl rfl)
theorem dL_law_1616 : decode cL_law 1616 = .ok (.dload 7, 2) := dk_24 7 (dk_at dksL_law_65 18 rfl rfl)
theorem dL_law_1618 : decode cL_law 1618 = .ok (.dcmp .l, 1) := dk_151 (dk_at dksL_law_65 20 rfl rfl)
theorem dL_law_1619 : decode cL_law 1619 = .ok (.ifCond .ne 5, 3) := dk_154 0 5 (dk_at dksL_law_65 21 rfl rfl)
theorem dL_law_1622 : decode cL_law 1622 = .ok (.iconst 0, 1) := dk_3 (dk_at dksL_law_66 0 rfl rfl)
theorem dL_law_1623 : decode cL_law 1623 = .ok (.ireturn, 1) := dk_172 (dk_at dksL_law_66 1 rfl rfl)
theorem dL_law_1624 : decode cL_law 1624 = .ok (.goto 17, 3) := dk_167 0 17 (dk_at dksL_law_66 2 rfl rfl)
theorem dL_law_1627 : decode cL_law 1627 = .ok (.aload_n 1, 1) := dk_43 (dk_at dksL_law_66 5 rfl rfl)
theorem dL_law_1628 : decode cL_law 1628 = .ok (.invokevirtual 164, 3) := dk_182 0 164 (dk_at dksL_law_66 6 rfl rfl)
theorem dL_law_1631 : decode cL_law 1631 = .ok (.aload_n 2, 1) := dk_44 (dk_at dksL_law_66 9 rfl rfl)
theorem dL_law_1632 : decode cL_law 1632 = .ok (.invokevirtual 168, 3) := dk_182 0 168 (dk_at dksL_law_66 10 rfl rfl)
theorem dL_law_1635 : decode cL_law 1635 = .ok (.lcmp, 1) := dk_148 (dk_at dksL_law_66 13 rfl rfl)
theorem dL_law_1636 : decode cL_law 1636 = .ok (.ifCond .eq 5, 3) := dk_153 0 5 (dk_at dksL_law_66 14 rfl rfl)
theorem dL_law_1639 : decode cL_law 1639 = .ok (.iconst 0, 1) := dk_3 (dk_at dksL_law_66 17 rfl rfl)
theorem dL_law_1640 : decode cL_law 1640 = .ok (.ireturn, 1) := dk_172 (dk_at dksL_law_66 18 rfl rfl)
theorem dL_law_1641 : decode cL_law 1641 = .ok (.iinc 4 7, 3) := dk_132 4 7 (dk_at dksL_law_66 19 rfl rfl)
theorem dL_law_1644 : decode cL_law 1644 = .ok (.goto (-1621), 3) := dk_167 249 171 (dk_at dksL_law_67 0 rfl rfl)
theorem dL_law_1647 : decode cL_law 1647 = .ok (.iconst 1, 1) := dk_4 (dk_at dksL_law_67 3 rfl rfl)
theorem dL_law_1648 : decode cL_law 1648 = .ok (.ireturn, 1) := dk_172 (dk_at dksL_law_67 4 rfl rfl)

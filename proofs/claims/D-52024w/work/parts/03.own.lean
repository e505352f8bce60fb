/-! TimberList$Board -/
set_option maxRecDepth 100000
def RX3 : String := "TimberList$Board"
def TX3 : u_T := fun k => match k with
  | 0 => ("TimberList$Board", "length", "I", true)
  | 1 => ("TimberList$Board", "width", "I", true)
  | 2 => ("TimberList$Board", "grade", "I", true)
  | 3 => ("TimberList$Board", "defects", "Ljava/util/ArrayList;", true)
  | _ => ("TimberList$Board", "pieces", "Ljava/util/ArrayList;", true)
def tyX3 : Nat → FieldType := fun k => match k with
  | 0 => .int
  | 1 => .int
  | 2 => .int
  | 3 => .object "java/util/ArrayList"
  | _ => .object "java/util/ArrayList"
abbrev wsX30 : List Cond := u_ws RX3 TX3 5
theorem nmX3 : ∀ a, a < 5 → ∀ b, b < 5 → a ≠ b → (TX3 a).2.1 ≠ (TX3 b).2.1 := by decide +kernel
theorem tyX3_ok : ∀ k, k < 5 → parseFieldDescriptor (TX3 k).2.2.1 = some (tyX3 k) := by decide +kernel
abbrev cX3_gradeAt : ByteArray := prog_2_method_2_code
def yX3_gradeAt : MethodName := ⟨RX3, "gradeAt", "(I)I"⟩
def dkwX3_gradeAt_2 : List UInt8 := [192, 0, 39, 180, 0, 45, 184, 0, 46, 61, 132, 3, 1, 167, 255, 205, 28, 172]
abbrev dktX3_gradeAt_2 : List UInt8 := dkwX3_gradeAt_2 ++ []
def dkwX3_gradeAt_1 : List UInt8 := [182, 0, 35, 192, 0, 39, 27, 182, 0, 41, 153, 0, 22, 28, 42, 180, 0, 12, 29, 182, 0, 35]
abbrev dktX3_gradeAt_1 : List UInt8 := dkwX3_gradeAt_1 ++ dktX3_gradeAt_2
def dkwX3_gradeAt_0 : List UInt8 := [42, 180, 0, 28, 61, 3, 62, 29, 42, 180, 0, 12, 182, 0, 31, 162, 0, 46, 42, 180, 0, 12, 29]
abbrev dktX3_gradeAt_0 : List UInt8 := dkwX3_gradeAt_0 ++ dktX3_gradeAt_1
theorem dksX3_gradeAt_0 : cX3_gradeAt.data.toList.drop 0 = dktX3_gradeAt_0 := by decide +kernel
theorem dksX3_gradeAt_1 : cX3_gradeAt.data.toList.drop 23 = dktX3_gradeAt_1 := dk_seg dksX3_gradeAt_0 23 rfl rfl
theorem dksX3_gradeAt_2 : cX3_gradeAt.data.toList.drop 45 = dktX3_gradeAt_2 := dk_seg dksX3_gradeAt_1 22 rfl rfl
theorem dX3_gradeAt_0 : decode cX3_gradeAt 0 = .ok (.aload_n 0, 1) := dk_42 (dk_at dksX3_gradeAt_0 0 rfl rfl)
theorem dX3_gradeAt_1 : decode cX3_gradeAt 1 = .ok (.getfield 28, 3) := dk_180 0 28 (dk_at dksX3_gradeAt_0 1 rfl rfl)
theorem dX3_gradeAt_4 : decode cX3_gradeAt 4 = .ok (.istore_n 2, 1) := dk_61 (dk_at dksX3_gradeAt_0 4 rfl rfl)
theorem dX3_gradeAt_5 : decode cX3_gradeAt 5 = .ok (.iconst 0, 1) := dk_3 (dk_at dksX3_gradeAt_0 5 rfl rfl)
theorem dX3_gradeAt_6 : decode cX3_gradeAt 6 = .ok (.istore_n 3, 1) := dk_62 (dk_at dksX3_gradeAt_0 6 rfl rfl)
theorem dX3_gradeAt_7 : decode cX3_gradeAt 7 = .ok (.iload_n 3, 1) := dk_29 (dk_at dksX3_gradeAt_0 7 rfl rfl)
theorem dX3_gradeAt_8 : decode cX3_gradeAt 8 = .ok (.aload_n 0, 1) := dk_42 (dk_at dksX3_gradeAt_0 8 rfl rfl)
theorem dX3_gradeAt_9 : decode cX3_gradeAt 9 = .ok (.getfield 12, 3) := dk_180 0 12 (dk_at dksX3_gradeAt_0 9 rfl rfl)
theorem dX3_gradeAt_12 : decode cX3_gradeAt 12 = .ok (.invokevirtual 31, 3) := dk_182 0 31 (dk_at dksX3_gradeAt_0 12 rfl rfl)
theorem dX3_gradeAt_15 : decode cX3_gradeAt 15 = .ok (.if_icmp .ge 46, 3) := dk_162 0 46 (dk_at dksX3_gradeAt_0 15 rfl rfl)
theorem dX3_gradeAt_18 : decode cX3_gradeAt 18 = .ok (.aload_n 0, 1) := dk_42 (dk_at dksX3_gradeAt_0 18 rfl rfl)
theorem dX3_gradeAt_19 : decode cX3_gradeAt 19 = .ok (.getfield 12, 3) := dk_180 0 12 (dk_at dksX3_gradeAt_0 19 rfl rfl)
theorem dX3_gradeAt_22 : decode cX3_gradeAt 22 = .ok (.iload_n 3, 1) := dk_29 (dk_at dksX3_gradeAt_0 22 rfl rfl)
theorem dX3_gradeAt_23 : decode cX3_gradeAt 23 = .ok (.invokevirtual 35, 3) := dk_182 0 35 (dk_at dksX3_gradeAt_1 0 rfl rfl)
theorem dX3_gradeAt_26 : decode cX3_gradeAt 26 = .ok (.checkcast 39, 3) := dk_192 0 39 (dk_at dksX3_gradeAt_1 3 rfl rfl)
theorem dX3_gradeAt_29 : decode cX3_gradeAt 29 = .ok (.iload_n 1, 1) := dk_27 (dk_at dksX3_gradeAt_1 6 rfl rfl)
theorem dX3_gradeAt_30 : decode cX3_gradeAt 30 = .ok (.invokevirtual 41, 3) := dk_182 0 41 (dk_at dksX3_gradeAt_1 7 rfl rfl)
theorem dX3_gradeAt_33 : decode cX3_gradeAt 33 = .ok (.ifCond .eq 22, 3) := dk_153 0 22 (dk_at dksX3_gradeAt_1 10 rfl rfl)
theorem dX3_gradeAt_36 : decode cX3_gradeAt 36 = .ok (.iload_n 2, 1) := dk_28 (dk_at dksX3_gradeAt_1 13 rfl rfl)
theorem dX3_gradeAt_37 : decode cX3_gradeAt 37 = .ok (.aload_n 0, 1) := dk_42 (dk_at dksX3_gradeAt_1 14 rfl rfl)
theorem dX3_gradeAt_38 : decode cX3_gradeAt 38 = .ok (.getfield 12, 3) := dk_180 0 12 (dk_at dksX3_gradeAt_1 15 rfl rfl)
theorem dX3_gradeAt_41 : decode cX3_gradeAt 41 = .ok (.iload_n 3, 1) := dk_29 (dk_at dksX3_gradeAt_1 18 rfl rfl)
theorem dX3_gradeAt_42 : decode cX3_gradeAt 42 = .ok (.invokevirtual 35, 3) := dk_182 0 35 (dk_at dksX3_gradeAt_1 19 rfl rfl)
theorem dX3_gradeAt_45 : decode cX3_gradeAt 45 = .ok (.checkcast 39, 3) := dk_192 0 39 (dk_at dksX3_gradeAt_2 0 rfl rfl)
theorem dX3_gradeAt_48 : decode cX3_gradeAt 48 = .ok (.getfield 45, 3) := dk_180 0 45 (dk_at dksX3_gradeAt_2 3 rfl rfl)
theorem dX3_gradeAt_51 : decode cX3_gradeAt 51 = .ok (.invokestatic 46, 3) := dk_184 0 46 (dk_at dksX3_gradeAt_2 6 rfl rfl)
theorem dX3_gradeAt_54 : decode cX3_gradeAt 54 = .ok (.istore_n 2, 1) := dk_61 (dk_at dksX3_gradeAt_2 9 rfl rfl)
theorem dX3_gradeAt_55 : decode cX3_gradeAt 55 = .ok (.iinc 3 1, 3) := dk_132 3 1 (dk_at dksX3_gradeAt_2 10 rfl rfl)
theorem dX3_gradeAt_58 : decode cX3_gradeAt 58 = .ok (.goto (-51), 3) := dk_167 255 205 (dk_at dksX3_gradeAt_2 13 rfl rfl)
theorem dX3_gradeAt_61 : decode cX3_gradeAt 61 = .ok (.iload_n 2, 1) := dk_28 (dk_at dksX3_gradeAt_2 16 rfl rfl)
theorem dX3_gradeAt_62 : decode cX3_gradeAt 62 = .ok (.ireturn, 1) := dk_172 (dk_at dksX3_gradeAt_2 17 rfl rfl)
abbrev cX3_earliest : ByteArray := prog_2_method_5_code
def yX3_earliest : MethodName := ⟨RX3, "earliest", "(LTimberList$Part;I)I"⟩
def dkwX3_earliest_8 : List UInt8 := [28, 182, 0, 115, 153, 0, 6, 21, 5, 172, 167, 255, 191, 2, 172]
abbrev dktX3_earliest_8 : List UInt8 := dkwX3_earliest_8 ++ []
def dkwX3_earliest_7 : List UInt8 := [96, 42, 180, 0, 21, 163, 0, 29, 42, 187, 0, 53, 89, 43, 21, 5, 43, 180, 0, 111, 3, 183, 0, 112]
abbrev dktX3_earliest_7 : List UInt8 := dkwX3_earliest_7 ++ dktX3_earliest_8
def dkwX3_earliest_6 : List UInt8 := [153, 0, 61, 25, 4, 185, 0, 102, 1, 0, 192, 0, 84, 182, 0, 108, 54, 5, 21, 5, 43, 180, 0, 111]
abbrev dktX3_earliest_6 : List UInt8 := dkwX3_earliest_6 ++ dktX3_earliest_7
def dkwX3_earliest_5 : List UInt8 := [184, 0, 83, 182, 0, 89, 87, 167, 255, 209, 45, 182, 0, 107, 58, 4, 25, 4, 185, 0, 96, 1, 0]
abbrev dktX3_earliest_5 : List UInt8 := dkwX3_earliest_5 ++ dktX3_earliest_6
def dkwX3_earliest_4 : List UInt8 := [192, 0, 39, 58, 5, 25, 5, 180, 0, 45, 43, 180, 0, 67, 164, 0, 16, 45, 25, 5, 180, 0, 106]
abbrev dktX3_earliest_4 : List UInt8 := dkwX3_earliest_4 ++ dktX3_earliest_5
def dkwX3_earliest_3 : List UInt8 := [182, 0, 92, 58, 4, 25, 4, 185, 0, 96, 1, 0, 153, 0, 43, 25, 4, 185, 0, 102, 1, 0]
abbrev dktX3_earliest_3 : List UInt8 := dkwX3_earliest_3 ++ dktX3_earliest_4
def dkwX3_earliest_2 : List UInt8 := [45, 25, 5, 180, 0, 57, 28, 96, 184, 0, 83, 182, 0, 89, 87, 167, 255, 219, 42, 180, 0, 12]
abbrev dktX3_earliest_2 : List UInt8 := dkwX3_earliest_2 ++ dktX3_earliest_3
def dkwX3_earliest_1 : List UInt8 := [58, 4, 25, 4, 185, 0, 96, 1, 0, 153, 0, 33, 25, 4, 185, 0, 102, 1, 0, 192, 0, 53, 58, 5]
abbrev dktX3_earliest_1 : List UInt8 := dkwX3_earliest_1 ++ dktX3_earliest_2
def dkwX3_earliest_0 : List UInt8 := [187, 0, 80, 89, 183, 0, 82, 78, 45, 3, 184, 0, 83, 182, 0, 89, 87, 42, 180, 0, 18, 182, 0, 92]
abbrev dktX3_earliest_0 : List UInt8 := dkwX3_earliest_0 ++ dktX3_earliest_1
theorem dksX3_earliest_0 : cX3_earliest.data.toList.drop 0 = dktX3_earliest_0 := by decide +kernel
theorem dksX3_earliest_1 : cX3_earliest.data.toList.drop 24 = dktX3_earliest_1 := dk_seg dksX3_earliest_0 24 rfl rfl
theorem dksX3_earliest_2 : cX3_earliest.data.toList.drop 48 = dktX3_earliest_2 := dk_seg dksX3_earliest_1 24 rfl rfl
theorem dksX3_earliest_3 : cX3_earliest.data.toList.drop 70 = dktX3_earliest_3 := dk_seg dksX3_earliest_2 22 rfl rfl
theorem dksX3_earliest_4 : cX3_earliest.data.toList.drop 92 = dktX3_earliest_4 := dk_seg dksX3_earliest_3 22 rfl rfl
theorem dksX3_earliest_5 : cX3_earliest.data.toList.drop 115 = dktX3_earliest_5 := dk_seg dksX3_earliest_4 23 rfl rfl
theorem dksX3_earliest_6 : cX3_earliest.data.toList.drop 138 = dktX3_earliest_6 := dk_seg dksX3_earliest_5 23 rfl rfl
theorem dksX3_earliest_7 : cX3_earliest.data.toList.drop 162 = dktX3_earliest_7 := dk_seg dksX3_earliest_6 24 rfl rfl
theorem dksX3_earliest_8 : cX3_earliest.data.toList.drop 186 = dktX3_earliest_8 := dk_seg dksX3_earliest_7 24 rfl rfl
theorem dX3_earliest_0 : decode cX3_earliest 0 = .ok (.new 80, 3) := dk_187 0 80 (dk_at dksX3_earliest_0 0 rfl rfl)
theorem dX3_earliest_3 : decode cX3_earliest 3 = .ok (.dup, 1) := dk_89 (dk_at dksX3_earliest_0 3 rfl rfl)
theorem dX3_earliest_4 : decode cX3_earliest 4 = .ok (.invokespecial 82, 3) := dk_183 0 82 (dk_at dksX3_earliest_0 4 rfl rfl)
theorem dX3_earliest_7 : decode cX3_earliest 7 = .ok (.astore_n 3, 1) := dk_78 (dk_at dksX3_earliest_0 7 rfl rfl)
theorem dX3_earliest_8 : decode cX3_earliest 8 = .ok (.aload_n 3, 1) := dk_45 (dk_at dksX3_earliest_0 8 rfl rfl)
theorem dX3_earliest_9 : decode cX3_earliest 9 = .ok (.iconst 0, 1) := dk_3 (dk_at dksX3_earliest_0 9 rfl rfl)
theorem dX3_earliest_10 : decode cX3_earliest 10 = .ok (.invokestatic 83, 3) := dk_184 0 83 (dk_at dksX3_earliest_0 10 rfl rfl)
theorem dX3_earliest_13 : decode cX3_earliest 13 = .ok (.invokevirtual 89, 3) := dk_182 0 89 (dk_at dksX3_earliest_0 13 rfl rfl)
theorem dX3_earliest_16 : decode cX3_earliest 16 = .ok (.pop, 1) := dk_87 (dk_at dksX3_earliest_0 16 rfl rfl)
theorem dX3_earliest_17 : decode cX3_earliest 17 = .ok (.aload_n 0, 1) := dk_42 (dk_at dksX3_earliest_0 17 rfl rfl)
theorem dX3_earliest_18 : decode cX3_earliest 18 = .ok (.getfield 18, 3) := dk_180 0 18 (dk_at dksX3_earliest_0 18 rfl rfl)
theorem dX3_earliest_21 : decode cX3_earliest 21 = .ok (.invokevirtual 92, 3) := dk_182 0 92 (dk_at dksX3_earliest_0 21 rfl rfl)
theorem dX3_earliest_24 : decode cX3_earliest 24 = .ok (.astore 4, 2) := dk_58 4 (dk_at dksX3_earliest_1 0 rfl rfl)
theorem dX3_earliest_26 : decode cX3_earliest 26 = .ok (.aload 4, 2) := dk_25 4 (dk_at dksX3_earliest_1 2 rfl rfl)
theorem dX3_earliest_28 : decode cX3_earliest 28 = .ok (.invokeinterface 96 1, 5) := by decide +kernel
theorem dX3_earliest_33 : decode cX3_earliest 33 = .ok (.ifCond .eq 33, 3) := dk_153 0 33 (dk_at dksX3_earliest_1 9 rfl rfl)
theorem dX3_earliest_36 : decode cX3_earliest 36 = .ok (.aload 4, 2) := dk_25 4 (dk_at dksX3_earliest_1 12 rfl rfl)
theorem dX3_earliest_38 : decode cX3_earliest 38 = .ok (.invokeinterface 102 1, 5) := by decide +kernel
theorem dX3_earliest_43 : decode cX3_earliest 43 = .ok (.checkcast 53, 3) := dk_192 0 53 (dk_at dksX3_earliest_1 19 rfl rfl)
theorem dX3_earliest_46 : decode cX3_earliest 46 = .ok (.astore 5, 2) := dk_58 5 (dk_at dksX3_earliest_1 22 rfl rfl)
theorem dX3_earliest_48 : decode cX3_earliest 48 = .ok (.aload_n 3, 1) := dk_45 (dk_at dksX3_earliest_2 0 rfl rfl)
theorem dX3_earliest_49 : decode cX3_earliest 49 = .ok (.aload 5, 2) := dk_25 5 (dk_at dksX3_earliest_2 1 rfl rfl)
theorem dX3_earliest_51 : decode cX3_earliest 51 = .ok (.getfield 57, 3) := dk_180 0 57 (dk_at dksX3_earliest_2 3 rfl rfl)
theorem dX3_earliest_54 : decode cX3_earliest 54 = .ok (.iload_n 2, 1) := dk_28 (dk_at dksX3_earliest_2 6 rfl rfl)
theorem dX3_earliest_55 : decode cX3_earliest 55 = .ok (.iadd, 1) := dk_96 (dk_at dksX3_earliest_2 7 rfl rfl)
theorem dX3_earliest_56 : decode cX3_earliest 56 = .ok (.invokestatic 83, 3) := dk_184 0 83 (dk_at dksX3_earliest_2 8 rfl rfl)
theorem dX3_earliest_59 : decode cX3_earliest 59 = .ok (.invokevirtual 89, 3) := dk_182 0 89 (dk_at dksX3_earliest_2 11 rfl rfl)
theorem dX3_earliest_62 : decode cX3_earliest 62 = .ok (.pop, 1) := dk_87 (dk_at dksX3_earliest_2 14 rfl rfl)
theorem dX3_earliest_63 : decode cX3_earliest 63 = .ok (.goto (-37), 3) := dk_167 255 219 (dk_at dksX3_earliest_2 15 rfl rfl)
theorem dX3_earliest_66 : decode cX3_earliest 66 = .ok (.aload_n 0, 1) := dk_42 (dk_at dksX3_earliest_2 18 rfl rfl)
theorem dX3_earliest_67 : decode cX3_earliest 67 = .ok (.getfield 12, 3) := dk_180 0 12 (dk_at dksX3_earliest_2 19 rfl rfl)
theorem dX3_earliest_70 : decode cX3_earliest 70 = .ok (.invokevirtual 92, 3) := dk_182 0 92 (dk_at dksX3_earliest_3 0 rfl rfl)
theorem dX3_earliest_73 : decode cX3_earliest 73 = .ok (.astore 4, 2) := dk_58 4 (dk_at dksX3_earliest_3 3 rfl rfl)
theorem dX3_earliest_75 : decode cX3_earliest 75 = .ok (.aload 4, 2) := dk_25 4 (dk_at dksX3_earliest_3 5 rfl rfl)
theorem dX3_earliest_77 : decode cX3_earliest 77 = .ok (.invokeinterface 96 1, 5) := by decide +kernel
theorem dX3_earliest_82 : decode cX3_earliest 82 = .ok (.ifCond .eq 43, 3) := dk_153 0 43 (dk_at dksX3_earliest_3 12 rfl rfl)
theorem dX3_earliest_85 : decode cX3_earliest 85 = .ok (.aload 4, 2) := dk_25 4 (dk_at dksX3_earliest_3 15 rfl rfl)
theorem dX3_earliest_87 : decode cX3_earliest 87 = .ok (.invokeinterface 102 1, 5) := by decide +kernel
theorem dX3_earliest_92 : decode cX3_earliest 92 = .ok (.checkcast 39, 3) := dk_192 0 39 (dk_at dksX3_earliest_4 0 rfl rfl)
theorem dX3_earliest_95 : decode cX3_earliest 95 = .ok (.astore 5, 2) := dk_58 5 (dk_at dksX3_earliest_4 3 rfl rfl)
theorem dX3_earliest_97 : decode cX3_earliest 97 = .ok (.aload 5, 2) := dk_25 5 (dk_at dksX3_earliest_4 5 rfl rfl)
theorem dX3_earliest_99 : decode cX3_earliest 99 = .ok (.getfield 45, 3) := dk_180 0 45 (dk_at dksX3_earliest_4 7 rfl rfl)
theorem dX3_earliest_102 : decode cX3_earliest 102 = .ok (.aload_n 1, 1) := dk_43 (dk_at dksX3_earliest_4 10 rfl rfl)
theorem dX3_earliest_103 : decode cX3_earliest 103 = .ok (.getfield 67, 3) := dk_180 0 67 (dk_at dksX3_earliest_4 11 rfl rfl)
theorem dX3_earliest_106 : decode cX3_earliest 106 = .ok (.if_icmp .le 16, 3) := dk_164 0 16 (dk_at dksX3_earliest_4 14 rfl rfl)
theorem dX3_earliest_109 : decode cX3_earliest 109 = .ok (.aload_n 3, 1) := dk_45 (dk_at dksX3_earliest_4 17 rfl rfl)
theorem dX3_earliest_110 : decode cX3_earliest 110 = .ok (.aload 5, 2) := dk_25 5 (dk_at dksX3_earliest_4 18 rfl rfl)
theorem dX3_earliest_112 : decode cX3_earliest 112 = .ok (.getfield 106, 3) := dk_180 0 106 (dk_at dksX3_earliest_4 20 rfl rfl)
theorem dX3_earliest_115 : decode cX3_earliest 115 = .ok (.invokestatic 83, 3) := dk_184 0 83 (dk_at dksX3_earliest_5 0 rfl rfl)
theorem dX3_earliest_118 : decode cX3_earliest 118 = .ok (.invokevirtual 89, 3) := dk_182 0 89 (dk_at dksX3_earliest_5 3 rfl rfl)
theorem dX3_earliest_121 : decode cX3_earliest 121 = .ok (.pop, 1) := dk_87 (dk_at dksX3_earliest_5 6 rfl rfl)
theorem dX3_earliest_122 : decode cX3_earliest 122 = .ok (.goto (-47), 3) := dk_167 255 209 (dk_at dksX3_earliest_5 7 rfl rfl)
theorem dX3_earliest_125 : decode cX3_earliest 125 = .ok (.aload_n 3, 1) := dk_45 (dk_at dksX3_earliest_5 10 rfl rfl)
theorem dX3_earliest_126 : decode cX3_earliest 126 = .ok (.invokevirtual 107, 3) := dk_182 0 107 (dk_at dksX3_earliest_5 11 rfl rfl)
theorem dX3_earliest_129 : decode cX3_earliest 129 = .ok (.astore 4, 2) := dk_58 4 (dk_at dksX3_earliest_5 14 rfl rfl)
theorem dX3_earliest_131 : decode cX3_earliest 131 = .ok (.aload 4, 2) := dk_25 4 (dk_at dksX3_earliest_5 16 rfl rfl)
theorem dX3_earliest_133 : decode cX3_earliest 133 = .ok (.invokeinterface 96 1, 5) := by decide +kernel
theorem dX3_earliest_138 : decode cX3_earliest 138 = .ok (.ifCond .eq 61, 3) := dk_153 0 61 (dk_at dksX3_earliest_6 0 rfl rfl)
theorem dX3_earliest_141 : decode cX3_earliest 141 = .ok (.aload 4, 2) := dk_25 4 (dk_at dksX3_earliest_6 3 rfl rfl)
theorem dX3_earliest_143 : decode cX3_earliest 143 = .ok (.invokeinterface 102 1, 5) := by decide +kernel
theorem dX3_earliest_148 : decode cX3_earliest 148 = .ok (.checkcast 84, 3) := dk_192 0 84 (dk_at dksX3_earliest_6 10 rfl rfl)
theorem dX3_earliest_151 : decode cX3_earliest 151 = .ok (.invokevirtual 108, 3) := dk_182 0 108 (dk_at dksX3_earliest_6 13 rfl rfl)
theorem dX3_earliest_154 : decode cX3_earliest 154 = .ok (.istore 5, 2) := dk_54 5 (dk_at dksX3_earliest_6 16 rfl rfl)
theorem dX3_earliest_156 : decode cX3_earliest 156 = .ok (.iload 5, 2) := dk_21 5 (dk_at dksX3_earliest_6 18 rfl rfl)
theorem dX3_earliest_158 : decode cX3_earliest 158 = .ok (.aload_n 1, 1) := dk_43 (dk_at dksX3_earliest_6 20 rfl rfl)
theorem dX3_earliest_159 : decode cX3_earliest 159 = .ok (.getfield 111, 3) := dk_180 0 111 (dk_at dksX3_earliest_6 21 rfl rfl)
theorem dX3_earliest_162 : decode cX3_earliest 162 = .ok (.iadd, 1) := dk_96 (dk_at dksX3_earliest_7 0 rfl rfl)
theorem dX3_earliest_163 : decode cX3_earliest 163 = .ok (.aload_n 0, 1) := dk_42 (dk_at dksX3_earliest_7 1 rfl rfl)
theorem dX3_earliest_164 : decode cX3_earliest 164 = .ok (.getfield 21, 3) := dk_180 0 21 (dk_at dksX3_earliest_7 2 rfl rfl)
theorem dX3_earliest_167 : decode cX3_earliest 167 = .ok (.if_icmp .gt 29, 3) := dk_163 0 29 (dk_at dksX3_earliest_7 5 rfl rfl)
theorem dX3_earliest_170 : decode cX3_earliest 170 = .ok (.aload_n 0, 1) := dk_42 (dk_at dksX3_earliest_7 8 rfl rfl)
theorem dX3_earliest_171 : decode cX3_earliest 171 = .ok (.new 53, 3) := dk_187 0 53 (dk_at dksX3_earliest_7 9 rfl rfl)
theorem dX3_earliest_174 : decode cX3_earliest 174 = .ok (.dup, 1) := dk_89 (dk_at dksX3_earliest_7 12 rfl rfl)
theorem dX3_earliest_175 : decode cX3_earliest 175 = .ok (.aload_n 1, 1) := dk_43 (dk_at dksX3_earliest_7 13 rfl rfl)
theorem dX3_earliest_176 : decode cX3_earliest 176 = .ok (.iload 5, 2) := dk_21 5 (dk_at dksX3_earliest_7 14 rfl rfl)
theorem dX3_earliest_178 : decode cX3_earliest 178 = .ok (.aload_n 1, 1) := dk_43 (dk_at dksX3_earliest_7 16 rfl rfl)
theorem dX3_earliest_179 : decode cX3_earliest 179 = .ok (.getfield 111, 3) := dk_180 0 111 (dk_at dksX3_earliest_7 17 rfl rfl)
theorem dX3_earliest_182 : decode cX3_earliest 182 = .ok (.iconst 0, 1) := dk_3 (dk_at dksX3_earliest_7 20 rfl rfl)
theorem dX3_earliest_183 : decode cX3_earliest 183 = .ok (.invokespecial 112, 3) := dk_183 0 112 (dk_at dksX3_earliest_7 21 rfl rfl)
theorem dX3_earliest_186 : decode cX3_earliest 186 = .ok (.iload_n 2, 1) := dk_28 (dk_at dksX3_earliest_8 0 rfl rfl)
theorem dX3_earliest_187 : decode cX3_earliest 187 = .ok (.invokevirtual 115, 3) := dk_182 0 115 (dk_at dksX3_earliest_8 1 rfl rfl)
theorem dX3_earliest_190 : decode cX3_earliest 190 = .ok (.ifCond .eq 6, 3) := dk_153 0 6 (dk_at dksX3_earliest_8 4 rfl rfl)
theorem dX3_earliest_193 : decode cX3_earliest 193 = .ok (.iload 5, 2) := dk_21 5 (dk_at dksX3_earliest_8 7 rfl rfl)
theorem dX3_earliest_195 : decode cX3_earliest 195 = .ok (.ireturn, 1) := dk_172 (dk_at dksX3_earliest_8 9 rfl rfl)
theorem dX3_earliest_196 : decode cX3_earliest 196 = .ok (.goto (-65), 3) := dk_167 255 191 (dk_at dksX3_earliest_8 10 rfl rfl)
theorem dX3_earliest_199 : decode cX3_earliest 199 = .ok (.iconst (-1), 1) := dk_2 (dk_at dksX3_earliest_8 13 rfl rfl)
theorem dX3_earliest_200 : decode cX3_earliest 200 = .ok (.ireturn, 1) := dk_172 (dk_at dksX3_earliest_8 14 rfl rfl)
abbrev cX3_isPossible : ByteArray := prog_2_method_3_code
def yX3_isPossible : MethodName := ⟨RX3, "isPossible", "(LTimberList$Piece;I)Z"⟩
def dkwX3_isPossible_5 : List UInt8 := [153, 0, 5, 3, 172, 132, 3, 1, 167, 255, 221, 4, 172]
abbrev dktX3_isPossible_5 : List UInt8 := dkwX3_isPossible_5 ++ []
def dkwX3_isPossible_4 : List UInt8 := [182, 0, 31, 162, 0, 30, 42, 180, 0, 18, 29, 182, 0, 35, 192, 0, 53, 43, 28, 182, 0, 72]
abbrev dktX3_isPossible_4 : List UInt8 := dkwX3_isPossible_4 ++ dktX3_isPossible_5
def dkwX3_isPossible_3 : List UInt8 := [192, 0, 39, 182, 0, 68, 153, 0, 5, 3, 172, 132, 3, 1, 167, 255, 222, 3, 62, 29, 42, 180, 0, 18]
abbrev dktX3_isPossible_3 : List UInt8 := dkwX3_isPossible_3 ++ dktX3_isPossible_4
def dkwX3_isPossible_2 : List UInt8 := [3, 172, 3, 62, 29, 42, 180, 0, 12, 182, 0, 31, 162, 0, 29, 43, 42, 180, 0, 12, 29, 182, 0, 35]
abbrev dktX3_isPossible_2 : List UInt8 := dkwX3_isPossible_2 ++ dktX3_isPossible_3
def dkwX3_isPossible_1 : List UInt8 := [180, 0, 64, 42, 180, 0, 25, 163, 0, 17, 42, 180, 0, 28, 43, 180, 0, 60, 180, 0, 67, 164, 0, 5]
abbrev dktX3_isPossible_1 : List UInt8 := dkwX3_isPossible_1 ++ dktX3_isPossible_2
def dkwX3_isPossible_0 : List UInt8 := [43, 180, 0, 52, 155, 0, 42, 43, 180, 0, 57, 42, 180, 0, 21, 163, 0, 31, 43, 180, 0, 60]
abbrev dktX3_isPossible_0 : List UInt8 := dkwX3_isPossible_0 ++ dktX3_isPossible_1
theorem dksX3_isPossible_0 : cX3_isPossible.data.toList.drop 0 = dktX3_isPossible_0 := by decide +kernel
theorem dksX3_isPossible_1 : cX3_isPossible.data.toList.drop 22 = dktX3_isPossible_1 := dk_seg dksX3_isPossible_0 22 rfl rfl
theorem dksX3_isPossible_2 : cX3_isPossible.data.toList.drop 46 = dktX3_isPossible_2 := dk_seg dksX3_isPossible_1 24 rfl rfl
theorem dksX3_isPossible_3 : cX3_isPossible.data.toList.drop 70 = dktX3_isPossible_3 := dk_seg dksX3_isPossible_2 24 rfl rfl
theorem dksX3_isPossible_4 : cX3_isPossible.data.toList.drop 94 = dktX3_isPossible_4 := dk_seg dksX3_isPossible_3 24 rfl rfl
theorem dksX3_isPossible_5 : cX3_isPossible.data.toList.drop 116 = dktX3_isPossible_5 := dk_seg dksX3_isPossible_4 22 rfl rfl
theorem dX3_isPossible_0 : decode cX3_isPossible 0 = .ok (.aload_n 1, 1) := dk_43 (dk_at dksX3_isPossible_0 0 rfl rfl)
theorem dX3_isPossible_1 : decode cX3_isPossible 1 = .ok (.getfield 52, 3) := dk_180 0 52 (dk_at dksX3_isPossible_0 1 rfl rfl)
theorem dX3_isPossible_4 : decode cX3_isPossible 4 = .ok (.ifCond .lt 42, 3) := dk_155 0 42 (dk_at dksX3_isPossible_0 4 rfl rfl)
theorem dX3_isPossible_7 : decode cX3_isPossible 7 = .ok (.aload_n 1, 1) := dk_43 (dk_at dksX3_isPossible_0 7 rfl rfl)
theorem dX3_isPossible_8 : decode cX3_isPossible 8 = .ok (.getfield 57, 3) := dk_180 0 57 (dk_at dksX3_isPossible_0 8 rfl rfl)
theorem dX3_isPossible_11 : decode cX3_isPossible 11 = .ok (.aload_n 0, 1) := dk_42 (dk_at dksX3_isPossible_0 11 rfl rfl)
theorem dX3_isPossible_12 : decode cX3_isPossible 12 = .ok (.getfield 21, 3) := dk_180 0 21 (dk_at dksX3_isPossible_0 12 rfl rfl)
theorem dX3_isPossible_15 : decode cX3_isPossible 15 = .ok (.if_icmp .gt 31, 3) := dk_163 0 31 (dk_at dksX3_isPossible_0 15 rfl rfl)
theorem dX3_isPossible_18 : decode cX3_isPossible 18 = .ok (.aload_n 1, 1) := dk_43 (dk_at dksX3_isPossible_0 18 rfl rfl)
theorem dX3_isPossible_19 : decode cX3_isPossible 19 = .ok (.getfield 60, 3) := dk_180 0 60 (dk_at dksX3_isPossible_0 19 rfl rfl)
theorem dX3_isPossible_22 : decode cX3_isPossible 22 = .ok (.getfield 64, 3) := dk_180 0 64 (dk_at dksX3_isPossible_1 0 rfl rfl)
theorem dX3_isPossible_25 : decode cX3_isPossible 25 = .ok (.aload_n 0, 1) := dk_42 (dk_at dksX3_isPossible_1 3 rfl rfl)
theorem dX3_isPossible_26 : decode cX3_isPossible 26 = .ok (.getfield 25, 3) := dk_180 0 25 (dk_at dksX3_isPossible_1 4 rfl rfl)
theorem dX3_isPossible_29 : decode cX3_isPossible 29 = .ok (.if_icmp .gt 17, 3) := dk_163 0 17 (dk_at dksX3_isPossible_1 7 rfl rfl)
theorem dX3_isPossible_32 : decode cX3_isPossible 32 = .ok (.aload_n 0, 1) := dk_42 (dk_at dksX3_isPossible_1 10 rfl rfl)
theorem dX3_isPossible_33 : decode cX3_isPossible 33 = .ok (.getfield 28, 3) := dk_180 0 28 (dk_at dksX3_isPossible_1 11 rfl rfl)
theorem dX3_isPossible_36 : decode cX3_isPossible 36 = .ok (.aload_n 1, 1) := dk_43 (dk_at dksX3_isPossible_1 14 rfl rfl)
theorem dX3_isPossible_37 : decode cX3_isPossible 37 = .ok (.getfield 60, 3) := dk_180 0 60 (dk_at dksX3_isPossible_1 15 rfl rfl)
theorem dX3_isPossible_40 : decode cX3_isPossible 40 = .ok (.getfield 67, 3) := dk_180 0 67 (dk_at dksX3_isPossible_1 18 rfl rfl)
theorem dX3_isPossible_43 : decode cX3_isPossible 43 = .ok (.if_icmp .le 5, 3) := dk_164 0 5 (dk_at dksX3_isPossible_1 21 rfl rfl)
theorem dX3_isPossible_46 : decode cX3_isPossible 46 = .ok (.iconst 0, 1) := dk_3 (dk_at dksX3_isPossible_2 0 rfl rfl)
theorem dX3_isPossible_47 : decode cX3_isPossible 47 = .ok (.ireturn, 1) := dk_172 (dk_at dksX3_isPossible_2 1 rfl rfl)
theorem dX3_isPossible_48 : decode cX3_isPossible 48 = .ok (.iconst 0, 1) := dk_3 (dk_at dksX3_isPossible_2 2 rfl rfl)
theorem dX3_isPossible_49 : decode cX3_isPossible 49 = .ok (.istore_n 3, 1) := dk_62 (dk_at dksX3_isPossible_2 3 rfl rfl)
theorem dX3_isPossible_50 : decode cX3_isPossible 50 = .ok (.iload_n 3, 1) := dk_29 (dk_at dksX3_isPossible_2 4 rfl rfl)
theorem dX3_isPossible_51 : decode cX3_isPossible 51 = .ok (.aload_n 0, 1) := dk_42 (dk_at dksX3_isPossible_2 5 rfl rfl)
theorem dX3_isPossible_52 : decode cX3_isPossible 52 = .ok (.getfield 12, 3) := dk_180 0 12 (dk_at dksX3_isPossible_2 6 rfl rfl)
theorem dX3_isPossible_55 : decode cX3_isPossible 55 = .ok (.invokevirtual 31, 3) := dk_182 0 31 (dk_at dksX3_isPossible_2 9 rfl rfl)
theorem dX3_isPossible_58 : decode cX3_isPossible 58 = .ok (.if_icmp .ge 29, 3) := dk_162 0 29 (dk_at dksX3_isPossible_2 12 rfl rfl)
theorem dX3_isPossible_61 : decode cX3_isPossible 61 = .ok (.aload_n 1, 1) := dk_43 (dk_at dksX3_isPossible_2 15 rfl rfl)
theorem dX3_isPossible_62 : decode cX3_isPossible 62 = .ok (.aload_n 0, 1) := dk_42 (dk_at dksX3_isPossible_2 16 rfl rfl)
theorem dX3_isPossible_63 : decode cX3_isPossible 63 = .ok (.getfield 12, 3) := dk_180 0 12 (dk_at dksX3_isPossible_2 17 rfl rfl)
theorem dX3_isPossible_66 : decode cX3_isPossible 66 = .ok (.iload_n 3, 1) := dk_29 (dk_at dksX3_isPossible_2 20 rfl rfl)
theorem dX3_isPossible_67 : decode cX3_isPossible 67 = .ok (.invokevirtual 35, 3) := dk_182 0 35 (dk_at dksX3_isPossible_2 21 rfl rfl)
theorem dX3_isPossible_70 : decode cX3_isPossible 70 = .ok (.checkcast 39, 3) := dk_192 0 39 (dk_at dksX3_isPossible_3 0 rfl rfl)
theorem dX3_isPossible_73 : decode cX3_isPossible 73 = .ok (.invokevirtual 68, 3) := dk_182 0 68 (dk_at dksX3_isPossible_3 3 rfl rfl)
theorem dX3_isPossible_76 : decode cX3_isPossible 76 = .ok (.ifCond .eq 5, 3) := dk_153 0 5 (dk_at dksX3_isPossible_3 6 rfl rfl)
theorem dX3_isPossible_79 : decode cX3_isPossible 79 = .ok (.iconst 0, 1) := dk_3 (dk_at dksX3_isPossible_3 9 rfl rfl)
theorem dX3_isPossible_80 : decode cX3_isPossible 80 = .ok (.ireturn, 1) := dk_172 (dk_at dksX3_isPossible_3 10 rfl rfl)
theorem dX3_isPossible_81 : decode cX3_isPossible 81 = .ok (.iinc 3 1, 3) := dk_132 3 1 (dk_at dksX3_isPossible_3 11 rfl rfl)
theorem dX3_isPossible_84 : decode cX3_isPossible 84 = .ok (.goto (-34), 3) := dk_167 255 222 (dk_at dksX3_isPossible_3 14 rfl rfl)
theorem dX3_isPossible_87 : decode cX3_isPossible 87 = .ok (.iconst 0, 1) := dk_3 (dk_at dksX3_isPossible_3 17 rfl rfl)
theorem dX3_isPossible_88 : decode cX3_isPossible 88 = .ok (.istore_n 3, 1) := dk_62 (dk_at dksX3_isPossible_3 18 rfl rfl)
theorem dX3_isPossible_89 : decode cX3_isPossible 89 = .ok (.iload_n 3, 1) := dk_29 (dk_at dksX3_isPossible_3 19 rfl rfl)
theorem dX3_isPossible_90 : decode cX3_isPossible 90 = .ok (.aload_n 0, 1) := dk_42 (dk_at dksX3_isPossible_3 20 rfl rfl)
theorem dX3_isPossible_91 : decode cX3_isPossible 91 = .ok (.getfield 18, 3) := dk_180 0 18 (dk_at dksX3_isPossible_3 21 rfl rfl)
theorem dX3_isPossible_94 : decode cX3_isPossible 94 = .ok (.invokevirtual 31, 3) := dk_182 0 31 (dk_at dksX3_isPossible_4 0 rfl rfl)
theorem dX3_isPossible_97 : decode cX3_isPossible 97 = .ok (.if_icmp .ge 30, 3) := dk_162 0 30 (dk_at dksX3_isPossible_4 3 rfl rfl)
theorem dX3_isPossible_100 : decode cX3_isPossible 100 = .ok (.aload_n 0, 1) := dk_42 (dk_at dksX3_isPossible_4 6 rfl rfl)
theorem dX3_isPossible_101 : decode cX3_isPossible 101 = .ok (.getfield 18, 3) := dk_180 0 18 (dk_at dksX3_isPossible_4 7 rfl rfl)
theorem dX3_isPossible_104 : decode cX3_isPossible 104 = .ok (.iload_n 3, 1) := dk_29 (dk_at dksX3_isPossible_4 10 rfl rfl)
theorem dX3_isPossible_105 : decode cX3_isPossible 105 = .ok (.invokevirtual 35, 3) := dk_182 0 35 (dk_at dksX3_isPossible_4 11 rfl rfl)
theorem dX3_isPossible_108 : decode cX3_isPossible 108 = .ok (.checkcast 53, 3) := dk_192 0 53 (dk_at dksX3_isPossible_4 14 rfl rfl)
theorem dX3_isPossible_111 : decode cX3_isPossible 111 = .ok (.aload_n 1, 1) := dk_43 (dk_at dksX3_isPossible_4 17 rfl rfl)
theorem dX3_isPossible_112 : decode cX3_isPossible 112 = .ok (.iload_n 2, 1) := dk_28 (dk_at dksX3_isPossible_4 18 rfl rfl)
theorem dX3_isPossible_113 : decode cX3_isPossible 113 = .ok (.invokevirtual 72, 3) := dk_182 0 72 (dk_at dksX3_isPossible_4 19 rfl rfl)
theorem dX3_isPossible_116 : decode cX3_isPossible 116 = .ok (.ifCond .eq 5, 3) := dk_153 0 5 (dk_at dksX3_isPossible_5 0 rfl rfl)
theorem dX3_isPossible_119 : decode cX3_isPossible 119 = .ok (.iconst 0, 1) := dk_3 (dk_at dksX3_isPossible_5 3 rfl rfl)
theorem dX3_isPossible_120 : decode cX3_isPossible 120 = .ok (.ireturn, 1) := dk_172 (dk_at dksX3_isPossible_5 4 rfl rfl)
theorem dX3_isPossible_121 : decode cX3_isPossible 121 = .ok (.iinc 3 1, 3) := dk_132 3 1 (dk_at dksX3_isPossible_5 5 rfl rfl)
theorem dX3_isPossible_124 : decode cX3_isPossible 124 = .ok (.goto (-35), 3) := dk_167 255 221 (dk_at dksX3_isPossible_5 8 rfl rfl)
theorem dX3_isPossible_127 : decode cX3_isPossible 127 = .ok (.iconst 1, 1) := dk_4 (dk_at dksX3_isPossible_5 11 rfl rfl)
theorem dX3_isPossible_128 : decode cX3_isPossible 128 = .ok (.ireturn, 1) := dk_172 (dk_at dksX3_isPossible_5 12 rfl rfl)
abbrev cX3_room : ByteArray := prog_2_method_6_code
def yX3_room : MethodName := ⟨RX3, "room", "(II)I"⟩
def dkwX3_room_3 : List UInt8 := [184, 0, 119, 54, 4, 167, 255, 196, 21, 4, 29, 100, 172]
abbrev dktX3_room_3 : List UInt8 := dkwX3_room_3 ++ []
def dkwX3_room_2 : List UInt8 := [29, 25, 6, 180, 0, 57, 28, 96, 184, 0, 46, 62, 167, 0, 17, 21, 4, 25, 6, 180, 0, 52, 28, 100]
abbrev dktX3_room_2 : List UInt8 := dkwX3_room_2 ++ dktX3_room_3
def dkwX3_room_1 : List UInt8 := [153, 0, 56, 25, 5, 185, 0, 102, 1, 0, 192, 0, 53, 58, 6, 25, 6, 180, 0, 57, 27, 163, 0, 18]
abbrev dktX3_room_1 : List UInt8 := dkwX3_room_1 ++ dktX3_room_2
def dkwX3_room_0 : List UInt8 := [3, 62, 42, 180, 0, 21, 54, 4, 42, 180, 0, 18, 182, 0, 92, 58, 5, 25, 5, 185, 0, 96, 1, 0]
abbrev dktX3_room_0 : List UInt8 := dkwX3_room_0 ++ dktX3_room_1
theorem dksX3_room_0 : cX3_room.data.toList.drop 0 = dktX3_room_0 := by decide +kernel
theorem dksX3_room_1 : cX3_room.data.toList.drop 24 = dktX3_room_1 := dk_seg dksX3_room_0 24 rfl rfl
theorem dksX3_room_2 : cX3_room.data.toList.drop 48 = dktX3_room_2 := dk_seg dksX3_room_1 24 rfl rfl
theorem dksX3_room_3 : cX3_room.data.toList.drop 72 = dktX3_room_3 := dk_seg dksX3_room_2 24 rfl rfl
theorem dX3_room_0 : decode cX3_room 0 = .ok (.iconst 0, 1) := dk_3 (dk_at dksX3_room_0 0 rfl rfl)
theorem dX3_room_1 : decode cX3_room 1 = .ok (.istore_n 3, 1) := dk_62 (dk_at dksX3_room_0 1 rfl rfl)
theorem dX3_room_2 : decode cX3_room 2 = .ok (.aload_n 0, 1) := dk_42 (dk_at dksX3_room_0 2 rfl rfl)
theorem dX3_room_3 : decode cX3_room 3 = .ok (.getfield 21, 3) := dk_180 0 21 (dk_at dksX3_room_0 3 rfl rfl)
theorem dX3_room_6 : decode cX3_room 6 = .ok (.istore 4, 2) := dk_54 4 (dk_at dksX3_room_0 6 rfl rfl)
theorem dX3_room_8 : decode cX3_room 8 = .ok (.aload_n 0, 1) := dk_42 (dk_at dksX3_room_0 8 rfl rfl)
theorem dX3_room_9 : decode cX3_room 9 = .ok (.getfield 18, 3) := dk_180 0 18 (dk_at dksX3_room_0 9 rfl rfl)
theorem dX3_room_12 : decode cX3_room 12 = .ok (.invokevirtual 92, 3) := dk_182 0 92 (dk_at dksX3_room_0 12 rfl rfl)
theorem dX3_room_15 : decode cX3_room 15 = .ok (.astore 5, 2) := dk_58 5 (dk_at dksX3_room_0 15 rfl rfl)
theorem dX3_room_17 : decode cX3_room 17 = .ok (.aload 5, 2) := dk_25 5 (dk_at dksX3_room_0 17 rfl rfl)
theorem dX3_room_19 : decode cX3_room 19 = .ok (.invokeinterface 96 1, 5) := by decide +kernel
theorem dX3_room_24 : decode cX3_room 24 = .ok (.ifCond .eq 56, 3) := dk_153 0 56 (dk_at dksX3_room_1 0 rfl rfl)
theorem dX3_room_27 : decode cX3_room 27 = .ok (.aload 5, 2) := dk_25 5 (dk_at dksX3_room_1 3 rfl rfl)
theorem dX3_room_29 : decode cX3_room 29 = .ok (.invokeinterface 102 1, 5) := by decide +kernel
theorem dX3_room_34 : decode cX3_room 34 = .ok (.checkcast 53, 3) := dk_192 0 53 (dk_at dksX3_room_1 10 rfl rfl)
theorem dX3_room_37 : decode cX3_room 37 = .ok (.astore 6, 2) := dk_58 6 (dk_at dksX3_room_1 13 rfl rfl)
theorem dX3_room_39 : decode cX3_room 39 = .ok (.aload 6, 2) := dk_25 6 (dk_at dksX3_room_1 15 rfl rfl)
theorem dX3_room_41 : decode cX3_room 41 = .ok (.getfield 57, 3) := dk_180 0 57 (dk_at dksX3_room_1 17 rfl rfl)
theorem dX3_room_44 : decode cX3_room 44 = .ok (.iload_n 1, 1) := dk_27 (dk_at dksX3_room_1 20 rfl rfl)
theorem dX3_room_45 : decode cX3_room 45 = .ok (.if_icmp .gt 18, 3) := dk_163 0 18 (dk_at dksX3_room_1 21 rfl rfl)
theorem dX3_room_48 : decode cX3_room 48 = .ok (.iload_n 3, 1) := dk_29 (dk_at dksX3_room_2 0 rfl rfl)
theorem dX3_room_49 : decode cX3_room 49 = .ok (.aload 6, 2) := dk_25 6 (dk_at dksX3_room_2 1 rfl rfl)
theorem dX3_room_51 : decode cX3_room 51 = .ok (.getfield 57, 3) := dk_180 0 57 (dk_at dksX3_room_2 3 rfl rfl)
theorem dX3_room_54 : decode cX3_room 54 = .ok (.iload_n 2, 1) := dk_28 (dk_at dksX3_room_2 6 rfl rfl)
theorem dX3_room_55 : decode cX3_room 55 = .ok (.iadd, 1) := dk_96 (dk_at dksX3_room_2 7 rfl rfl)
theorem dX3_room_56 : decode cX3_room 56 = .ok (.invokestatic 46, 3) := dk_184 0 46 (dk_at dksX3_room_2 8 rfl rfl)
theorem dX3_room_59 : decode cX3_room 59 = .ok (.istore_n 3, 1) := dk_62 (dk_at dksX3_room_2 11 rfl rfl)
theorem dX3_room_60 : decode cX3_room 60 = .ok (.goto 17, 3) := dk_167 0 17 (dk_at dksX3_room_2 12 rfl rfl)
theorem dX3_room_63 : decode cX3_room 63 = .ok (.iload 4, 2) := dk_21 4 (dk_at dksX3_room_2 15 rfl rfl)
theorem dX3_room_65 : decode cX3_room 65 = .ok (.aload 6, 2) := dk_25 6 (dk_at dksX3_room_2 17 rfl rfl)
theorem dX3_room_67 : decode cX3_room 67 = .ok (.getfield 52, 3) := dk_180 0 52 (dk_at dksX3_room_2 19 rfl rfl)
theorem dX3_room_70 : decode cX3_room 70 = .ok (.iload_n 2, 1) := dk_28 (dk_at dksX3_room_2 22 rfl rfl)
theorem dX3_room_71 : decode cX3_room 71 = .ok (.isub, 1) := dk_100 (dk_at dksX3_room_2 23 rfl rfl)
theorem dX3_room_72 : decode cX3_room 72 = .ok (.invokestatic 119, 3) := dk_184 0 119 (dk_at dksX3_room_3 0 rfl rfl)
theorem dX3_room_75 : decode cX3_room 75 = .ok (.istore 4, 2) := dk_54 4 (dk_at dksX3_room_3 3 rfl rfl)
theorem dX3_room_77 : decode cX3_room 77 = .ok (.goto (-60), 3) := dk_167 255 196 (dk_at dksX3_room_3 5 rfl rfl)
theorem dX3_room_80 : decode cX3_room 80 = .ok (.iload 4, 2) := dk_21 4 (dk_at dksX3_room_3 8 rfl rfl)
theorem dX3_room_82 : decode cX3_room 82 = .ok (.iload_n 3, 1) := dk_29 (dk_at dksX3_room_3 10 rfl rfl)
theorem dX3_room_83 : decode cX3_room 83 = .ok (.isub, 1) := dk_100 (dk_at dksX3_room_3 11 rfl rfl)
theorem dX3_room_84 : decode cX3_room 84 = .ok (.ireturn, 1) := dk_172 (dk_at dksX3_room_3 12 rfl rfl)
abbrev cX3_add : ByteArray := prog_2_method_4_code
def yX3_add : MethodName := ⟨RX3, "add", "(LTimberList$Piece;)V"⟩
def dkwX3_add_2 : List UInt8 := [182, 0, 76, 177]
abbrev dktX3_add_2 : List UInt8 := dkwX3_add_2 ++ []
def dkwX3_add_1 : List UInt8 := [180, 0, 52, 43, 180, 0, 52, 162, 0, 9, 132, 2, 1, 167, 255, 221, 42, 180, 0, 18, 28, 43]
abbrev dktX3_add_1 : List UInt8 := dkwX3_add_1 ++ dktX3_add_2
def dkwX3_add_0 : List UInt8 := [3, 61, 28, 42, 180, 0, 18, 182, 0, 31, 162, 0, 30, 42, 180, 0, 18, 28, 182, 0, 35, 192, 0, 53]
abbrev dktX3_add_0 : List UInt8 := dkwX3_add_0 ++ dktX3_add_1
theorem dksX3_add_0 : cX3_add.data.toList.drop 0 = dktX3_add_0 := by decide +kernel
theorem dksX3_add_1 : cX3_add.data.toList.drop 24 = dktX3_add_1 := dk_seg dksX3_add_0 24 rfl rfl
theorem dksX3_add_2 : cX3_add.data.toList.drop 46 = dktX3_add_2 := dk_seg dksX3_add_1 22 rfl rfl
theorem dX3_add_0 : decode cX3_add 0 = .ok (.iconst 0, 1) := dk_3 (dk_at dksX3_add_0 0 rfl rfl)
theorem dX3_add_1 : decode cX3_add 1 = .ok (.istore_n 2, 1) := dk_61 (dk_at dksX3_add_0 1 rfl rfl)
theorem dX3_add_2 : decode cX3_add 2 = .ok (.iload_n 2, 1) := dk_28 (dk_at dksX3_add_0 2 rfl rfl)
theorem dX3_add_3 : decode cX3_add 3 = .ok (.aload_n 0, 1) := dk_42 (dk_at dksX3_add_0 3 rfl rfl)
theorem dX3_add_4 : decode cX3_add 4 = .ok (.getfield 18, 3) := dk_180 0 18 (dk_at dksX3_add_0 4 rfl rfl)
theorem dX3_add_7 : decode cX3_add 7 = .ok (.invokevirtual 31, 3) := dk_182 0 31 (dk_at dksX3_add_0 7 rfl rfl)
theorem dX3_add_10 : decode cX3_add 10 = .ok (.if_icmp .ge 30, 3) := dk_162 0 30 (dk_at dksX3_add_0 10 rfl rfl)
theorem dX3_add_13 : decode cX3_add 13 = .ok (.aload_n 0, 1) := dk_42 (dk_at dksX3_add_0 13 rfl rfl)
theorem dX3_add_14 : decode cX3_add 14 = .ok (.getfield 18, 3) := dk_180 0 18 (dk_at dksX3_add_0 14 rfl rfl)
theorem dX3_add_17 : decode cX3_add 17 = .ok (.iload_n 2, 1) := dk_28 (dk_at dksX3_add_0 17 rfl rfl)
theorem dX3_add_18 : decode cX3_add 18 = .ok (.invokevirtual 35, 3) := dk_182 0 35 (dk_at dksX3_add_0 18 rfl rfl)
theorem dX3_add_21 : decode cX3_add 21 = .ok (.checkcast 53, 3) := dk_192 0 53 (dk_at dksX3_add_0 21 rfl rfl)
theorem dX3_add_24 : decode cX3_add 24 = .ok (.getfield 52, 3) := dk_180 0 52 (dk_at dksX3_add_1 0 rfl rfl)
theorem dX3_add_27 : decode cX3_add 27 = .ok (.aload_n 1, 1) := dk_43 (dk_at dksX3_add_1 3 rfl rfl)
theorem dX3_add_28 : decode cX3_add 28 = .ok (.getfield 52, 3) := dk_180 0 52 (dk_at dksX3_add_1 4 rfl rfl)
theorem dX3_add_31 : decode cX3_add 31 = .ok (.if_icmp .ge 9, 3) := dk_162 0 9 (dk_at dksX3_add_1 7 rfl rfl)
theorem dX3_add_34 : decode cX3_add 34 = .ok (.iinc 2 1, 3) := dk_132 2 1 (dk_at dksX3_add_1 10 rfl rfl)
theorem dX3_add_37 : decode cX3_add 37 = .ok (.goto (-35), 3) := dk_167 255 221 (dk_at dksX3_add_1 13 rfl rfl)
theorem dX3_add_40 : decode cX3_add 40 = .ok (.aload_n 0, 1) := dk_42 (dk_at dksX3_add_1 16 rfl rfl)
theorem dX3_add_41 : decode cX3_add 41 = .ok (.getfield 18, 3) := dk_180 0 18 (dk_at dksX3_add_1 17 rfl rfl)
theorem dX3_add_44 : decode cX3_add 44 = .ok (.iload_n 2, 1) := dk_28 (dk_at dksX3_add_1 20 rfl rfl)
theorem dX3_add_45 : decode cX3_add 45 = .ok (.aload_n 1, 1) := dk_43 (dk_at dksX3_add_1 21 rfl rfl)
theorem dX3_add_46 : decode cX3_add 46 = .ok (.invokevirtual 76, 3) := dk_182 0 76 (dk_at dksX3_add_2 0 rfl rfl)
theorem dX3_add_49 : decode cX3_add 49 = .ok (.return_, 1) := dk_177 (dk_at dksX3_add_2 3 rfl rfl)
abbrev cX3_init : ByteArray := prog_2_method_1_code
def yX3_init : MethodName := ⟨RX3, "<init>", "(III)V"⟩
def dkwX3_init_1 : List UInt8 := [181, 0, 18, 42, 27, 181, 0, 21, 42, 28, 181, 0, 25, 42, 29, 181, 0, 28, 177]
abbrev dktX3_init_1 : List UInt8 := dkwX3_init_1 ++ []
def dkwX3_init_0 : List UInt8 := [42, 183, 0, 3, 42, 187, 0, 9, 89, 183, 0, 11, 181, 0, 12, 42, 187, 0, 9, 89, 183, 0, 11]
abbrev dktX3_init_0 : List UInt8 := dkwX3_init_0 ++ dktX3_init_1
theorem dksX3_init_0 : cX3_init.data.toList.drop 0 = dktX3_init_0 := by decide +kernel
theorem dksX3_init_1 : cX3_init.data.toList.drop 23 = dktX3_init_1 := dk_seg dksX3_init_0 23 rfl rfl
theorem dX3_init_0 : decode cX3_init 0 = .ok (.aload_n 0, 1) := dk_42 (dk_at dksX3_init_0 0 rfl rfl)
theorem dX3_init_1 : decode cX3_init 1 = .ok (.invokespecial 3, 3) := dk_183 0 3 (dk_at dksX3_init_0 1 rfl rfl)
theorem dX3_init_4 : decode cX3_init 4 = .ok (.aload_n 0, 1) := dk_42 (dk_at dksX3_init_0 4 rfl rfl)
theorem dX3_init_5 : decode cX3_init 5 = .ok (.new 9, 3) := dk_187 0 9 (dk_at dksX3_init_0 5 rfl rfl)
theorem dX3_init_8 : decode cX3_init 8 = .ok (.dup, 1) := dk_89 (dk_at dksX3_init_0 8 rfl rfl)
theorem dX3_init_9 : decode cX3_init 9 = .ok (.invokespecial 11, 3) := dk_183 0 11 (dk_at dksX3_init_0 9 rfl rfl)
theorem dX3_init_12 : decode cX3_init 12 = .ok (.putfield 12, 3) := dk_181 0 12 (dk_at dksX3_init_0 12 rfl rfl)
theorem dX3_init_15 : decode cX3_init 15 = .ok (.aload_n 0, 1) := dk_42 (dk_at dksX3_init_0 15 rfl rfl)
theorem dX3_init_16 : decode cX3_init 16 = .ok (.new 9, 3) := dk_187 0 9 (dk_at dksX3_init_0 16 rfl rfl)
theorem dX3_init_19 : decode cX3_init 19 = .ok (.dup, 1) := dk_89 (dk_at dksX3_init_0 19 rfl rfl)
theorem dX3_init_20 : decode cX3_init 20 = .ok (.invokespecial 11, 3) := dk_183 0 11 (dk_at dksX3_init_0 20 rfl rfl)
theorem dX3_init_23 : decode cX3_init 23 = .ok (.putfield 18, 3) := dk_181 0 18 (dk_at dksX3_init_1 0 rfl rfl)
theorem dX3_init_26 : decode cX3_init 26 = .ok (.aload_n 0, 1) := dk_42 (dk_at dksX3_init_1 3 rfl rfl)
theorem dX3_init_27 : decode cX3_init 27 = .ok (.iload_n 1, 1) := dk_27 (dk_at dksX3_init_1 4 rfl rfl)
theorem dX3_init_28 : decode cX3_init 28 = .ok (.putfield 21, 3) := dk_181 0 21 (dk_at dksX3_init_1 5 rfl rfl)
theorem dX3_init_31 : decode cX3_init 31 = .ok (.aload_n 0, 1) := dk_42 (dk_at dksX3_init_1 8 rfl rfl)
theorem dX3_init_32 : decode cX3_init 32 = .ok (.iload_n 2, 1) := dk_28 (dk_at dksX3_init_1 9 rfl rfl)
theorem dX3_init_33 : decode cX3_init 33 = .ok (.putfield 25, 3) := dk_181 0 25 (dk_at dksX3_init_1 10 rfl rfl)
theorem dX3_init_36 : decode cX3_init 36 = .ok (.aload_n 0, 1) := dk_42 (dk_at dksX3_init_1 13 rfl rfl)
theorem dX3_init_37 : decode cX3_init 37 = .ok (.iload_n 3, 1) := dk_29 (dk_at dksX3_init_1 14 rfl rfl)
theorem dX3_init_38 : decode cX3_init 38 = .ok (.putfield 28, 3) := dk_181 0 28 (dk_at dksX3_init_1 15 rfl rfl)
theorem dX3_init_41 : decode cX3_init 41 = .ok (.return_, 1) := dk_177 (dk_at dksX3_init_1 18 rfl rfl)
abbrev cX3_stretches : ByteArray := prog_2_method_9_code
def yX3_stretches : MethodName := ⟨RX3, "stretches", "(I)Ljava/util/Iterator;"⟩
def dkwX3_stretches_0 : List UInt8 := [187, 0, 122, 89, 42, 27, 183, 0, 124, 176]
abbrev dktX3_stretches_0 : List UInt8 := dkwX3_stretches_0 ++ []
theorem dksX3_stretches_0 : cX3_stretches.data.toList.drop 0 = dktX3_stretches_0 := by decide +kernel
theorem dX3_stretches_0 : decode cX3_stretches 0 = .ok (.new 122, 3) := dk_187 0 122 (dk_at dksX3_stretches_0 0 rfl rfl)
theorem dX3_stretches_3 : decode cX3_stretches 3 = .ok (.dup, 1) := dk_89 (dk_at dksX3_stretches_0 3 rfl rfl)
theorem dX3_stretches_4 : decode cX3_stretches 4 = .ok (.aload_n 0, 1) := dk_42 (dk_at dksX3_stretches_0 4 rfl rfl)
theorem dX3_stretches_5 : decode cX3_stretches 5 = .ok (.iload_n 1, 1) := dk_27 (dk_at dksX3_stretches_0 5 rfl rfl)
theorem dX3_stretches_6 : decode cX3_stretches 6 = .ok (.invokespecial 124, 3) := dk_183 0 124 (dk_at dksX3_stretches_0 6 rfl rfl)
theorem dX3_stretches_9 : decode cX3_stretches 9 = .ok (.areturn, 1) := dk_176 (dk_at dksX3_stretches_0 9 rfl rfl)
abbrev cX3_cuts : ByteArray := prog_2_method_8_code
def yX3_cuts : MethodName := ⟨RX3, "cuts", "(I)I"⟩
def dkwX3_cuts_4 : List UInt8 := [3, 96, 61, 25, 5, 180, 0, 57, 62, 132, 4, 1, 167, 255, 157, 28, 172]
abbrev dktX3_cuts_4 : List UInt8 := dkwX3_cuts_4 ++ []
def dkwX3_cuts_3 : List UInt8 := [4, 167, 0, 4, 3, 96, 61, 28, 25, 5, 180, 0, 57, 42, 180, 0, 21, 162, 0, 7, 4, 167, 0, 4]
abbrev dktX3_cuts_3 : List UInt8 := dkwX3_cuts_3 ++ dktX3_cuts_4
def dkwX3_cuts_2 : List UInt8 := [160, 0, 7, 4, 167, 0, 4, 3, 54, 6, 28, 25, 5, 180, 0, 52, 158, 0, 12, 21, 6, 154, 0, 7]
abbrev dktX3_cuts_2 : List UInt8 := dkwX3_cuts_2 ++ dktX3_cuts_3
def dkwX3_cuts_1 : List UInt8 := [21, 4, 182, 0, 35, 192, 0, 53, 58, 5, 21, 4, 158, 0, 18, 25, 5, 180, 0, 52, 29, 100, 27]
abbrev dktX3_cuts_1 : List UInt8 := dkwX3_cuts_1 ++ dktX3_cuts_2
def dkwX3_cuts_0 : List UInt8 := [3, 61, 3, 62, 3, 54, 4, 21, 4, 42, 180, 0, 18, 182, 0, 31, 162, 0, 93, 42, 180, 0, 18]
abbrev dktX3_cuts_0 : List UInt8 := dkwX3_cuts_0 ++ dktX3_cuts_1
theorem dksX3_cuts_0 : cX3_cuts.data.toList.drop 0 = dktX3_cuts_0 := by decide +kernel
theorem dksX3_cuts_1 : cX3_cuts.data.toList.drop 23 = dktX3_cuts_1 := dk_seg dksX3_cuts_0 23 rfl rfl
theorem dksX3_cuts_2 : cX3_cuts.data.toList.drop 46 = dktX3_cuts_2 := dk_seg dksX3_cuts_1 23 rfl rfl
theorem dksX3_cuts_3 : cX3_cuts.data.toList.drop 70 = dktX3_cuts_3 := dk_seg dksX3_cuts_2 24 rfl rfl
theorem dksX3_cuts_4 : cX3_cuts.data.toList.drop 94 = dktX3_cuts_4 := dk_seg dksX3_cuts_3 24 rfl rfl
theorem dX3_cuts_0 : decode cX3_cuts 0 = .ok (.iconst 0, 1) := dk_3 (dk_at dksX3_cuts_0 0 rfl rfl)
theorem dX3_cuts_1 : decode cX3_cuts 1 = .ok (.istore_n 2, 1) := dk_61 (dk_at dksX3_cuts_0 1 rfl rfl)
theorem dX3_cuts_2 : decode cX3_cuts 2 = .ok (.iconst 0, 1) := dk_3 (dk_at dksX3_cuts_0 2 rfl rfl)
theorem dX3_cuts_3 : decode cX3_cuts 3 = .ok (.istore_n 3, 1) := dk_62 (dk_at dksX3_cuts_0 3 rfl rfl)
theorem dX3_cuts_4 : decode cX3_cuts 4 = .ok (.iconst 0, 1) := dk_3 (dk_at dksX3_cuts_0 4 rfl rfl)
theorem dX3_cuts_5 : decode cX3_cuts 5 = .ok (.istore 4, 2) := dk_54 4 (dk_at dksX3_cuts_0 5 rfl rfl)
theorem dX3_cuts_7 : decode cX3_cuts 7 = .ok (.iload 4, 2) := dk_21 4 (dk_at dksX3_cuts_0 7 rfl rfl)
theorem dX3_cuts_9 : decode cX3_cuts 9 = .ok (.aload_n 0, 1) := dk_42 (dk_at dksX3_cuts_0 9 rfl rfl)
theorem dX3_cuts_10 : decode cX3_cuts 10 = .ok (.getfield 18, 3) := dk_180 0 18 (dk_at dksX3_cuts_0 10 rfl rfl)
theorem dX3_cuts_13 : decode cX3_cuts 13 = .ok (.invokevirtual 31, 3) := dk_182 0 31 (dk_at dksX3_cuts_0 13 rfl rfl)
theorem dX3_cuts_16 : decode cX3_cuts 16 = .ok (.if_icmp .ge 93, 3) := dk_162 0 93 (dk_at dksX3_cuts_0 16 rfl rfl)
theorem dX3_cuts_19 : decode cX3_cuts 19 = .ok (.aload_n 0, 1) := dk_42 (dk_at dksX3_cuts_0 19 rfl rfl)
theorem dX3_cuts_20 : decode cX3_cuts 20 = .ok (.getfield 18, 3) := dk_180 0 18 (dk_at dksX3_cuts_0 20 rfl rfl)
theorem dX3_cuts_23 : decode cX3_cuts 23 = .ok (.iload 4, 2) := dk_21 4 (dk_at dksX3_cuts_1 0 rfl rfl)
theorem dX3_cuts_25 : decode cX3_cuts 25 = .ok (.invokevirtual 35, 3) := dk_182 0 35 (dk_at dksX3_cuts_1 2 rfl rfl)
theorem dX3_cuts_28 : decode cX3_cuts 28 = .ok (.checkcast 53, 3) := dk_192 0 53 (dk_at dksX3_cuts_1 5 rfl rfl)
theorem dX3_cuts_31 : decode cX3_cuts 31 = .ok (.astore 5, 2) := dk_58 5 (dk_at dksX3_cuts_1 8 rfl rfl)
theorem dX3_cuts_33 : decode cX3_cuts 33 = .ok (.iload 4, 2) := dk_21 4 (dk_at dksX3_cuts_1 10 rfl rfl)
theorem dX3_cuts_35 : decode cX3_cuts 35 = .ok (.ifCond .le 18, 3) := dk_158 0 18 (dk_at dksX3_cuts_1 12 rfl rfl)
theorem dX3_cuts_38 : decode cX3_cuts 38 = .ok (.aload 5, 2) := dk_25 5 (dk_at dksX3_cuts_1 15 rfl rfl)
theorem dX3_cuts_40 : decode cX3_cuts 40 = .ok (.getfield 52, 3) := dk_180 0 52 (dk_at dksX3_cuts_1 17 rfl rfl)
theorem dX3_cuts_43 : decode cX3_cuts 43 = .ok (.iload_n 3, 1) := dk_29 (dk_at dksX3_cuts_1 20 rfl rfl)
theorem dX3_cuts_44 : decode cX3_cuts 44 = .ok (.isub, 1) := dk_100 (dk_at dksX3_cuts_1 21 rfl rfl)
theorem dX3_cuts_45 : decode cX3_cuts 45 = .ok (.iload_n 1, 1) := dk_27 (dk_at dksX3_cuts_1 22 rfl rfl)
theorem dX3_cuts_46 : decode cX3_cuts 46 = .ok (.if_icmp .ne 7, 3) := dk_160 0 7 (dk_at dksX3_cuts_2 0 rfl rfl)
theorem dX3_cuts_49 : decode cX3_cuts 49 = .ok (.iconst 1, 1) := dk_4 (dk_at dksX3_cuts_2 3 rfl rfl)
theorem dX3_cuts_50 : decode cX3_cuts 50 = .ok (.goto 4, 3) := dk_167 0 4 (dk_at dksX3_cuts_2 4 rfl rfl)
theorem dX3_cuts_53 : decode cX3_cuts 53 = .ok (.iconst 0, 1) := dk_3 (dk_at dksX3_cuts_2 7 rfl rfl)
theorem dX3_cuts_54 : decode cX3_cuts 54 = .ok (.istore 6, 2) := dk_54 6 (dk_at dksX3_cuts_2 8 rfl rfl)
theorem dX3_cuts_56 : decode cX3_cuts 56 = .ok (.iload_n 2, 1) := dk_28 (dk_at dksX3_cuts_2 10 rfl rfl)
theorem dX3_cuts_57 : decode cX3_cuts 57 = .ok (.aload 5, 2) := dk_25 5 (dk_at dksX3_cuts_2 11 rfl rfl)
theorem dX3_cuts_59 : decode cX3_cuts 59 = .ok (.getfield 52, 3) := dk_180 0 52 (dk_at dksX3_cuts_2 13 rfl rfl)
theorem dX3_cuts_62 : decode cX3_cuts 62 = .ok (.ifCond .le 12, 3) := dk_158 0 12 (dk_at dksX3_cuts_2 16 rfl rfl)
theorem dX3_cuts_65 : decode cX3_cuts 65 = .ok (.iload 6, 2) := dk_21 6 (dk_at dksX3_cuts_2 19 rfl rfl)
theorem dX3_cuts_67 : decode cX3_cuts 67 = .ok (.ifCond .ne 7, 3) := dk_154 0 7 (dk_at dksX3_cuts_2 21 rfl rfl)
theorem dX3_cuts_70 : decode cX3_cuts 70 = .ok (.iconst 1, 1) := dk_4 (dk_at dksX3_cuts_3 0 rfl rfl)
theorem dX3_cuts_71 : decode cX3_cuts 71 = .ok (.goto 4, 3) := dk_167 0 4 (dk_at dksX3_cuts_3 1 rfl rfl)
theorem dX3_cuts_74 : decode cX3_cuts 74 = .ok (.iconst 0, 1) := dk_3 (dk_at dksX3_cuts_3 4 rfl rfl)
theorem dX3_cuts_75 : decode cX3_cuts 75 = .ok (.iadd, 1) := dk_96 (dk_at dksX3_cuts_3 5 rfl rfl)
theorem dX3_cuts_76 : decode cX3_cuts 76 = .ok (.istore_n 2, 1) := dk_61 (dk_at dksX3_cuts_3 6 rfl rfl)
theorem dX3_cuts_77 : decode cX3_cuts 77 = .ok (.iload_n 2, 1) := dk_28 (dk_at dksX3_cuts_3 7 rfl rfl)
theorem dX3_cuts_78 : decode cX3_cuts 78 = .ok (.aload 5, 2) := dk_25 5 (dk_at dksX3_cuts_3 8 rfl rfl)
theorem dX3_cuts_80 : decode cX3_cuts 80 = .ok (.getfield 57, 3) := dk_180 0 57 (dk_at dksX3_cuts_3 10 rfl rfl)
theorem dX3_cuts_83 : decode cX3_cuts 83 = .ok (.aload_n 0, 1) := dk_42 (dk_at dksX3_cuts_3 13 rfl rfl)
theorem dX3_cuts_84 : decode cX3_cuts 84 = .ok (.getfield 21, 3) := dk_180 0 21 (dk_at dksX3_cuts_3 14 rfl rfl)
theorem dX3_cuts_87 : decode cX3_cuts 87 = .ok (.if_icmp .ge 7, 3) := dk_162 0 7 (dk_at dksX3_cuts_3 17 rfl rfl)
theorem dX3_cuts_90 : decode cX3_cuts 90 = .ok (.iconst 1, 1) := dk_4 (dk_at dksX3_cuts_3 20 rfl rfl)
theorem dX3_cuts_91 : decode cX3_cuts 91 = .ok (.goto 4, 3) := dk_167 0 4 (dk_at dksX3_cuts_3 21 rfl rfl)
theorem dX3_cuts_94 : decode cX3_cuts 94 = .ok (.iconst 0, 1) := dk_3 (dk_at dksX3_cuts_4 0 rfl rfl)
theorem dX3_cuts_95 : decode cX3_cuts 95 = .ok (.iadd, 1) := dk_96 (dk_at dksX3_cuts_4 1 rfl rfl)
theorem dX3_cuts_96 : decode cX3_cuts 96 = .ok (.istore_n 2, 1) := dk_61 (dk_at dksX3_cuts_4 2 rfl rfl)
theorem dX3_cuts_97 : decode cX3_cuts 97 = .ok (.aload 5, 2) := dk_25 5 (dk_at dksX3_cuts_4 3 rfl rfl)
theorem dX3_cuts_99 : decode cX3_cuts 99 = .ok (.getfield 57, 3) := dk_180 0 57 (dk_at dksX3_cuts_4 5 rfl rfl)
theorem dX3_cuts_102 : decode cX3_cuts 102 = .ok (.istore_n 3, 1) := dk_62 (dk_at dksX3_cuts_4 8 rfl rfl)
theorem dX3_cuts_103 : decode cX3_cuts 103 = .ok (.iinc 4 1, 3) := dk_132 4 1 (dk_at dksX3_cuts_4 9 rfl rfl)
theorem dX3_cuts_106 : decode cX3_cuts 106 = .ok (.goto (-99), 3) := dk_167 255 157 (dk_at dksX3_cuts_4 12 rfl rfl)
theorem dX3_cuts_109 : decode cX3_cuts 109 = .ok (.iload_n 2, 1) := dk_28 (dk_at dksX3_cuts_4 15 rfl rfl)
theorem dX3_cuts_110 : decode cX3_cuts 110 = .ok (.ireturn, 1) := dk_172 (dk_at dksX3_cuts_4 16 rfl rfl)
abbrev cX3_longestRoom : ByteArray := prog_2_method_7_code
def yX3_longestRoom : MethodName := ⟨RX3, "longestRoom", "(I)I"⟩
def dkwX3_longestRoom_3 : List UInt8 := [184, 0, 46, 172]
abbrev dktX3_longestRoom_3 : List UInt8 := dkwX3_longestRoom_3 ++ []
def dkwX3_longestRoom_2 : List UInt8 := [184, 0, 46, 61, 25, 5, 180, 0, 57, 27, 96, 62, 167, 255, 212, 28, 42, 180, 0, 21, 29, 100]
abbrev dktX3_longestRoom_2 : List UInt8 := dkwX3_longestRoom_2 ++ dktX3_longestRoom_3
def dkwX3_longestRoom_1 : List UInt8 := [25, 4, 185, 0, 102, 1, 0, 192, 0, 53, 58, 5, 28, 25, 5, 180, 0, 52, 27, 100, 29, 100]
abbrev dktX3_longestRoom_1 : List UInt8 := dkwX3_longestRoom_1 ++ dktX3_longestRoom_2
def dkwX3_longestRoom_0 : List UInt8 := [3, 61, 3, 62, 42, 180, 0, 18, 182, 0, 92, 58, 4, 25, 4, 185, 0, 96, 1, 0, 153, 0, 40]
abbrev dktX3_longestRoom_0 : List UInt8 := dkwX3_longestRoom_0 ++ dktX3_longestRoom_1
theorem dksX3_longestRoom_0 : cX3_longestRoom.data.toList.drop 0 = dktX3_longestRoom_0 := by decide +kernel
theorem dksX3_longestRoom_1 : cX3_longestRoom.data.toList.drop 23 = dktX3_longestRoom_1 := dk_seg dksX3_longestRoom_0 23 rfl rfl
theorem dksX3_longestRoom_2 : cX3_longestRoom.data.toList.drop 45 = dktX3_longestRoom_2 := dk_seg dksX3_longestRoom_1 22 rfl rfl
theorem dksX3_longestRoom_3 : cX3_longestRoom.data.toList.drop 67 = dktX3_longestRoom_3 := dk_seg dksX3_longestRoom_2 22 rfl rfl
theorem dX3_longestRoom_0 : decode cX3_longestRoom 0 = .ok (.iconst 0, 1) := dk_3 (dk_at dksX3_longestRoom_0 0 rfl rfl)
theorem dX3_longestRoom_1 : decode cX3_longestRoom 1 = .ok (.istore_n 2, 1) := dk_61 (dk_at dksX3_longestRoom_0 1 rfl rfl)
theorem dX3_longestRoom_2 : decode cX3_longestRoom 2 = .ok (.iconst 0, 1) := dk_3 (dk_at dksX3_longestRoom_0 2 rfl rfl)
theorem dX3_longestRoom_3 : decode cX3_longestRoom 3 = .ok (.istore_n 3, 1) := dk_62 (dk_at dksX3_longestRoom_0 3 rfl rfl)
theorem dX3_longestRoom_4 : decode cX3_longestRoom 4 = .ok (.aload_n 0, 1) := dk_42 (dk_at dksX3_longestRoom_0 4 rfl rfl)
theorem dX3_longestRoom_5 : decode cX3_longestRoom 5 = .ok (.getfield 18, 3) := dk_180 0 18 (dk_at dksX3_longestRoom_0 5 rfl rfl)
theorem dX3_longestRoom_8 : decode cX3_longestRoom 8 = .ok (.invokevirtual 92, 3) := dk_182 0 92 (dk_at dksX3_longestRoom_0 8 rfl rfl)
theorem dX3_longestRoom_11 : decode cX3_longestRoom 11 = .ok (.astore 4, 2) := dk_58 4 (dk_at dksX3_longestRoom_0 11 rfl rfl)
theorem dX3_longestRoom_13 : decode cX3_longestRoom 13 = .ok (.aload 4, 2) := dk_25 4 (dk_at dksX3_longestRoom_0 13 rfl rfl)
theorem dX3_longestRoom_15 : decode cX3_longestRoom 15 = .ok (.invokeinterface 96 1, 5) := by decide +kernel
theorem dX3_longestRoom_20 : decode cX3_longestRoom 20 = .ok (.ifCond .eq 40, 3) := dk_153 0 40 (dk_at dksX3_longestRoom_0 20 rfl rfl)
theorem dX3_longestRoom_23 : decode cX3_longestRoom 23 = .ok (.aload 4, 2) := dk_25 4 (dk_at dksX3_longestRoom_1 0 rfl rfl)
theorem dX3_longestRoom_25 : decode cX3_longestRoom 25 = .ok (.invokeinterface 102 1, 5) := by decide +kernel
theorem dX3_longestRoom_30 : decode cX3_longestRoom 30 = .ok (.checkcast 53, 3) := dk_192 0 53 (dk_at dksX3_longestRoom_1 7 rfl rfl)
theorem dX3_longestRoom_33 : decode cX3_longestRoom 33 = .ok (.astore 5, 2) := dk_58 5 (dk_at dksX3_longestRoom_1 10 rfl rfl)
theorem dX3_longestRoom_35 : decode cX3_longestRoom 35 = .ok (.iload_n 2, 1) := dk_28 (dk_at dksX3_longestRoom_1 12 rfl rfl)
theorem dX3_longestRoom_36 : decode cX3_longestRoom 36 = .ok (.aload 5, 2) := dk_25 5 (dk_at dksX3_longestRoom_1 13 rfl rfl)
theorem dX3_longestRoom_38 : decode cX3_longestRoom 38 = .ok (.getfield 52, 3) := dk_180 0 52 (dk_at dksX3_longestRoom_1 15 rfl rfl)
theorem dX3_longestRoom_41 : decode cX3_longestRoom 41 = .ok (.iload_n 1, 1) := dk_27 (dk_at dksX3_longestRoom_1 18 rfl rfl)
theorem dX3_longestRoom_42 : decode cX3_longestRoom 42 = .ok (.isub, 1) := dk_100 (dk_at dksX3_longestRoom_1 19 rfl rfl)
theorem dX3_longestRoom_43 : decode cX3_longestRoom 43 = .ok (.iload_n 3, 1) := dk_29 (dk_at dksX3_longestRoom_1 20 rfl rfl)
theorem dX3_longestRoom_44 : decode cX3_longestRoom 44 = .ok (.isub, 1) := dk_100 (dk_at dksX3_longestRoom_1 21 rfl rfl)
theorem dX3_longestRoom_45 : decode cX3_longestRoom 45 = .ok (.invokestatic 46, 3) := dk_184 0 46 (dk_at dksX3_longestRoom_2 0 rfl rfl)
theorem dX3_longestRoom_48 : decode cX3_longestRoom 48 = .ok (.istore_n 2, 1) := dk_61 (dk_at dksX3_longestRoom_2 3 rfl rfl)
theorem dX3_longestRoom_49 : decode cX3_longestRoom 49 = .ok (.aload 5, 2) := dk_25 5 (dk_at dksX3_longestRoom_2 4 rfl rfl)
theorem dX3_longestRoom_51 : decode cX3_longestRoom 51 = .ok (.getfield 57, 3) := dk_180 0 57 (dk_at dksX3_longestRoom_2 6 rfl rfl)
theorem dX3_longestRoom_54 : decode cX3_longestRoom 54 = .ok (.iload_n 1, 1) := dk_27 (dk_at dksX3_longestRoom_2 9 rfl rfl)
theorem dX3_longestRoom_55 : decode cX3_longestRoom 55 = .ok (.iadd, 1) := dk_96 (dk_at dksX3_longestRoom_2 10 rfl rfl)
theorem dX3_longestRoom_56 : decode cX3_longestRoom 56 = .ok (.istore_n 3, 1) := dk_62 (dk_at dksX3_longestRoom_2 11 rfl rfl)
theorem dX3_longestRoom_57 : decode cX3_longestRoom 57 = .ok (.goto (-44), 3) := dk_167 255 212 (dk_at dksX3_longestRoom_2 12 rfl rfl)
theorem dX3_longestRoom_60 : decode cX3_longestRoom 60 = .ok (.iload_n 2, 1) := dk_28 (dk_at dksX3_longestRoom_2 15 rfl rfl)
theorem dX3_longestRoom_61 : decode cX3_longestRoom 61 = .ok (.aload_n 0, 1) := dk_42 (dk_at dksX3_longestRoom_2 16 rfl rfl)
theorem dX3_longestRoom_62 : decode cX3_longestRoom 62 = .ok (.getfield 21, 3) := dk_180 0 21 (dk_at dksX3_longestRoom_2 17 rfl rfl)
theorem dX3_longestRoom_65 : decode cX3_longestRoom 65 = .ok (.iload_n 3, 1) := dk_29 (dk_at dksX3_longestRoom_2 20 rfl rfl)
theorem dX3_longestRoom_66 : decode cX3_longestRoom 66 = .ok (.isub, 1) := dk_100 (dk_at dksX3_longestRoom_2 21 rfl rfl)
theorem dX3_longestRoom_67 : decode cX3_longestRoom 67 = .ok (.invokestatic 46, 3) := dk_184 0 46 (dk_at dksX3_longestRoom_3 0 rfl rfl)
theorem dX3_longestRoom_70 : decode cX3_longestRoom 70 = .ok (.ireturn, 1) := dk_172 (dk_at dksX3_longestRoom_3 3 rfl rfl)
theorem q59 : (Jvm.Cond.initialized "TimberList$Board") ∈ lw_all := lw_g (lw_at lw_m1 13 rfl) rfl
theorem q308 : (Jvm.Cond.instanceMethod ({ cls := "TimberList$Board", name := "gradeAt", desc := "(I)I" } : Jvm.MethodName)) ∈ lw_all := lw_g (lw_at lw_m2 22 rfl) rfl
theorem q309 : (Jvm.Cond.selects "TimberList$Board" ({ cls := "TimberList$Board", name := "gradeAt", desc := "(I)I" } : Jvm.MethodName) ({ cls := "TimberList$Board", name := "gradeAt", desc := "(I)I" } : Jvm.MethodName)) ∈ lw_all := lw_g (lw_at lw_m2 23 rfl) rfl
theorem q310 : (Jvm.Cond.code ({ cls := "TimberList$Board", name := "gradeAt", desc := "(I)I" } : Jvm.MethodName) prog_2_method_2_code (4 : Nat) (Option.some Jvm.ClassFile.FieldType.int)) ∈ lw_all := lw_g (lw_at lw_m2 24 rfl) rfl
theorem q311 : (Jvm.Cond.methodLink "TimberList$Board" (31 : Nat) ({ cls := "java/util/ArrayList", name := "size", desc := "()I" } : Jvm.MethodName)) ∈ lw_all := lw_g (lw_at lw_m2 25 rfl) rfl
theorem q315 : (Jvm.Cond.methodLink "TimberList$Board" (35 : Nat) ({ cls := "java/util/ArrayList", name := "get", desc := "(I)Ljava/lang/Object;" } : Jvm.MethodName)) ∈ lw_all := lw_g (lw_at lw_m2 29 rfl) rfl
theorem q329 : (Jvm.Cond.classLink "TimberList$Board" (39 : Nat) "TimberList$Defect") ∈ lw_all := lw_g (lw_at lw_m2 43 rfl) rfl
theorem q330 : (Jvm.Cond.methodLink "TimberList$Board" (41 : Nat) ({ cls := "TimberList$Defect", name := "has", desc := "(I)Z" } : Jvm.MethodName)) ∈ lw_all := lw_g (lw_at lw_m2 44 rfl) rfl
theorem q336 : (Jvm.Cond.methodLink "TimberList$Board" (46 : Nat) ({ cls := "java/lang/Math", name := "max", desc := "(II)I" } : Jvm.MethodName)) ∈ lw_all := lw_g (lw_at lw_m2 50 rfl) rfl
theorem q348 : (Jvm.Cond.fieldLink "TimberList$Board" (52 : Nat) "TimberList$Piece" "from" "I") ∈ lw_all := lw_g (lw_at lw_m2 62 rfl) rfl
theorem q353 : (Jvm.Cond.fieldLink "TimberList$Board" (57 : Nat) "TimberList$Piece" "to" "I") ∈ lw_all := lw_g (lw_at lw_m2 67 rfl) rfl
theorem q354 : (Jvm.Cond.fieldLink "TimberList$Board" (106 : Nat) "TimberList$Defect" "to" "I") ∈ lw_all := lw_g (lw_at lw_m2 68 rfl) rfl
theorem q401 : (Jvm.Cond.instanceMethod ({ cls := "TimberList$Board", name := "earliest", desc := "(LTimberList$Part;I)I" } : Jvm.MethodName)) ∈ lw_all := lw_g (lw_at lw_m2 115 rfl) rfl
theorem q402 : (Jvm.Cond.selects "TimberList$Board" ({ cls := "TimberList$Board", name := "earliest", desc := "(LTimberList$Part;I)I" } : Jvm.MethodName) ({ cls := "TimberList$Board", name := "earliest", desc := "(LTimberList$Part;I)I" } : Jvm.MethodName)) ∈ lw_all := lw_g (lw_at lw_m2 116 rfl) rfl
theorem q403 : (Jvm.Cond.code ({ cls := "TimberList$Board", name := "earliest", desc := "(LTimberList$Part;I)I" } : Jvm.MethodName) prog_2_method_5_code (6 : Nat) (Option.some Jvm.ClassFile.FieldType.int)) ∈ lw_all := lw_g (lw_at lw_m2 117 rfl) rfl
theorem q404 : (Jvm.Cond.classLink "TimberList$Board" (80 : Nat) "java/util/TreeSet") ∈ lw_all := lw_g (lw_at lw_m2 118 rfl) rfl
theorem q406 : (Jvm.Cond.methodLink "TimberList$Board" (82 : Nat) ({ cls := "java/util/TreeSet", name := "<init>", desc := "()V" } : Jvm.MethodName)) ∈ lw_all := lw_g (lw_at lw_m2 120 rfl) rfl
theorem q454 : (Jvm.Cond.methodLink "TimberList$Board" (83 : Nat) ({ cls := "java/lang/Integer", name := "valueOf", desc := "(I)Ljava/lang/Integer;" } : Jvm.MethodName)) ∈ lw_all := lw_g (lw_at lw_m2 168 rfl) rfl
theorem q474 : (Jvm.Cond.methodLink "TimberList$Board" (89 : Nat) ({ cls := "java/util/TreeSet", name := "add", desc := "(Ljava/lang/Object;)Z" } : Jvm.MethodName)) ∈ lw_all := lw_g (lw_at lw_m2 188 rfl) rfl
theorem q798 : (Jvm.Cond.methodLink "TimberList$Board" (92 : Nat) ({ cls := "java/util/ArrayList", name := "iterator", desc := "()Ljava/util/Iterator;" } : Jvm.MethodName)) ∈ lw_all := lw_g (lw_at lw_m4 32 rfl) rfl
theorem q799 : (Jvm.Cond.interfaceEntry "TimberList$Board" (96 : Nat)) ∈ lw_tbl := lw_at lw_m4 33 rfl
theorem q800 : (Jvm.Cond.methodLink "TimberList$Board" (96 : Nat) ({ cls := "java/util/Iterator", name := "hasNext", desc := "()Z" } : Jvm.MethodName)) ∈ lw_all := lw_g (lw_at lw_m4 34 rfl) rfl
theorem q801 : (Jvm.Cond.interfaceEntry "TimberList$Board" (102 : Nat)) ∈ lw_tbl := lw_at lw_m4 35 rfl
theorem q802 : (Jvm.Cond.methodLink "TimberList$Board" (102 : Nat) ({ cls := "java/util/Iterator", name := "next", desc := "()Ljava/lang/Object;" } : Jvm.MethodName)) ∈ lw_all := lw_g (lw_at lw_m4 36 rfl) rfl
theorem q803 : (Jvm.Cond.classLink "TimberList$Board" (53 : Nat) "TimberList$Piece") ∈ lw_all := lw_g (lw_at lw_m4 37 rfl) rfl
theorem q804 : (Jvm.Cond.methodLink "TimberList$Board" (107 : Nat) ({ cls := "java/util/TreeSet", name := "iterator", desc := "()Ljava/util/Iterator;" } : Jvm.MethodName)) ∈ lw_all := lw_g (lw_at lw_m4 38 rfl) rfl
theorem q876 : (Jvm.Cond.classLink "TimberList$Board" (84 : Nat) "java/lang/Integer") ∈ lw_all := lw_g (lw_at lw_m4 110 rfl) rfl
theorem q877 : (Jvm.Cond.methodLink "TimberList$Board" (108 : Nat) ({ cls := "java/lang/Integer", name := "intValue", desc := "()I" } : Jvm.MethodName)) ∈ lw_all := lw_g (lw_at lw_m4 111 rfl) rfl
theorem q882 : (Jvm.Cond.methodLink "TimberList$Board" (112 : Nat) ({ cls := "TimberList$Piece", name := "<init>", desc := "(LTimberList$Part;IIZ)V" } : Jvm.MethodName)) ∈ lw_all := lw_g (lw_at lw_m4 116 rfl) rfl
theorem q887 : (Jvm.Cond.fieldLink "TimberList$Board" (60 : Nat) "TimberList$Piece" "part" "LTimberList$Part;") ∈ lw_all := lw_g (lw_at lw_m4 121 rfl) rfl
theorem q897 : (Jvm.Cond.methodLink "TimberList$Board" (115 : Nat) ({ cls := "TimberList$Board", name := "isPossible", desc := "(LTimberList$Piece;I)Z" } : Jvm.MethodName)) ∈ lw_all := lw_g (lw_at lw_m4 131 rfl) rfl
theorem q898 : (Jvm.Cond.instanceMethod ({ cls := "TimberList$Board", name := "isPossible", desc := "(LTimberList$Piece;I)Z" } : Jvm.MethodName)) ∈ lw_all := lw_g (lw_at lw_m4 132 rfl) rfl
theorem q899 : (Jvm.Cond.selects "TimberList$Board" ({ cls := "TimberList$Board", name := "isPossible", desc := "(LTimberList$Piece;I)Z" } : Jvm.MethodName) ({ cls := "TimberList$Board", name := "isPossible", desc := "(LTimberList$Piece;I)Z" } : Jvm.MethodName)) ∈ lw_all := lw_g (lw_at lw_m4 133 rfl) rfl
theorem q900 : (Jvm.Cond.code ({ cls := "TimberList$Board", name := "isPossible", desc := "(LTimberList$Piece;I)Z" } : Jvm.MethodName) prog_2_method_3_code (4 : Nat) (Option.some Jvm.ClassFile.FieldType.boolean)) ∈ lw_all := lw_g (lw_at lw_m4 134 rfl) rfl
theorem q901 : (Jvm.Cond.methodLink "TimberList$Board" (68 : Nat) ({ cls := "TimberList$Piece", name := "isSpoiled", desc := "(LTimberList$Defect;)Z" } : Jvm.MethodName)) ∈ lw_all := lw_g (lw_at lw_m4 135 rfl) rfl
theorem q911 : (Jvm.Cond.methodLink "TimberList$Board" (72 : Nat) ({ cls := "TimberList$Piece", name := "isNear", desc := "(LTimberList$Stretch;I)Z" } : Jvm.MethodName)) ∈ lw_all := lw_g (lw_at lw_m4 145 rfl) rfl
theorem q913 : (Jvm.Cond.instanceMethod ({ cls := "TimberList$Board", name := "room", desc := "(II)I" } : Jvm.MethodName)) ∈ lw_all := lw_g (lw_at lw_m4 147 rfl) rfl
theorem q914 : (Jvm.Cond.selects "TimberList$Board" ({ cls := "TimberList$Board", name := "room", desc := "(II)I" } : Jvm.MethodName) ({ cls := "TimberList$Board", name := "room", desc := "(II)I" } : Jvm.MethodName)) ∈ lw_all := lw_g (lw_at lw_m4 148 rfl) rfl
theorem q915 : (Jvm.Cond.code ({ cls := "TimberList$Board", name := "room", desc := "(II)I" } : Jvm.MethodName) prog_2_method_6_code (7 : Nat) (Option.some Jvm.ClassFile.FieldType.int)) ∈ lw_all := lw_g (lw_at lw_m4 149 rfl) rfl
theorem q916 : (Jvm.Cond.methodLink "TimberList$Board" (119 : Nat) ({ cls := "java/lang/Math", name := "min", desc := "(II)I" } : Jvm.MethodName)) ∈ lw_all := lw_g (lw_at lw_m4 150 rfl) rfl
theorem q977 : (Jvm.Cond.selects "TimberList$Board" ({ cls := "java/lang/Object", name := "getClass", desc := "()Ljava/lang/Class;" } : Jvm.MethodName) ({ cls := "java/lang/Object", name := "getClass", desc := "()Ljava/lang/Class;" } : Jvm.MethodName)) ∈ lw_all := lw_g (lw_at lw_m4 211 rfl) rfl
theorem q1017 : (Jvm.Cond.instanceMethod ({ cls := "TimberList$Board", name := "add", desc := "(LTimberList$Piece;)V" } : Jvm.MethodName)) ∈ lw_all := lw_g (lw_at lw_m5 11 rfl) rfl
theorem q1018 : (Jvm.Cond.selects "TimberList$Board" ({ cls := "TimberList$Board", name := "add", desc := "(LTimberList$Piece;)V" } : Jvm.MethodName) ({ cls := "TimberList$Board", name := "add", desc := "(LTimberList$Piece;)V" } : Jvm.MethodName)) ∈ lw_all := lw_g (lw_at lw_m5 12 rfl) rfl
theorem q1019 : (Jvm.Cond.code ({ cls := "TimberList$Board", name := "add", desc := "(LTimberList$Piece;)V" } : Jvm.MethodName) prog_2_method_4_code (3 : Nat) (Option.none : Option Jvm.ClassFile.FieldType)) ∈ lw_all := lw_g (lw_at lw_m5 13 rfl) rfl
theorem q1020 : (Jvm.Cond.methodLink "TimberList$Board" (76 : Nat) ({ cls := "java/util/ArrayList", name := "add", desc := "(ILjava/lang/Object;)V" } : Jvm.MethodName)) ∈ lw_all := lw_g (lw_at lw_m5 14 rfl) rfl
theorem q1364 : (Jvm.Cond.instantiable "TimberList$Board" (5 : Nat)) ∈ lw_all := lw_g (lw_at lw_m6 118 rfl) rfl
theorem q1366 : (Jvm.Cond.instanceMethod ({ cls := "TimberList$Board", name := "<init>", desc := "(III)V" } : Jvm.MethodName)) ∈ lw_all := lw_g (lw_at lw_m6 120 rfl) rfl
theorem q1367 : (Jvm.Cond.code ({ cls := "TimberList$Board", name := "<init>", desc := "(III)V" } : Jvm.MethodName) prog_2_method_1_code (4 : Nat) (Option.none : Option Jvm.ClassFile.FieldType)) ∈ lw_all := lw_g (lw_at lw_m6 121 rfl) rfl
theorem q1368 : (Jvm.Cond.methodLink "TimberList$Board" (3 : Nat) ({ cls := "java/lang/Object", name := "<init>", desc := "()V" } : Jvm.MethodName)) ∈ lw_all := lw_g (lw_at lw_m6 122 rfl) rfl
theorem q1369 : (Jvm.Cond.classLink "TimberList$Board" (9 : Nat) "java/util/ArrayList") ∈ lw_all := lw_g (lw_at lw_m6 123 rfl) rfl
theorem q1370 : (Jvm.Cond.methodLink "TimberList$Board" (11 : Nat) ({ cls := "java/util/ArrayList", name := "<init>", desc := "()V" } : Jvm.MethodName)) ∈ lw_all := lw_g (lw_at lw_m6 124 rfl) rfl
theorem q1371 : (Jvm.Cond.fieldLink "TimberList$Board" (21 : Nat) "TimberList$Board" "length" "I") ∈ lw_all := lw_g (lw_at lw_m6 125 rfl) rfl
theorem q1374 : (Jvm.Cond.fieldLink "TimberList$Board" (25 : Nat) "TimberList$Board" "width" "I") ∈ lw_all := lw_g (lw_at lw_m6 128 rfl) rfl
theorem q1376 : (Jvm.Cond.fieldLink "TimberList$Board" (28 : Nat) "TimberList$Board" "grade" "I") ∈ lw_all := lw_g (lw_at lw_m6 130 rfl) rfl
theorem q1377 : (Jvm.Cond.fieldLink "TimberList$Board" (12 : Nat) "TimberList$Board" "defects" "Ljava/util/ArrayList;") ∈ lw_all := lw_g (lw_at lw_m6 131 rfl) rfl
theorem q1379 : (Jvm.Cond.fieldLink "TimberList$Board" (18 : Nat) "TimberList$Board" "pieces" "Ljava/util/ArrayList;") ∈ lw_all := lw_g (lw_at lw_m6 133 rfl) rfl
theorem q1382 : (Jvm.Cond.laysFinal "TimberList$Board" "TimberList$Board" "length" "I") ∈ lw_all := lw_g (lw_at lw_m6 136 rfl) rfl
theorem q1383 : (Jvm.Cond.soleField "TimberList$Board" "length") ∈ lw_all := lw_g (lw_at lw_m6 137 rfl) rfl
theorem q1384 : (Jvm.Cond.laysFinal "TimberList$Board" "TimberList$Board" "width" "I") ∈ lw_all := lw_g (lw_at lw_m6 138 rfl) rfl
theorem q1385 : (Jvm.Cond.soleField "TimberList$Board" "width") ∈ lw_all := lw_g (lw_at lw_m6 139 rfl) rfl
theorem q1386 : (Jvm.Cond.laysFinal "TimberList$Board" "TimberList$Board" "grade" "I") ∈ lw_all := lw_g (lw_at lw_m6 140 rfl) rfl
theorem q1387 : (Jvm.Cond.soleField "TimberList$Board" "grade") ∈ lw_all := lw_g (lw_at lw_m6 141 rfl) rfl
theorem q1388 : (Jvm.Cond.laysFinal "TimberList$Board" "TimberList$Board" "defects" "Ljava/util/ArrayList;") ∈ lw_all := lw_g (lw_at lw_m6 142 rfl) rfl
theorem q1389 : (Jvm.Cond.soleField "TimberList$Board" "defects") ∈ lw_all := lw_g (lw_at lw_m6 143 rfl) rfl
theorem q1390 : (Jvm.Cond.laysFinal "TimberList$Board" "TimberList$Board" "pieces" "Ljava/util/ArrayList;") ∈ lw_all := lw_g (lw_at lw_m6 144 rfl) rfl
theorem q1391 : (Jvm.Cond.soleField "TimberList$Board" "pieces") ∈ lw_all := lw_g (lw_at lw_m6 145 rfl) rfl
theorem q1392 : (Jvm.Cond.superclass "TimberList$Board" "java/lang/Object") ∈ lw_all := lw_g (lw_at lw_m6 146 rfl) rfl
theorem q1437 : (Jvm.Cond.fieldLink "TimberList$Board" (45 : Nat) "TimberList$Defect" "grade" "I") ∈ lw_all := lw_g (lw_at lw_m6 191 rfl) rfl
theorem q1461 : (Jvm.Cond.fieldLink "TimberList$Board" (111 : Nat) "TimberList$Part" "length" "I") ∈ lw_all := lw_g (lw_at lw_m6 215 rfl) rfl
theorem q1464 : (Jvm.Cond.fieldLink "TimberList$Board" (64 : Nat) "TimberList$Part" "width" "I") ∈ lw_all := lw_g (lw_at lw_m6 218 rfl) rfl
theorem q1468 : (Jvm.Cond.fieldLink "TimberList$Board" (67 : Nat) "TimberList$Part" "grade" "I") ∈ lw_all := lw_g (lw_at lw_m6 222 rfl) rfl
theorem q1545 : (Jvm.Cond.instanceMethod ({ cls := "TimberList$Board", name := "stretches", desc := "(I)Ljava/util/Iterator;" } : Jvm.MethodName)) ∈ lw_all := lw_g (lw_at lw_m7 59 rfl) rfl
theorem q1546 : (Jvm.Cond.selects "TimberList$Board" ({ cls := "TimberList$Board", name := "stretches", desc := "(I)Ljava/util/Iterator;" } : Jvm.MethodName) ({ cls := "TimberList$Board", name := "stretches", desc := "(I)Ljava/util/Iterator;" } : Jvm.MethodName)) ∈ lw_all := lw_g (lw_at lw_m7 60 rfl) rfl
theorem q1547 : (Jvm.Cond.code ({ cls := "TimberList$Board", name := "stretches", desc := "(I)Ljava/util/Iterator;" } : Jvm.MethodName) prog_2_method_9_code (2 : Nat) (Option.some (Jvm.ClassFile.FieldType.object "java/util/Iterator"))) ∈ lw_all := lw_g (lw_at lw_m7 61 rfl) rfl
theorem q1548 : (Jvm.Cond.classLink "TimberList$Board" (122 : Nat) "TimberList$Board$1") ∈ lw_all := lw_g (lw_at lw_m7 62 rfl) rfl
theorem q1549 : (Jvm.Cond.methodLink "TimberList$Board" (124 : Nat) ({ cls := "TimberList$Board$1", name := "<init>", desc := "(LTimberList$Board;I)V" } : Jvm.MethodName)) ∈ lw_all := lw_g (lw_at lw_m7 63 rfl) rfl
theorem q1640 : (Jvm.Cond.selects "TimberList$Board" ({ cls := "java/lang/Object", name := "equals", desc := "(Ljava/lang/Object;)Z" } : Jvm.MethodName) ({ cls := "java/lang/Object", name := "equals", desc := "(Ljava/lang/Object;)Z" } : Jvm.MethodName)) ∈ lw_all := lw_g (lw_at lw_m7 154 rfl) rfl
theorem q1698 : (Jvm.Cond.instanceMethod ({ cls := "TimberList$Board", name := "cuts", desc := "(I)I" } : Jvm.MethodName)) ∈ lw_all := lw_g (lw_at lw_m7 212 rfl) rfl
theorem q1699 : (Jvm.Cond.selects "TimberList$Board" ({ cls := "TimberList$Board", name := "cuts", desc := "(I)I" } : Jvm.MethodName) ({ cls := "TimberList$Board", name := "cuts", desc := "(I)I" } : Jvm.MethodName)) ∈ lw_all := lw_g (lw_at lw_m7 213 rfl) rfl
theorem q1700 : (Jvm.Cond.code ({ cls := "TimberList$Board", name := "cuts", desc := "(I)I" } : Jvm.MethodName) prog_2_method_8_code (7 : Nat) (Option.some Jvm.ClassFile.FieldType.int)) ∈ lw_all := lw_g (lw_at lw_m7 214 rfl) rfl
theorem q1709 : (Jvm.Cond.instanceMethod ({ cls := "TimberList$Board", name := "longestRoom", desc := "(I)I" } : Jvm.MethodName)) ∈ lw_all := lw_g (lw_at lw_m7 223 rfl) rfl
theorem q1710 : (Jvm.Cond.selects "TimberList$Board" ({ cls := "TimberList$Board", name := "longestRoom", desc := "(I)I" } : Jvm.MethodName) ({ cls := "TimberList$Board", name := "longestRoom", desc := "(I)I" } : Jvm.MethodName)) ∈ lw_all := lw_g (lw_at lw_m7 224 rfl) rfl
theorem q1711 : (Jvm.Cond.code ({ cls := "TimberList$Board", name := "longestRoom", desc := "(I)I" } : Jvm.MethodName) prog_2_method_7_code (6 : Nat) (Option.some Jvm.ClassFile.FieldType.int)) ∈ lw_all := lw_g (lw_at lw_m7 225 rfl) rfl
theorem q1995 : (Jvm.Cond.castable "TimberList$Board" "java/lang/Object") ∈ lw_tbl := lw_at lw_m9 29 rfl
theorem in_X3 : ∀ w ∈ wsX30, w ∈ lw_all := lw_in wsX30 [1382, 1384, 1386, 1388, 1390] (by decide +kernel) (by decide +kernel)

/-! TimberList$Stretch -/
set_option maxRecDepth 100000
def RX4 : String := "TimberList$Stretch"
def TX4 : u_T := fun k => match k with
  | 0 => ("TimberList$Stretch", "from", "I", true)
  | _ => ("TimberList$Stretch", "to", "I", true)
def tyX4 : Nat → FieldType := fun k => match k with
  | 0 => .int
  | _ => .int
abbrev wsX40 : List Cond := u_ws RX4 TX4 2
theorem nmX4 : ∀ a, a < 2 → ∀ b, b < 2 → a ≠ b → (TX4 a).2.1 ≠ (TX4 b).2.1 := by decide +kernel
theorem tyX4_ok : ∀ k, k < 2 → parseFieldDescriptor (TX4 k).2.2.1 = some (tyX4 k) := by decide +kernel
abbrev cX4_has : ByteArray := prog_8_method_3_code
def yX4_has : MethodName := ⟨RX4, "has", "(I)Z"⟩
def dkwX4_has_0 : List UInt8 := [27, 42, 180, 0, 7, 161, 0, 15, 27, 42, 180, 0, 13, 162, 0, 7, 4, 167, 0, 4, 3, 172]
abbrev dktX4_has_0 : List UInt8 := dkwX4_has_0 ++ []
theorem dksX4_has_0 : cX4_has.data.toList.drop 0 = dktX4_has_0 := by decide +kernel
theorem dX4_has_0 : decode cX4_has 0 = .ok (.iload_n 1, 1) := dk_27 (dk_at dksX4_has_0 0 rfl rfl)
theorem dX4_has_1 : decode cX4_has 1 = .ok (.aload_n 0, 1) := dk_42 (dk_at dksX4_has_0 1 rfl rfl)
theorem dX4_has_2 : decode cX4_has 2 = .ok (.getfield 7, 3) := dk_180 0 7 (dk_at dksX4_has_0 2 rfl rfl)
theorem dX4_has_5 : decode cX4_has 5 = .ok (.if_icmp .lt 15, 3) := dk_161 0 15 (dk_at dksX4_has_0 5 rfl rfl)
theorem dX4_has_8 : decode cX4_has 8 = .ok (.iload_n 1, 1) := dk_27 (dk_at dksX4_has_0 8 rfl rfl)
theorem dX4_has_9 : decode cX4_has 9 = .ok (.aload_n 0, 1) := dk_42 (dk_at dksX4_has_0 9 rfl rfl)
theorem dX4_has_10 : decode cX4_has 10 = .ok (.getfield 13, 3) := dk_180 0 13 (dk_at dksX4_has_0 10 rfl rfl)
theorem dX4_has_13 : decode cX4_has 13 = .ok (.if_icmp .ge 7, 3) := dk_162 0 7 (dk_at dksX4_has_0 13 rfl rfl)
theorem dX4_has_16 : decode cX4_has 16 = .ok (.iconst 1, 1) := dk_4 (dk_at dksX4_has_0 16 rfl rfl)
theorem dX4_has_17 : decode cX4_has 17 = .ok (.goto 4, 3) := dk_167 0 4 (dk_at dksX4_has_0 17 rfl rfl)
theorem dX4_has_20 : decode cX4_has 20 = .ok (.iconst 0, 1) := dk_3 (dk_at dksX4_has_0 20 rfl rfl)
theorem dX4_has_21 : decode cX4_has 21 = .ok (.ireturn, 1) := dk_172 (dk_at dksX4_has_0 21 rfl rfl)
abbrev cX4_init : ByteArray := prog_8_method_1_code
def yX4_init : MethodName := ⟨RX4, "<init>", "(II)V"⟩
def dkwX4_init_0 : List UInt8 := [42, 183, 0, 1, 42, 27, 181, 0, 7, 42, 28, 181, 0, 13, 177]
abbrev dktX4_init_0 : List UInt8 := dkwX4_init_0 ++ []
theorem dksX4_init_0 : cX4_init.data.toList.drop 0 = dktX4_init_0 := by decide +kernel
theorem dX4_init_0 : decode cX4_init 0 = .ok (.aload_n 0, 1) := dk_42 (dk_at dksX4_init_0 0 rfl rfl)
theorem dX4_init_1 : decode cX4_init 1 = .ok (.invokespecial 1, 3) := dk_183 0 1 (dk_at dksX4_init_0 1 rfl rfl)
theorem dX4_init_4 : decode cX4_init 4 = .ok (.aload_n 0, 1) := dk_42 (dk_at dksX4_init_0 4 rfl rfl)
theorem dX4_init_5 : decode cX4_init 5 = .ok (.iload_n 1, 1) := dk_27 (dk_at dksX4_init_0 5 rfl rfl)
theorem dX4_init_6 : decode cX4_init 6 = .ok (.putfield 7, 3) := dk_181 0 7 (dk_at dksX4_init_0 6 rfl rfl)
theorem dX4_init_9 : decode cX4_init 9 = .ok (.aload_n 0, 1) := dk_42 (dk_at dksX4_init_0 9 rfl rfl)
theorem dX4_init_10 : decode cX4_init 10 = .ok (.iload_n 2, 1) := dk_28 (dk_at dksX4_init_0 10 rfl rfl)
theorem dX4_init_11 : decode cX4_init 11 = .ok (.putfield 13, 3) := dk_181 0 13 (dk_at dksX4_init_0 11 rfl rfl)
theorem dX4_init_14 : decode cX4_init 14 = .ok (.return_, 1) := dk_177 (dk_at dksX4_init_0 14 rfl rfl)
abbrev cX4_isNear : ByteArray := prog_8_method_4_code
def yX4_isNear : MethodName := ⟨RX4, "isNear", "(LTimberList$Stretch;I)Z"⟩
def dkwX4_isNear_1 : List UInt8 := [162, 0, 7, 4, 167, 0, 4, 3, 172]
abbrev dktX4_isNear_1 : List UInt8 := dkwX4_isNear_1 ++ []
def dkwX4_isNear_0 : List UInt8 := [42, 180, 0, 7, 43, 180, 0, 13, 28, 96, 162, 0, 20, 43, 180, 0, 7, 42, 180, 0, 13, 28, 96]
abbrev dktX4_isNear_0 : List UInt8 := dkwX4_isNear_0 ++ dktX4_isNear_1
theorem dksX4_isNear_0 : cX4_isNear.data.toList.drop 0 = dktX4_isNear_0 := by decide +kernel
theorem dksX4_isNear_1 : cX4_isNear.data.toList.drop 23 = dktX4_isNear_1 := dk_seg dksX4_isNear_0 23 rfl rfl
theorem dX4_isNear_0 : decode cX4_isNear 0 = .ok (.aload_n 0, 1) := dk_42 (dk_at dksX4_isNear_0 0 rfl rfl)
theorem dX4_isNear_1 : decode cX4_isNear 1 = .ok (.getfield 7, 3) := dk_180 0 7 (dk_at dksX4_isNear_0 1 rfl rfl)
theorem dX4_isNear_4 : decode cX4_isNear 4 = .ok (.aload_n 1, 1) := dk_43 (dk_at dksX4_isNear_0 4 rfl rfl)
theorem dX4_isNear_5 : decode cX4_isNear 5 = .ok (.getfield 13, 3) := dk_180 0 13 (dk_at dksX4_isNear_0 5 rfl rfl)
theorem dX4_isNear_8 : decode cX4_isNear 8 = .ok (.iload_n 2, 1) := dk_28 (dk_at dksX4_isNear_0 8 rfl rfl)
theorem dX4_isNear_9 : decode cX4_isNear 9 = .ok (.iadd, 1) := dk_96 (dk_at dksX4_isNear_0 9 rfl rfl)
theorem dX4_isNear_10 : decode cX4_isNear 10 = .ok (.if_icmp .ge 20, 3) := dk_162 0 20 (dk_at dksX4_isNear_0 10 rfl rfl)
theorem dX4_isNear_13 : decode cX4_isNear 13 = .ok (.aload_n 1, 1) := dk_43 (dk_at dksX4_isNear_0 13 rfl rfl)
theorem dX4_isNear_14 : decode cX4_isNear 14 = .ok (.getfield 7, 3) := dk_180 0 7 (dk_at dksX4_isNear_0 14 rfl rfl)
theorem dX4_isNear_17 : decode cX4_isNear 17 = .ok (.aload_n 0, 1) := dk_42 (dk_at dksX4_isNear_0 17 rfl rfl)
theorem dX4_isNear_18 : decode cX4_isNear 18 = .ok (.getfield 13, 3) := dk_180 0 13 (dk_at dksX4_isNear_0 18 rfl rfl)
theorem dX4_isNear_21 : decode cX4_isNear 21 = .ok (.iload_n 2, 1) := dk_28 (dk_at dksX4_isNear_0 21 rfl rfl)
theorem dX4_isNear_22 : decode cX4_isNear 22 = .ok (.iadd, 1) := dk_96 (dk_at dksX4_isNear_0 22 rfl rfl)
theorem dX4_isNear_23 : decode cX4_isNear 23 = .ok (.if_icmp .ge 7, 3) := dk_162 0 7 (dk_at dksX4_isNear_1 0 rfl rfl)
theorem dX4_isNear_26 : decode cX4_isNear 26 = .ok (.iconst 1, 1) := dk_4 (dk_at dksX4_isNear_1 3 rfl rfl)
theorem dX4_isNear_27 : decode cX4_isNear 27 = .ok (.goto 4, 3) := dk_167 0 4 (dk_at dksX4_isNear_1 4 rfl rfl)
theorem dX4_isNear_30 : decode cX4_isNear 30 = .ok (.iconst 0, 1) := dk_3 (dk_at dksX4_isNear_1 7 rfl rfl)
theorem dX4_isNear_31 : decode cX4_isNear 31 = .ok (.ireturn, 1) := dk_172 (dk_at dksX4_isNear_1 8 rfl rfl)
abbrev cX4_length : ByteArray := prog_8_method_2_code
def yX4_length : MethodName := ⟨RX4, "length", "()I"⟩
def dkwX4_length_0 : List UInt8 := [42, 180, 0, 13, 42, 180, 0, 7, 100, 172]
abbrev dktX4_length_0 : List UInt8 := dkwX4_length_0 ++ []
theorem dksX4_length_0 : cX4_length.data.toList.drop 0 = dktX4_length_0 := by decide +kernel
theorem dX4_length_0 : decode cX4_length 0 = .ok (.aload_n 0, 1) := dk_42 (dk_at dksX4_length_0 0 rfl rfl)
theorem dX4_length_1 : decode cX4_length 1 = .ok (.getfield 13, 3) := dk_180 0 13 (dk_at dksX4_length_0 1 rfl rfl)
theorem dX4_length_4 : decode cX4_length 4 = .ok (.aload_n 0, 1) := dk_42 (dk_at dksX4_length_0 4 rfl rfl)
theorem dX4_length_5 : decode cX4_length 5 = .ok (.getfield 7, 3) := dk_180 0 7 (dk_at dksX4_length_0 5 rfl rfl)
theorem dX4_length_8 : decode cX4_length 8 = .ok (.isub, 1) := dk_100 (dk_at dksX4_length_0 8 rfl rfl)
theorem dX4_length_9 : decode cX4_length 9 = .ok (.ireturn, 1) := dk_172 (dk_at dksX4_length_0 9 rfl rfl)
theorem q69 : (Jvm.Cond.initialized "TimberList$Stretch") ∈ lw_all := lw_g (lw_at lw_m1 23 rfl) rfl
theorem q332 : (Jvm.Cond.declares ({ cls := "TimberList$Stretch", name := "has", desc := "(I)Z" } : Jvm.MethodName)) ∈ lw_tbl := lw_at lw_m2 46 rfl
theorem q334 : (Jvm.Cond.instanceMethod ({ cls := "TimberList$Stretch", name := "has", desc := "(I)Z" } : Jvm.MethodName)) ∈ lw_all := lw_g (lw_at lw_m2 48 rfl) rfl
theorem q335 : (Jvm.Cond.code ({ cls := "TimberList$Stretch", name := "has", desc := "(I)Z" } : Jvm.MethodName) prog_8_method_3_code (2 : Nat) (Option.some Jvm.ClassFile.FieldType.boolean)) ∈ lw_all := lw_g (lw_at lw_m2 49 rfl) rfl
theorem q340 : (Jvm.Cond.instantiable "TimberList$Stretch" (2 : Nat)) ∈ lw_all := lw_g (lw_at lw_m2 54 rfl) rfl
theorem q342 : (Jvm.Cond.instanceMethod ({ cls := "TimberList$Stretch", name := "<init>", desc := "(II)V" } : Jvm.MethodName)) ∈ lw_all := lw_g (lw_at lw_m2 56 rfl) rfl
theorem q343 : (Jvm.Cond.code ({ cls := "TimberList$Stretch", name := "<init>", desc := "(II)V" } : Jvm.MethodName) prog_8_method_1_code (3 : Nat) (Option.none : Option Jvm.ClassFile.FieldType)) ∈ lw_all := lw_g (lw_at lw_m2 57 rfl) rfl
theorem q344 : (Jvm.Cond.methodLink "TimberList$Stretch" (1 : Nat) ({ cls := "java/lang/Object", name := "<init>", desc := "()V" } : Jvm.MethodName)) ∈ lw_all := lw_g (lw_at lw_m2 58 rfl) rfl
theorem q345 : (Jvm.Cond.fieldLink "TimberList$Stretch" (7 : Nat) "TimberList$Stretch" "from" "I") ∈ lw_all := lw_g (lw_at lw_m2 59 rfl) rfl
theorem q350 : (Jvm.Cond.fieldLink "TimberList$Stretch" (13 : Nat) "TimberList$Stretch" "to" "I") ∈ lw_all := lw_g (lw_at lw_m2 64 rfl) rfl
theorem q357 : (Jvm.Cond.laysFinal "TimberList$Stretch" "TimberList$Stretch" "from" "I") ∈ lw_all := lw_g (lw_at lw_m2 71 rfl) rfl
theorem q358 : (Jvm.Cond.soleField "TimberList$Stretch" "from") ∈ lw_all := lw_g (lw_at lw_m2 72 rfl) rfl
theorem q359 : (Jvm.Cond.laysFinal "TimberList$Stretch" "TimberList$Stretch" "to" "I") ∈ lw_all := lw_g (lw_at lw_m2 73 rfl) rfl
theorem q360 : (Jvm.Cond.soleField "TimberList$Stretch" "to") ∈ lw_all := lw_g (lw_at lw_m2 74 rfl) rfl
theorem q361 : (Jvm.Cond.superclass "TimberList$Stretch" "java/lang/Object") ∈ lw_all := lw_g (lw_at lw_m2 75 rfl) rfl
theorem q907 : (Jvm.Cond.declares ({ cls := "TimberList$Stretch", name := "isNear", desc := "(LTimberList$Stretch;I)Z" } : Jvm.MethodName)) ∈ lw_tbl := lw_at lw_m4 141 rfl
theorem q909 : (Jvm.Cond.instanceMethod ({ cls := "TimberList$Stretch", name := "isNear", desc := "(LTimberList$Stretch;I)Z" } : Jvm.MethodName)) ∈ lw_all := lw_g (lw_at lw_m4 143 rfl) rfl
theorem q910 : (Jvm.Cond.code ({ cls := "TimberList$Stretch", name := "isNear", desc := "(LTimberList$Stretch;I)Z" } : Jvm.MethodName) prog_8_method_4_code (3 : Nat) (Option.some Jvm.ClassFile.FieldType.boolean)) ∈ lw_all := lw_g (lw_at lw_m4 144 rfl) rfl
theorem q983 : (Jvm.Cond.selects "TimberList$Stretch" ({ cls := "java/lang/Object", name := "getClass", desc := "()Ljava/lang/Class;" } : Jvm.MethodName) ({ cls := "java/lang/Object", name := "getClass", desc := "()Ljava/lang/Class;" } : Jvm.MethodName)) ∈ lw_all := lw_g (lw_at lw_m4 217 rfl) rfl
theorem q1304 : (Jvm.Cond.declares ({ cls := "TimberList$Stretch", name := "length", desc := "()I" } : Jvm.MethodName)) ∈ lw_tbl := lw_at lw_m6 58 rfl
theorem q1306 : (Jvm.Cond.instanceMethod ({ cls := "TimberList$Stretch", name := "length", desc := "()I" } : Jvm.MethodName)) ∈ lw_all := lw_g (lw_at lw_m6 60 rfl) rfl
theorem q1307 : (Jvm.Cond.code ({ cls := "TimberList$Stretch", name := "length", desc := "()I" } : Jvm.MethodName) prog_8_method_2_code (1 : Nat) (Option.some Jvm.ClassFile.FieldType.int)) ∈ lw_all := lw_g (lw_at lw_m6 61 rfl) rfl
theorem q1646 : (Jvm.Cond.selects "TimberList$Stretch" ({ cls := "java/lang/Object", name := "equals", desc := "(Ljava/lang/Object;)Z" } : Jvm.MethodName) ({ cls := "java/lang/Object", name := "equals", desc := "(Ljava/lang/Object;)Z" } : Jvm.MethodName)) ∈ lw_all := lw_g (lw_at lw_m7 160 rfl) rfl
theorem q2003 : (Jvm.Cond.castable "TimberList$Stretch" "java/lang/Object") ∈ lw_tbl := lw_at lw_m9 37 rfl
theorem in_X4 : ∀ w ∈ wsX40, w ∈ lw_all := lw_in wsX40 [357, 359] (by decide +kernel) (by decide +kernel)

/-! TimberList$Defect -/
set_option maxRecDepth 100000
def RX5 : String := "TimberList$Defect"
def TX5 : u_T := fun k => match k with
  | 0 => ("TimberList$Stretch", "from", "I", true)
  | 1 => ("TimberList$Stretch", "to", "I", true)
  | _ => ("TimberList$Defect", "grade", "I", true)
def tyX5 : Nat → FieldType := fun k => match k with
  | 0 => .int
  | 1 => .int
  | _ => .int
abbrev wsX50 : List Cond := u_ws RX5 TX5 3
theorem nmX5 : ∀ a, a < 3 → ∀ b, b < 3 → a ≠ b → (TX5 a).2.1 ≠ (TX5 b).2.1 := by decide +kernel
theorem tyX5_ok : ∀ k, k < 3 → parseFieldDescriptor (TX5 k).2.2.1 = some (tyX5 k) := by decide +kernel
abbrev cX5_init : ByteArray := prog_5_method_1_code
def yX5_init : MethodName := ⟨RX5, "<init>", "(III)V"⟩
def dkwX5_init_0 : List UInt8 := [42, 27, 28, 183, 0, 1, 42, 29, 181, 0, 7, 177]
abbrev dktX5_init_0 : List UInt8 := dkwX5_init_0 ++ []
theorem dksX5_init_0 : cX5_init.data.toList.drop 0 = dktX5_init_0 := by decide +kernel
theorem dX5_init_0 : decode cX5_init 0 = .ok (.aload_n 0, 1) := dk_42 (dk_at dksX5_init_0 0 rfl rfl)
theorem dX5_init_1 : decode cX5_init 1 = .ok (.iload_n 1, 1) := dk_27 (dk_at dksX5_init_0 1 rfl rfl)
theorem dX5_init_2 : decode cX5_init 2 = .ok (.iload_n 2, 1) := dk_28 (dk_at dksX5_init_0 2 rfl rfl)
theorem dX5_init_3 : decode cX5_init 3 = .ok (.invokespecial 1, 3) := dk_183 0 1 (dk_at dksX5_init_0 3 rfl rfl)
theorem dX5_init_6 : decode cX5_init 6 = .ok (.aload_n 0, 1) := dk_42 (dk_at dksX5_init_0 6 rfl rfl)
theorem dX5_init_7 : decode cX5_init 7 = .ok (.iload_n 3, 1) := dk_29 (dk_at dksX5_init_0 7 rfl rfl)
theorem dX5_init_8 : decode cX5_init 8 = .ok (.putfield 7, 3) := dk_181 0 7 (dk_at dksX5_init_0 8 rfl rfl)
theorem dX5_init_11 : decode cX5_init 11 = .ok (.return_, 1) := dk_177 (dk_at dksX5_init_0 11 rfl rfl)
theorem q70 : (Jvm.Cond.initialized "TimberList$Defect") ∈ lw_all := lw_g (lw_at lw_m1 24 rfl) rfl
theorem q331 : (Jvm.Cond.sameMethod "TimberList$Defect" "TimberList$Stretch" "has" "(I)Z") ∈ lw_all := lw_g (lw_at lw_m2 45 rfl) rfl
theorem q333 : (Jvm.Cond.selects "TimberList$Defect" ({ cls := "TimberList$Defect", name := "has", desc := "(I)Z" } : Jvm.MethodName) ({ cls := "TimberList$Stretch", name := "has", desc := "(I)Z" } : Jvm.MethodName)) ∈ lw_all := lw_g (lw_at lw_m2 47 rfl) rfl
theorem q355 : (Jvm.Cond.sameField "TimberList$Defect" "TimberList$Stretch" "to" "I") ∈ lw_all := lw_g (lw_at lw_m2 69 rfl) rfl
theorem q980 : (Jvm.Cond.selects "TimberList$Defect" ({ cls := "java/lang/Object", name := "getClass", desc := "()Ljava/lang/Class;" } : Jvm.MethodName) ({ cls := "java/lang/Object", name := "getClass", desc := "()Ljava/lang/Class;" } : Jvm.MethodName)) ∈ lw_all := lw_g (lw_at lw_m4 214 rfl) rfl
theorem q1431 : (Jvm.Cond.instantiable "TimberList$Defect" (3 : Nat)) ∈ lw_all := lw_g (lw_at lw_m6 185 rfl) rfl
theorem q1433 : (Jvm.Cond.instanceMethod ({ cls := "TimberList$Defect", name := "<init>", desc := "(III)V" } : Jvm.MethodName)) ∈ lw_all := lw_g (lw_at lw_m6 187 rfl) rfl
theorem q1434 : (Jvm.Cond.code ({ cls := "TimberList$Defect", name := "<init>", desc := "(III)V" } : Jvm.MethodName) prog_5_method_1_code (4 : Nat) (Option.none : Option Jvm.ClassFile.FieldType)) ∈ lw_all := lw_g (lw_at lw_m6 188 rfl) rfl
theorem q1435 : (Jvm.Cond.methodLink "TimberList$Defect" (1 : Nat) ({ cls := "TimberList$Stretch", name := "<init>", desc := "(II)V" } : Jvm.MethodName)) ∈ lw_all := lw_g (lw_at lw_m6 189 rfl) rfl
theorem q1436 : (Jvm.Cond.fieldLink "TimberList$Defect" (7 : Nat) "TimberList$Defect" "grade" "I") ∈ lw_all := lw_g (lw_at lw_m6 190 rfl) rfl
theorem q1439 : (Jvm.Cond.laysFinal "TimberList$Defect" "TimberList$Defect" "grade" "I") ∈ lw_all := lw_g (lw_at lw_m6 193 rfl) rfl
theorem q1440 : (Jvm.Cond.soleField "TimberList$Defect" "grade") ∈ lw_all := lw_g (lw_at lw_m6 194 rfl) rfl
theorem q1441 : (Jvm.Cond.laysFinal "TimberList$Defect" "TimberList$Stretch" "from" "I") ∈ lw_all := lw_g (lw_at lw_m6 195 rfl) rfl
theorem q1442 : (Jvm.Cond.laysFinal "TimberList$Defect" "TimberList$Stretch" "to" "I") ∈ lw_all := lw_g (lw_at lw_m6 196 rfl) rfl
theorem q1443 : (Jvm.Cond.superclass "TimberList$Defect" "TimberList$Stretch") ∈ lw_all := lw_g (lw_at lw_m6 197 rfl) rfl
theorem q1643 : (Jvm.Cond.selects "TimberList$Defect" ({ cls := "java/lang/Object", name := "equals", desc := "(Ljava/lang/Object;)Z" } : Jvm.MethodName) ({ cls := "java/lang/Object", name := "equals", desc := "(Ljava/lang/Object;)Z" } : Jvm.MethodName)) ∈ lw_all := lw_g (lw_at lw_m7 157 rfl) rfl
theorem q1987 : (Jvm.Cond.castable "TimberList$Defect" "TimberList$Stretch") ∈ lw_tbl := lw_at lw_m9 21 rfl
theorem q1998 : (Jvm.Cond.castable "TimberList$Defect" "java/lang/Object") ∈ lw_tbl := lw_at lw_m9 32 rfl
theorem in_X5 : ∀ w ∈ wsX50, w ∈ lw_all := lw_in wsX50 [1441, 1442, 1439] (by decide +kernel) (by decide +kernel)

/-! TimberList$Part -/
set_option maxRecDepth 100000
def RX6 : String := "TimberList$Part"
def TX6 : u_T := fun k => match k with
  | 0 => ("TimberList$Part", "number", "I", true)
  | 1 => ("TimberList$Part", "length", "I", true)
  | 2 => ("TimberList$Part", "width", "I", true)
  | 3 => ("TimberList$Part", "grade", "I", true)
  | 4 => ("TimberList$Part", "canBeJoined", "Z", true)
  | _ => ("TimberList$Part", "left", "I", false)
def tyX6 : Nat → FieldType := fun k => match k with
  | 0 => .int
  | 1 => .int
  | 2 => .int
  | 3 => .int
  | 4 => .boolean
  | _ => .int
abbrev wsX60 : List Cond := u_ws RX6 TX6 6
theorem nmX6 : ∀ a, a < 6 → ∀ b, b < 6 → a ≠ b → (TX6 a).2.1 ≠ (TX6 b).2.1 := by decide +kernel
theorem tyX6_ok : ∀ k, k < 6 → parseFieldDescriptor (TX6 k).2.2.1 = some (tyX6 k) := by decide +kernel
abbrev cX6_isAhead : ByteArray := prog_6_method_2_code
def yX6_isAhead : MethodName := ⟨RX6, "isAhead", "(LTimberList$Part;)Z"⟩
def dkwX6_isAhead_3 : List UInt8 := [167, 0, 4, 3, 172]
abbrev dktX6_isAhead_3 : List UInt8 := dkwX6_isAhead_3 ++ []
def dkwX6_isAhead_2 : List UInt8 := [162, 0, 7, 4, 167, 0, 23, 3, 167, 0, 19, 42, 180, 0, 7, 43, 180, 0, 7, 162, 0, 7, 4]
abbrev dktX6_isAhead_2 : List UInt8 := dkwX6_isAhead_2 ++ dktX6_isAhead_3
def dkwX6_isAhead_1 : List UInt8 := [167, 0, 4, 3, 172, 42, 180, 0, 19, 43, 180, 0, 19, 159, 0, 22, 42, 180, 0, 19, 43, 180, 0, 19]
abbrev dktX6_isAhead_1 : List UInt8 := dkwX6_isAhead_1 ++ dktX6_isAhead_2
def dkwX6_isAhead_0 : List UInt8 := [42, 180, 0, 13, 43, 180, 0, 13, 159, 0, 20, 42, 180, 0, 13, 43, 180, 0, 13, 164, 0, 7, 4]
abbrev dktX6_isAhead_0 : List UInt8 := dkwX6_isAhead_0 ++ dktX6_isAhead_1
theorem dksX6_isAhead_0 : cX6_isAhead.data.toList.drop 0 = dktX6_isAhead_0 := by decide +kernel
theorem dksX6_isAhead_1 : cX6_isAhead.data.toList.drop 23 = dktX6_isAhead_1 := dk_seg dksX6_isAhead_0 23 rfl rfl
theorem dksX6_isAhead_2 : cX6_isAhead.data.toList.drop 47 = dktX6_isAhead_2 := dk_seg dksX6_isAhead_1 24 rfl rfl
theorem dksX6_isAhead_3 : cX6_isAhead.data.toList.drop 70 = dktX6_isAhead_3 := dk_seg dksX6_isAhead_2 23 rfl rfl
theorem dX6_isAhead_0 : decode cX6_isAhead 0 = .ok (.aload_n 0, 1) := dk_42 (dk_at dksX6_isAhead_0 0 rfl rfl)
theorem dX6_isAhead_1 : decode cX6_isAhead 1 = .ok (.getfield 13, 3) := dk_180 0 13 (dk_at dksX6_isAhead_0 1 rfl rfl)
theorem dX6_isAhead_4 : decode cX6_isAhead 4 = .ok (.aload_n 1, 1) := dk_43 (dk_at dksX6_isAhead_0 4 rfl rfl)
theorem dX6_isAhead_5 : decode cX6_isAhead 5 = .ok (.getfield 13, 3) := dk_180 0 13 (dk_at dksX6_isAhead_0 5 rfl rfl)
theorem dX6_isAhead_8 : decode cX6_isAhead 8 = .ok (.if_icmp .eq 20, 3) := dk_159 0 20 (dk_at dksX6_isAhead_0 8 rfl rfl)
theorem dX6_isAhead_11 : decode cX6_isAhead 11 = .ok (.aload_n 0, 1) := dk_42 (dk_at dksX6_isAhead_0 11 rfl rfl)
theorem dX6_isAhead_12 : decode cX6_isAhead 12 = .ok (.getfield 13, 3) := dk_180 0 13 (dk_at dksX6_isAhead_0 12 rfl rfl)
theorem dX6_isAhead_15 : decode cX6_isAhead 15 = .ok (.aload_n 1, 1) := dk_43 (dk_at dksX6_isAhead_0 15 rfl rfl)
theorem dX6_isAhead_16 : decode cX6_isAhead 16 = .ok (.getfield 13, 3) := dk_180 0 13 (dk_at dksX6_isAhead_0 16 rfl rfl)
theorem dX6_isAhead_19 : decode cX6_isAhead 19 = .ok (.if_icmp .le 7, 3) := dk_164 0 7 (dk_at dksX6_isAhead_0 19 rfl rfl)
theorem dX6_isAhead_22 : decode cX6_isAhead 22 = .ok (.iconst 1, 1) := dk_4 (dk_at dksX6_isAhead_0 22 rfl rfl)
theorem dX6_isAhead_23 : decode cX6_isAhead 23 = .ok (.goto 4, 3) := dk_167 0 4 (dk_at dksX6_isAhead_1 0 rfl rfl)
theorem dX6_isAhead_26 : decode cX6_isAhead 26 = .ok (.iconst 0, 1) := dk_3 (dk_at dksX6_isAhead_1 3 rfl rfl)
theorem dX6_isAhead_27 : decode cX6_isAhead 27 = .ok (.ireturn, 1) := dk_172 (dk_at dksX6_isAhead_1 4 rfl rfl)
theorem dX6_isAhead_28 : decode cX6_isAhead 28 = .ok (.aload_n 0, 1) := dk_42 (dk_at dksX6_isAhead_1 5 rfl rfl)
theorem dX6_isAhead_29 : decode cX6_isAhead 29 = .ok (.getfield 19, 3) := dk_180 0 19 (dk_at dksX6_isAhead_1 6 rfl rfl)
theorem dX6_isAhead_32 : decode cX6_isAhead 32 = .ok (.aload_n 1, 1) := dk_43 (dk_at dksX6_isAhead_1 9 rfl rfl)
theorem dX6_isAhead_33 : decode cX6_isAhead 33 = .ok (.getfield 19, 3) := dk_180 0 19 (dk_at dksX6_isAhead_1 10 rfl rfl)
theorem dX6_isAhead_36 : decode cX6_isAhead 36 = .ok (.if_icmp .eq 22, 3) := dk_159 0 22 (dk_at dksX6_isAhead_1 13 rfl rfl)
theorem dX6_isAhead_39 : decode cX6_isAhead 39 = .ok (.aload_n 0, 1) := dk_42 (dk_at dksX6_isAhead_1 16 rfl rfl)
theorem dX6_isAhead_40 : decode cX6_isAhead 40 = .ok (.getfield 19, 3) := dk_180 0 19 (dk_at dksX6_isAhead_1 17 rfl rfl)
theorem dX6_isAhead_43 : decode cX6_isAhead 43 = .ok (.aload_n 1, 1) := dk_43 (dk_at dksX6_isAhead_1 20 rfl rfl)
theorem dX6_isAhead_44 : decode cX6_isAhead 44 = .ok (.getfield 19, 3) := dk_180 0 19 (dk_at dksX6_isAhead_1 21 rfl rfl)
theorem dX6_isAhead_47 : decode cX6_isAhead 47 = .ok (.if_icmp .ge 7, 3) := dk_162 0 7 (dk_at dksX6_isAhead_2 0 rfl rfl)
theorem dX6_isAhead_50 : decode cX6_isAhead 50 = .ok (.iconst 1, 1) := dk_4 (dk_at dksX6_isAhead_2 3 rfl rfl)
theorem dX6_isAhead_51 : decode cX6_isAhead 51 = .ok (.goto 23, 3) := dk_167 0 23 (dk_at dksX6_isAhead_2 4 rfl rfl)
theorem dX6_isAhead_54 : decode cX6_isAhead 54 = .ok (.iconst 0, 1) := dk_3 (dk_at dksX6_isAhead_2 7 rfl rfl)
theorem dX6_isAhead_55 : decode cX6_isAhead 55 = .ok (.goto 19, 3) := dk_167 0 19 (dk_at dksX6_isAhead_2 8 rfl rfl)
theorem dX6_isAhead_58 : decode cX6_isAhead 58 = .ok (.aload_n 0, 1) := dk_42 (dk_at dksX6_isAhead_2 11 rfl rfl)
theorem dX6_isAhead_59 : decode cX6_isAhead 59 = .ok (.getfield 7, 3) := dk_180 0 7 (dk_at dksX6_isAhead_2 12 rfl rfl)
theorem dX6_isAhead_62 : decode cX6_isAhead 62 = .ok (.aload_n 1, 1) := dk_43 (dk_at dksX6_isAhead_2 15 rfl rfl)
theorem dX6_isAhead_63 : decode cX6_isAhead 63 = .ok (.getfield 7, 3) := dk_180 0 7 (dk_at dksX6_isAhead_2 16 rfl rfl)
theorem dX6_isAhead_66 : decode cX6_isAhead 66 = .ok (.if_icmp .ge 7, 3) := dk_162 0 7 (dk_at dksX6_isAhead_2 19 rfl rfl)
theorem dX6_isAhead_69 : decode cX6_isAhead 69 = .ok (.iconst 1, 1) := dk_4 (dk_at dksX6_isAhead_2 22 rfl rfl)
theorem dX6_isAhead_70 : decode cX6_isAhead 70 = .ok (.goto 4, 3) := dk_167 0 4 (dk_at dksX6_isAhead_3 0 rfl rfl)
theorem dX6_isAhead_73 : decode cX6_isAhead 73 = .ok (.iconst 0, 1) := dk_3 (dk_at dksX6_isAhead_3 3 rfl rfl)
theorem dX6_isAhead_74 : decode cX6_isAhead 74 = .ok (.ireturn, 1) := dk_172 (dk_at dksX6_isAhead_3 4 rfl rfl)
abbrev cX6_init : ByteArray := prog_6_method_1_code
def yX6_init : MethodName := ⟨RX6, "<init>", "(IIIIIZ)V"⟩
def dkwX6_init_1 : List UInt8 := [181, 0, 19, 42, 21, 6, 181, 0, 22, 42, 21, 5, 181, 0, 26, 177]
abbrev dktX6_init_1 : List UInt8 := dkwX6_init_1 ++ []
def dkwX6_init_0 : List UInt8 := [42, 183, 0, 1, 42, 27, 181, 0, 7, 42, 28, 181, 0, 13, 42, 29, 181, 0, 16, 42, 21, 4]
abbrev dktX6_init_0 : List UInt8 := dkwX6_init_0 ++ dktX6_init_1
theorem dksX6_init_0 : cX6_init.data.toList.drop 0 = dktX6_init_0 := by decide +kernel
theorem dksX6_init_1 : cX6_init.data.toList.drop 22 = dktX6_init_1 := dk_seg dksX6_init_0 22 rfl rfl
theorem dX6_init_0 : decode cX6_init 0 = .ok (.aload_n 0, 1) := dk_42 (dk_at dksX6_init_0 0 rfl rfl)
theorem dX6_init_1 : decode cX6_init 1 = .ok (.invokespecial 1, 3) := dk_183 0 1 (dk_at dksX6_init_0 1 rfl rfl)
theorem dX6_init_4 : decode cX6_init 4 = .ok (.aload_n 0, 1) := dk_42 (dk_at dksX6_init_0 4 rfl rfl)
theorem dX6_init_5 : decode cX6_init 5 = .ok (.iload_n 1, 1) := dk_27 (dk_at dksX6_init_0 5 rfl rfl)
theorem dX6_init_6 : decode cX6_init 6 = .ok (.putfield 7, 3) := dk_181 0 7 (dk_at dksX6_init_0 6 rfl rfl)
theorem dX6_init_9 : decode cX6_init 9 = .ok (.aload_n 0, 1) := dk_42 (dk_at dksX6_init_0 9 rfl rfl)
theorem dX6_init_10 : decode cX6_init 10 = .ok (.iload_n 2, 1) := dk_28 (dk_at dksX6_init_0 10 rfl rfl)
theorem dX6_init_11 : decode cX6_init 11 = .ok (.putfield 13, 3) := dk_181 0 13 (dk_at dksX6_init_0 11 rfl rfl)
theorem dX6_init_14 : decode cX6_init 14 = .ok (.aload_n 0, 1) := dk_42 (dk_at dksX6_init_0 14 rfl rfl)
theorem dX6_init_15 : decode cX6_init 15 = .ok (.iload_n 3, 1) := dk_29 (dk_at dksX6_init_0 15 rfl rfl)
theorem dX6_init_16 : decode cX6_init 16 = .ok (.putfield 16, 3) := dk_181 0 16 (dk_at dksX6_init_0 16 rfl rfl)
theorem dX6_init_19 : decode cX6_init 19 = .ok (.aload_n 0, 1) := dk_42 (dk_at dksX6_init_0 19 rfl rfl)
theorem dX6_init_20 : decode cX6_init 20 = .ok (.iload 4, 2) := dk_21 4 (dk_at dksX6_init_0 20 rfl rfl)
theorem dX6_init_22 : decode cX6_init 22 = .ok (.putfield 19, 3) := dk_181 0 19 (dk_at dksX6_init_1 0 rfl rfl)
theorem dX6_init_25 : decode cX6_init 25 = .ok (.aload_n 0, 1) := dk_42 (dk_at dksX6_init_1 3 rfl rfl)
theorem dX6_init_26 : decode cX6_init 26 = .ok (.iload 6, 2) := dk_21 6 (dk_at dksX6_init_1 4 rfl rfl)
theorem dX6_init_28 : decode cX6_init 28 = .ok (.putfield 22, 3) := dk_181 0 22 (dk_at dksX6_init_1 6 rfl rfl)
theorem dX6_init_31 : decode cX6_init 31 = .ok (.aload_n 0, 1) := dk_42 (dk_at dksX6_init_1 9 rfl rfl)
theorem dX6_init_32 : decode cX6_init 32 = .ok (.iload 5, 2) := dk_21 5 (dk_at dksX6_init_1 10 rfl rfl)
theorem dX6_init_34 : decode cX6_init 34 = .ok (.putfield 26, 3) := dk_181 0 26 (dk_at dksX6_init_1 12 rfl rfl)
theorem dX6_init_37 : decode cX6_init 37 = .ok (.return_, 1) := dk_177 (dk_at dksX6_init_1 15 rfl rfl)
theorem q75 : (Jvm.Cond.initialized "TimberList$Part") ∈ lw_all := lw_g (lw_at lw_m1 29 rfl) rfl
theorem q392 : (Jvm.Cond.instanceMethod ({ cls := "TimberList$Part", name := "isAhead", desc := "(LTimberList$Part;)Z" } : Jvm.MethodName)) ∈ lw_all := lw_g (lw_at lw_m2 106 rfl) rfl
theorem q393 : (Jvm.Cond.selects "TimberList$Part" ({ cls := "TimberList$Part", name := "isAhead", desc := "(LTimberList$Part;)Z" } : Jvm.MethodName) ({ cls := "TimberList$Part", name := "isAhead", desc := "(LTimberList$Part;)Z" } : Jvm.MethodName)) ∈ lw_all := lw_g (lw_at lw_m2 107 rfl) rfl
theorem q394 : (Jvm.Cond.code ({ cls := "TimberList$Part", name := "isAhead", desc := "(LTimberList$Part;)Z" } : Jvm.MethodName) prog_6_method_2_code (2 : Nat) (Option.some Jvm.ClassFile.FieldType.boolean)) ∈ lw_all := lw_g (lw_at lw_m2 108 rfl) rfl
theorem q981 : (Jvm.Cond.selects "TimberList$Part" ({ cls := "java/lang/Object", name := "getClass", desc := "()Ljava/lang/Class;" } : Jvm.MethodName) ({ cls := "java/lang/Object", name := "getClass", desc := "()Ljava/lang/Class;" } : Jvm.MethodName)) ∈ lw_all := lw_g (lw_at lw_m4 215 rfl) rfl
theorem q1452 : (Jvm.Cond.instantiable "TimberList$Part" (6 : Nat)) ∈ lw_all := lw_g (lw_at lw_m6 206 rfl) rfl
theorem q1454 : (Jvm.Cond.instanceMethod ({ cls := "TimberList$Part", name := "<init>", desc := "(IIIIIZ)V" } : Jvm.MethodName)) ∈ lw_all := lw_g (lw_at lw_m6 208 rfl) rfl
theorem q1455 : (Jvm.Cond.code ({ cls := "TimberList$Part", name := "<init>", desc := "(IIIIIZ)V" } : Jvm.MethodName) prog_6_method_1_code (7 : Nat) (Option.none : Option Jvm.ClassFile.FieldType)) ∈ lw_all := lw_g (lw_at lw_m6 209 rfl) rfl
theorem q1456 : (Jvm.Cond.methodLink "TimberList$Part" (1 : Nat) ({ cls := "java/lang/Object", name := "<init>", desc := "()V" } : Jvm.MethodName)) ∈ lw_all := lw_g (lw_at lw_m6 210 rfl) rfl
theorem q1457 : (Jvm.Cond.fieldLink "TimberList$Part" (7 : Nat) "TimberList$Part" "number" "I") ∈ lw_all := lw_g (lw_at lw_m6 211 rfl) rfl
theorem q1460 : (Jvm.Cond.fieldLink "TimberList$Part" (13 : Nat) "TimberList$Part" "length" "I") ∈ lw_all := lw_g (lw_at lw_m6 214 rfl) rfl
theorem q1463 : (Jvm.Cond.fieldLink "TimberList$Part" (16 : Nat) "TimberList$Part" "width" "I") ∈ lw_all := lw_g (lw_at lw_m6 217 rfl) rfl
theorem q1466 : (Jvm.Cond.fieldLink "TimberList$Part" (19 : Nat) "TimberList$Part" "grade" "I") ∈ lw_all := lw_g (lw_at lw_m6 220 rfl) rfl
theorem q1470 : (Jvm.Cond.fieldLink "TimberList$Part" (22 : Nat) "TimberList$Part" "canBeJoined" "Z") ∈ lw_all := lw_g (lw_at lw_m6 224 rfl) rfl
theorem q1472 : (Jvm.Cond.fieldLink "TimberList$Part" (26 : Nat) "TimberList$Part" "left" "I") ∈ lw_all := lw_g (lw_at lw_m6 226 rfl) rfl
theorem q1474 : (Jvm.Cond.laysFinal "TimberList$Part" "TimberList$Part" "number" "I") ∈ lw_all := lw_g (lw_at lw_m6 228 rfl) rfl
theorem q1475 : (Jvm.Cond.soleField "TimberList$Part" "number") ∈ lw_all := lw_g (lw_at lw_m6 229 rfl) rfl
theorem q1476 : (Jvm.Cond.laysFinal "TimberList$Part" "TimberList$Part" "length" "I") ∈ lw_all := lw_g (lw_at lw_m6 230 rfl) rfl
theorem q1477 : (Jvm.Cond.soleField "TimberList$Part" "length") ∈ lw_all := lw_g (lw_at lw_m6 231 rfl) rfl
theorem q1478 : (Jvm.Cond.laysFinal "TimberList$Part" "TimberList$Part" "width" "I") ∈ lw_all := lw_g (lw_at lw_m6 232 rfl) rfl
theorem q1479 : (Jvm.Cond.soleField "TimberList$Part" "width") ∈ lw_all := lw_g (lw_at lw_m6 233 rfl) rfl
theorem q1480 : (Jvm.Cond.laysFinal "TimberList$Part" "TimberList$Part" "grade" "I") ∈ lw_all := lw_g (lw_at lw_m6 234 rfl) rfl
theorem q1481 : (Jvm.Cond.soleField "TimberList$Part" "grade") ∈ lw_all := lw_g (lw_at lw_m6 235 rfl) rfl
theorem q1482 : (Jvm.Cond.laysFinal "TimberList$Part" "TimberList$Part" "canBeJoined" "Z") ∈ lw_all := lw_g (lw_at lw_m6 236 rfl) rfl
theorem q1483 : (Jvm.Cond.soleField "TimberList$Part" "canBeJoined") ∈ lw_all := lw_g (lw_at lw_m6 237 rfl) rfl
theorem q1484 : (Jvm.Cond.lays "TimberList$Part" "TimberList$Part" "left" "I") ∈ lw_all := lw_g (lw_at lw_m6 238 rfl) rfl
theorem q1485 : (Jvm.Cond.soleField "TimberList$Part" "left") ∈ lw_all := lw_g (lw_at lw_m6 239 rfl) rfl
theorem q1486 : (Jvm.Cond.superclass "TimberList$Part" "java/lang/Object") ∈ lw_all := lw_g (lw_at lw_m7 0 rfl) rfl
theorem q1644 : (Jvm.Cond.selects "TimberList$Part" ({ cls := "java/lang/Object", name := "equals", desc := "(Ljava/lang/Object;)Z" } : Jvm.MethodName) ({ cls := "java/lang/Object", name := "equals", desc := "(Ljava/lang/Object;)Z" } : Jvm.MethodName)) ∈ lw_all := lw_g (lw_at lw_m7 158 rfl) rfl
theorem q2000 : (Jvm.Cond.castable "TimberList$Part" "java/lang/Object") ∈ lw_tbl := lw_at lw_m9 34 rfl
theorem in_X6 : ∀ w ∈ wsX60, w ∈ lw_all := lw_in wsX60 [1474, 1476, 1478, 1480, 1482, 1484] (by decide +kernel) (by decide +kernel)

/-! TimberList$Board$1 -/
set_option maxRecDepth 100000
def RX7 : String := "TimberList$Board$1"
def TX7 : u_T := fun k => match k with
  | 0 => ("TimberList$Board$1", "at", "I", false)
  | 1 => ("TimberList$Board$1", "val$most", "I", true)
  | _ => ("TimberList$Board$1", "this$0", "LTimberList$Board;", true)
def tyX7 : Nat → FieldType := fun k => match k with
  | 0 => .int
  | 1 => .int
  | _ => .object "TimberList$Board"
abbrev wsX70 : List Cond := u_ws RX7 TX7 3
theorem nmX7 : ∀ a, a < 3 → ∀ b, b < 3 → a ≠ b → (TX7 a).2.1 ≠ (TX7 b).2.1 := by decide +kernel
theorem tyX7_ok : ∀ k, k < 3 → parseFieldDescriptor (TX7 k).2.2.1 = some (tyX7 k) := by decide +kernel
abbrev cX7_hasNext : ByteArray := prog_3_method_3_code
def yX7_hasNext : MethodName := ⟨RX7, "hasNext", "()Z"⟩
def dkwX7_hasNext_0 : List UInt8 := [42, 180, 0, 21, 42, 180, 0, 1, 180, 0, 24, 162, 0, 7, 4, 167, 0, 4, 3, 172]
abbrev dktX7_hasNext_0 : List UInt8 := dkwX7_hasNext_0 ++ []
theorem dksX7_hasNext_0 : cX7_hasNext.data.toList.drop 0 = dktX7_hasNext_0 := by decide +kernel
theorem dX7_hasNext_0 : decode cX7_hasNext 0 = .ok (.aload_n 0, 1) := dk_42 (dk_at dksX7_hasNext_0 0 rfl rfl)
theorem dX7_hasNext_1 : decode cX7_hasNext 1 = .ok (.getfield 21, 3) := dk_180 0 21 (dk_at dksX7_hasNext_0 1 rfl rfl)
theorem dX7_hasNext_4 : decode cX7_hasNext 4 = .ok (.aload_n 0, 1) := dk_42 (dk_at dksX7_hasNext_0 4 rfl rfl)
theorem dX7_hasNext_5 : decode cX7_hasNext 5 = .ok (.getfield 1, 3) := dk_180 0 1 (dk_at dksX7_hasNext_0 5 rfl rfl)
theorem dX7_hasNext_8 : decode cX7_hasNext 8 = .ok (.getfield 24, 3) := dk_180 0 24 (dk_at dksX7_hasNext_0 8 rfl rfl)
theorem dX7_hasNext_11 : decode cX7_hasNext 11 = .ok (.if_icmp .ge 7, 3) := dk_162 0 7 (dk_at dksX7_hasNext_0 11 rfl rfl)
theorem dX7_hasNext_14 : decode cX7_hasNext 14 = .ok (.iconst 1, 1) := dk_4 (dk_at dksX7_hasNext_0 14 rfl rfl)
theorem dX7_hasNext_15 : decode cX7_hasNext 15 = .ok (.goto 4, 3) := dk_167 0 4 (dk_at dksX7_hasNext_0 15 rfl rfl)
theorem dX7_hasNext_18 : decode cX7_hasNext 18 = .ok (.iconst 0, 1) := dk_3 (dk_at dksX7_hasNext_0 18 rfl rfl)
theorem dX7_hasNext_19 : decode cX7_hasNext 19 = .ok (.ireturn, 1) := dk_172 (dk_at dksX7_hasNext_0 19 rfl rfl)
abbrev cX7_next : ByteArray := prog_3_method_5_code
def yX7_next : MethodName := ⟨RX7, "next", "()Ljava/lang/Object;"⟩
theorem dX7_next_0 : decode cX7_next 0 = .ok (.aload_n 0, 1) := by decide +kernel
theorem dX7_next_1 : decode cX7_next 1 = .ok (.invokevirtual 44, 3) := by decide +kernel
theorem dX7_next_4 : decode cX7_next 4 = .ok (.areturn, 1) := by decide +kernel
abbrev cX7_next_2 : ByteArray := prog_3_method_4_code
def yX7_next_2 : MethodName := ⟨RX7, "next", "()LTimberList$Stretch;"⟩
def dkwX7_next_2_3 : List UInt8 := [182, 0, 17, 181, 0, 21, 44, 176]
abbrev dktX7_next_2_3 : List UInt8 := dkwX7_next_2_3 ++ []
def dkwX7_next_2_2 : List UInt8 := [132, 1, 1, 167, 255, 227, 187, 0, 39, 89, 42, 180, 0, 21, 27, 183, 0, 41, 77, 42, 42, 27]
abbrev dktX7_next_2_2 : List UInt8 := dkwX7_next_2_2 ++ dktX7_next_2_3
def dkwX7_next_2_1 : List UInt8 := [180, 0, 1, 180, 0, 24, 162, 0, 24, 42, 180, 0, 1, 27, 182, 0, 29, 42, 180, 0, 7, 163, 0, 9]
abbrev dktX7_next_2_1 : List UInt8 := dkwX7_next_2_1 ++ dktX7_next_2_2
def dkwX7_next_2_0 : List UInt8 := [42, 182, 0, 32, 154, 0, 11, 187, 0, 36, 89, 183, 0, 38, 191, 42, 180, 0, 21, 60, 27, 42]
abbrev dktX7_next_2_0 : List UInt8 := dkwX7_next_2_0 ++ dktX7_next_2_1
theorem dksX7_next_2_0 : cX7_next_2.data.toList.drop 0 = dktX7_next_2_0 := by decide +kernel
theorem dksX7_next_2_1 : cX7_next_2.data.toList.drop 22 = dktX7_next_2_1 := dk_seg dksX7_next_2_0 22 rfl rfl
theorem dksX7_next_2_2 : cX7_next_2.data.toList.drop 46 = dktX7_next_2_2 := dk_seg dksX7_next_2_1 24 rfl rfl
theorem dksX7_next_2_3 : cX7_next_2.data.toList.drop 68 = dktX7_next_2_3 := dk_seg dksX7_next_2_2 22 rfl rfl
theorem dX7_next_2_0 : decode cX7_next_2 0 = .ok (.aload_n 0, 1) := dk_42 (dk_at dksX7_next_2_0 0 rfl rfl)
theorem dX7_next_2_1 : decode cX7_next_2 1 = .ok (.invokevirtual 32, 3) := dk_182 0 32 (dk_at dksX7_next_2_0 1 rfl rfl)
theorem dX7_next_2_4 : decode cX7_next_2 4 = .ok (.ifCond .ne 11, 3) := dk_154 0 11 (dk_at dksX7_next_2_0 4 rfl rfl)
theorem dX7_next_2_7 : decode cX7_next_2 7 = .ok (.new 36, 3) := dk_187 0 36 (dk_at dksX7_next_2_0 7 rfl rfl)
theorem dX7_next_2_10 : decode cX7_next_2 10 = .ok (.dup, 1) := dk_89 (dk_at dksX7_next_2_0 10 rfl rfl)
theorem dX7_next_2_11 : decode cX7_next_2 11 = .ok (.invokespecial 38, 3) := dk_183 0 38 (dk_at dksX7_next_2_0 11 rfl rfl)
theorem dX7_next_2_14 : decode cX7_next_2 14 = .ok (.athrow, 1) := dk_191 (dk_at dksX7_next_2_0 14 rfl rfl)
theorem dX7_next_2_15 : decode cX7_next_2 15 = .ok (.aload_n 0, 1) := dk_42 (dk_at dksX7_next_2_0 15 rfl rfl)
theorem dX7_next_2_16 : decode cX7_next_2 16 = .ok (.getfield 21, 3) := dk_180 0 21 (dk_at dksX7_next_2_0 16 rfl rfl)
theorem dX7_next_2_19 : decode cX7_next_2 19 = .ok (.istore_n 1, 1) := dk_60 (dk_at dksX7_next_2_0 19 rfl rfl)
theorem dX7_next_2_20 : decode cX7_next_2 20 = .ok (.iload_n 1, 1) := dk_27 (dk_at dksX7_next_2_0 20 rfl rfl)
theorem dX7_next_2_21 : decode cX7_next_2 21 = .ok (.aload_n 0, 1) := dk_42 (dk_at dksX7_next_2_0 21 rfl rfl)
theorem dX7_next_2_22 : decode cX7_next_2 22 = .ok (.getfield 1, 3) := dk_180 0 1 (dk_at dksX7_next_2_1 0 rfl rfl)
theorem dX7_next_2_25 : decode cX7_next_2 25 = .ok (.getfield 24, 3) := dk_180 0 24 (dk_at dksX7_next_2_1 3 rfl rfl)
theorem dX7_next_2_28 : decode cX7_next_2 28 = .ok (.if_icmp .ge 24, 3) := dk_162 0 24 (dk_at dksX7_next_2_1 6 rfl rfl)
theorem dX7_next_2_31 : decode cX7_next_2 31 = .ok (.aload_n 0, 1) := dk_42 (dk_at dksX7_next_2_1 9 rfl rfl)
theorem dX7_next_2_32 : decode cX7_next_2 32 = .ok (.getfield 1, 3) := dk_180 0 1 (dk_at dksX7_next_2_1 10 rfl rfl)
theorem dX7_next_2_35 : decode cX7_next_2 35 = .ok (.iload_n 1, 1) := dk_27 (dk_at dksX7_next_2_1 13 rfl rfl)
theorem dX7_next_2_36 : decode cX7_next_2 36 = .ok (.invokevirtual 29, 3) := dk_182 0 29 (dk_at dksX7_next_2_1 14 rfl rfl)
theorem dX7_next_2_39 : decode cX7_next_2 39 = .ok (.aload_n 0, 1) := dk_42 (dk_at dksX7_next_2_1 17 rfl rfl)
theorem dX7_next_2_40 : decode cX7_next_2 40 = .ok (.getfield 7, 3) := dk_180 0 7 (dk_at dksX7_next_2_1 18 rfl rfl)
theorem dX7_next_2_43 : decode cX7_next_2 43 = .ok (.if_icmp .gt 9, 3) := dk_163 0 9 (dk_at dksX7_next_2_1 21 rfl rfl)
theorem dX7_next_2_46 : decode cX7_next_2 46 = .ok (.iinc 1 1, 3) := dk_132 1 1 (dk_at dksX7_next_2_2 0 rfl rfl)
theorem dX7_next_2_49 : decode cX7_next_2 49 = .ok (.goto (-29), 3) := dk_167 255 227 (dk_at dksX7_next_2_2 3 rfl rfl)
theorem dX7_next_2_52 : decode cX7_next_2 52 = .ok (.new 39, 3) := dk_187 0 39 (dk_at dksX7_next_2_2 6 rfl rfl)
theorem dX7_next_2_55 : decode cX7_next_2 55 = .ok (.dup, 1) := dk_89 (dk_at dksX7_next_2_2 9 rfl rfl)
theorem dX7_next_2_56 : decode cX7_next_2 56 = .ok (.aload_n 0, 1) := dk_42 (dk_at dksX7_next_2_2 10 rfl rfl)
theorem dX7_next_2_57 : decode cX7_next_2 57 = .ok (.getfield 21, 3) := dk_180 0 21 (dk_at dksX7_next_2_2 11 rfl rfl)
theorem dX7_next_2_60 : decode cX7_next_2 60 = .ok (.iload_n 1, 1) := dk_27 (dk_at dksX7_next_2_2 14 rfl rfl)
theorem dX7_next_2_61 : decode cX7_next_2 61 = .ok (.invokespecial 41, 3) := dk_183 0 41 (dk_at dksX7_next_2_2 15 rfl rfl)
theorem dX7_next_2_64 : decode cX7_next_2 64 = .ok (.astore_n 2, 1) := dk_77 (dk_at dksX7_next_2_2 18 rfl rfl)
theorem dX7_next_2_65 : decode cX7_next_2 65 = .ok (.aload_n 0, 1) := dk_42 (dk_at dksX7_next_2_2 19 rfl rfl)
theorem dX7_next_2_66 : decode cX7_next_2 66 = .ok (.aload_n 0, 1) := dk_42 (dk_at dksX7_next_2_2 20 rfl rfl)
theorem dX7_next_2_67 : decode cX7_next_2 67 = .ok (.iload_n 1, 1) := dk_27 (dk_at dksX7_next_2_2 21 rfl rfl)
theorem dX7_next_2_68 : decode cX7_next_2 68 = .ok (.invokevirtual 17, 3) := dk_182 0 17 (dk_at dksX7_next_2_3 0 rfl rfl)
theorem dX7_next_2_71 : decode cX7_next_2 71 = .ok (.putfield 21, 3) := dk_181 0 21 (dk_at dksX7_next_2_3 3 rfl rfl)
theorem dX7_next_2_74 : decode cX7_next_2 74 = .ok (.aload_n 2, 1) := dk_44 (dk_at dksX7_next_2_3 6 rfl rfl)
theorem dX7_next_2_75 : decode cX7_next_2 75 = .ok (.areturn, 1) := dk_176 (dk_at dksX7_next_2_3 7 rfl rfl)
abbrev cX7_next_3 : ByteArray := prog_3_method_2_code
def yX7_next_3 : MethodName := ⟨RX7, "next", "(I)I"⟩
def dkwX7_next_3_1 : List UInt8 := [180, 0, 7, 164, 0, 9, 132, 2, 1, 167, 255, 227, 28, 172]
abbrev dktX7_next_3_1 : List UInt8 := dkwX7_next_3_1 ++ []
def dkwX7_next_3_0 : List UInt8 := [27, 61, 28, 42, 180, 0, 1, 180, 0, 24, 162, 0, 24, 42, 180, 0, 1, 28, 182, 0, 29, 42]
abbrev dktX7_next_3_0 : List UInt8 := dkwX7_next_3_0 ++ dktX7_next_3_1
theorem dksX7_next_3_0 : cX7_next_3.data.toList.drop 0 = dktX7_next_3_0 := by decide +kernel
theorem dksX7_next_3_1 : cX7_next_3.data.toList.drop 22 = dktX7_next_3_1 := dk_seg dksX7_next_3_0 22 rfl rfl
theorem dX7_next_3_0 : decode cX7_next_3 0 = .ok (.iload_n 1, 1) := dk_27 (dk_at dksX7_next_3_0 0 rfl rfl)
theorem dX7_next_3_1 : decode cX7_next_3 1 = .ok (.istore_n 2, 1) := dk_61 (dk_at dksX7_next_3_0 1 rfl rfl)
theorem dX7_next_3_2 : decode cX7_next_3 2 = .ok (.iload_n 2, 1) := dk_28 (dk_at dksX7_next_3_0 2 rfl rfl)
theorem dX7_next_3_3 : decode cX7_next_3 3 = .ok (.aload_n 0, 1) := dk_42 (dk_at dksX7_next_3_0 3 rfl rfl)
theorem dX7_next_3_4 : decode cX7_next_3 4 = .ok (.getfield 1, 3) := dk_180 0 1 (dk_at dksX7_next_3_0 4 rfl rfl)
theorem dX7_next_3_7 : decode cX7_next_3 7 = .ok (.getfield 24, 3) := dk_180 0 24 (dk_at dksX7_next_3_0 7 rfl rfl)
theorem dX7_next_3_10 : decode cX7_next_3 10 = .ok (.if_icmp .ge 24, 3) := dk_162 0 24 (dk_at dksX7_next_3_0 10 rfl rfl)
theorem dX7_next_3_13 : decode cX7_next_3 13 = .ok (.aload_n 0, 1) := dk_42 (dk_at dksX7_next_3_0 13 rfl rfl)
theorem dX7_next_3_14 : decode cX7_next_3 14 = .ok (.getfield 1, 3) := dk_180 0 1 (dk_at dksX7_next_3_0 14 rfl rfl)
theorem dX7_next_3_17 : decode cX7_next_3 17 = .ok (.iload_n 2, 1) := dk_28 (dk_at dksX7_next_3_0 17 rfl rfl)
theorem dX7_next_3_18 : decode cX7_next_3 18 = .ok (.invokevirtual 29, 3) := dk_182 0 29 (dk_at dksX7_next_3_0 18 rfl rfl)
theorem dX7_next_3_21 : decode cX7_next_3 21 = .ok (.aload_n 0, 1) := dk_42 (dk_at dksX7_next_3_0 21 rfl rfl)
theorem dX7_next_3_22 : decode cX7_next_3 22 = .ok (.getfield 7, 3) := dk_180 0 7 (dk_at dksX7_next_3_1 0 rfl rfl)
theorem dX7_next_3_25 : decode cX7_next_3 25 = .ok (.if_icmp .le 9, 3) := dk_164 0 9 (dk_at dksX7_next_3_1 3 rfl rfl)
theorem dX7_next_3_28 : decode cX7_next_3 28 = .ok (.iinc 2 1, 3) := dk_132 2 1 (dk_at dksX7_next_3_1 6 rfl rfl)
theorem dX7_next_3_31 : decode cX7_next_3 31 = .ok (.goto (-29), 3) := dk_167 255 227 (dk_at dksX7_next_3_1 9 rfl rfl)
theorem dX7_next_3_34 : decode cX7_next_3 34 = .ok (.iload_n 2, 1) := dk_28 (dk_at dksX7_next_3_1 12 rfl rfl)
theorem dX7_next_3_35 : decode cX7_next_3 35 = .ok (.ireturn, 1) := dk_172 (dk_at dksX7_next_3_1 13 rfl rfl)
abbrev cX7_init : ByteArray := prog_3_method_1_code
def yX7_init : MethodName := ⟨RX7, "<init>", "(LTimberList$Board;I)V"⟩
def dkwX7_init_0 : List UInt8 := [42, 43, 181, 0, 1, 42, 28, 181, 0, 7, 42, 183, 0, 11, 42, 42, 3, 182, 0, 17, 181, 0, 21, 177]
abbrev dktX7_init_0 : List UInt8 := dkwX7_init_0 ++ []
theorem dksX7_init_0 : cX7_init.data.toList.drop 0 = dktX7_init_0 := by decide +kernel
theorem dX7_init_0 : decode cX7_init 0 = .ok (.aload_n 0, 1) := dk_42 (dk_at dksX7_init_0 0 rfl rfl)
theorem dX7_init_1 : decode cX7_init 1 = .ok (.aload_n 1, 1) := dk_43 (dk_at dksX7_init_0 1 rfl rfl)
theorem dX7_init_2 : decode cX7_init 2 = .ok (.putfield 1, 3) := dk_181 0 1 (dk_at dksX7_init_0 2 rfl rfl)
theorem dX7_init_5 : decode cX7_init 5 = .ok (.aload_n 0, 1) := dk_42 (dk_at dksX7_init_0 5 rfl rfl)
theorem dX7_init_6 : decode cX7_init 6 = .ok (.iload_n 2, 1) := dk_28 (dk_at dksX7_init_0 6 rfl rfl)
theorem dX7_init_7 : decode cX7_init 7 = .ok (.putfield 7, 3) := dk_181 0 7 (dk_at dksX7_init_0 7 rfl rfl)
theorem dX7_init_10 : decode cX7_init 10 = .ok (.aload_n 0, 1) := dk_42 (dk_at dksX7_init_0 10 rfl rfl)
theorem dX7_init_11 : decode cX7_init 11 = .ok (.invokespecial 11, 3) := dk_183 0 11 (dk_at dksX7_init_0 11 rfl rfl)
theorem dX7_init_14 : decode cX7_init 14 = .ok (.aload_n 0, 1) := dk_42 (dk_at dksX7_init_0 14 rfl rfl)
theorem dX7_init_15 : decode cX7_init 15 = .ok (.aload_n 0, 1) := dk_42 (dk_at dksX7_init_0 15 rfl rfl)
theorem dX7_init_16 : decode cX7_init 16 = .ok (.iconst 0, 1) := dk_3 (dk_at dksX7_init_0 16 rfl rfl)
theorem dX7_init_17 : decode cX7_init 17 = .ok (.invokevirtual 17, 3) := dk_182 0 17 (dk_at dksX7_init_0 17 rfl rfl)
theorem dX7_init_20 : decode cX7_init 20 = .ok (.putfield 21, 3) := dk_181 0 21 (dk_at dksX7_init_0 20 rfl rfl)
theorem dX7_init_23 : decode cX7_init 23 = .ok (.return_, 1) := dk_177 (dk_at dksX7_init_0 23 rfl rfl)
theorem q76 : (Jvm.Cond.initialized "TimberList$Board$1") ∈ lw_all := lw_g (lw_at lw_m1 30 rfl) rfl
theorem q209 : (Jvm.Cond.castable "TimberList$Board$1" "java/util/Iterator") ∈ lw_tbl := lw_at lw_m1 163 rfl
theorem q210 : (Jvm.Cond.selects "TimberList$Board$1" ({ cls := "java/util/Iterator", name := "hasNext", desc := "()Z" } : Jvm.MethodName) ({ cls := "TimberList$Board$1", name := "hasNext", desc := "()Z" } : Jvm.MethodName)) ∈ lw_all := lw_g (lw_at lw_m1 164 rfl) rfl
theorem q211 : (Jvm.Cond.unhidden "TimberList$Board$1" "hasNext" "()Z") ∈ lw_tbl := lw_at lw_m1 165 rfl
theorem q212 : (Jvm.Cond.instanceMethod ({ cls := "TimberList$Board$1", name := "hasNext", desc := "()Z" } : Jvm.MethodName)) ∈ lw_all := lw_g (lw_at lw_m1 166 rfl) rfl
theorem q213 : (Jvm.Cond.publicMethod ({ cls := "TimberList$Board$1", name := "hasNext", desc := "()Z" } : Jvm.MethodName)) ∈ lw_tbl := lw_at lw_m1 167 rfl
theorem q214 : (Jvm.Cond.code ({ cls := "TimberList$Board$1", name := "hasNext", desc := "()Z" } : Jvm.MethodName) prog_3_method_3_code (1 : Nat) (Option.some Jvm.ClassFile.FieldType.boolean)) ∈ lw_all := lw_g (lw_at lw_m1 168 rfl) rfl
theorem q231 : (Jvm.Cond.selects "TimberList$Board$1" ({ cls := "java/util/Iterator", name := "next", desc := "()Ljava/lang/Object;" } : Jvm.MethodName) ({ cls := "TimberList$Board$1", name := "next", desc := "()Ljava/lang/Object;" } : Jvm.MethodName)) ∈ lw_all := lw_g (lw_at lw_m1 185 rfl) rfl
theorem q232 : (Jvm.Cond.unhidden "TimberList$Board$1" "next" "()Ljava/lang/Object;") ∈ lw_tbl := lw_at lw_m1 186 rfl
theorem q233 : (Jvm.Cond.instanceMethod ({ cls := "TimberList$Board$1", name := "next", desc := "()Ljava/lang/Object;" } : Jvm.MethodName)) ∈ lw_all := lw_g (lw_at lw_m1 187 rfl) rfl
theorem q234 : (Jvm.Cond.publicMethod ({ cls := "TimberList$Board$1", name := "next", desc := "()Ljava/lang/Object;" } : Jvm.MethodName)) ∈ lw_tbl := lw_at lw_m1 188 rfl
theorem q235 : (Jvm.Cond.code ({ cls := "TimberList$Board$1", name := "next", desc := "()Ljava/lang/Object;" } : Jvm.MethodName) prog_3_method_5_code (1 : Nat) (Option.some (Jvm.ClassFile.FieldType.object "java/lang/Object"))) ∈ lw_all := lw_g (lw_at lw_m1 189 rfl) rfl
theorem q236 : (Jvm.Cond.methodLink "TimberList$Board$1" (44 : Nat) ({ cls := "TimberList$Board$1", name := "next", desc := "()LTimberList$Stretch;" } : Jvm.MethodName)) ∈ lw_all := lw_g (lw_at lw_m1 190 rfl) rfl
theorem q237 : (Jvm.Cond.instanceMethod ({ cls := "TimberList$Board$1", name := "next", desc := "()LTimberList$Stretch;" } : Jvm.MethodName)) ∈ lw_all := lw_g (lw_at lw_m1 191 rfl) rfl
theorem q238 : (Jvm.Cond.selects "TimberList$Board$1" ({ cls := "TimberList$Board$1", name := "next", desc := "()LTimberList$Stretch;" } : Jvm.MethodName) ({ cls := "TimberList$Board$1", name := "next", desc := "()LTimberList$Stretch;" } : Jvm.MethodName)) ∈ lw_all := lw_g (lw_at lw_m1 192 rfl) rfl
theorem q239 : (Jvm.Cond.code ({ cls := "TimberList$Board$1", name := "next", desc := "()LTimberList$Stretch;" } : Jvm.MethodName) prog_3_method_4_code (3 : Nat) (Option.some (Jvm.ClassFile.FieldType.object "TimberList$Stretch"))) ∈ lw_all := lw_g (lw_at lw_m1 193 rfl) rfl
theorem q240 : (Jvm.Cond.methodLink "TimberList$Board$1" (32 : Nat) ({ cls := "TimberList$Board$1", name := "hasNext", desc := "()Z" } : Jvm.MethodName)) ∈ lw_all := lw_g (lw_at lw_m1 194 rfl) rfl
theorem q241 : (Jvm.Cond.classLink "TimberList$Board$1" (36 : Nat) "java/util/NoSuchElementException") ∈ lw_all := lw_g (lw_at lw_m1 195 rfl) rfl
theorem q284 : (Jvm.Cond.methodLink "TimberList$Board$1" (38 : Nat) ({ cls := "java/util/NoSuchElementException", name := "<init>", desc := "()V" } : Jvm.MethodName)) ∈ lw_all := lw_g (lw_at lw_m1 238 rfl) rfl
theorem q307 : (Jvm.Cond.methodLink "TimberList$Board$1" (29 : Nat) ({ cls := "TimberList$Board", name := "gradeAt", desc := "(I)I" } : Jvm.MethodName)) ∈ lw_all := lw_g (lw_at lw_m2 21 rfl) rfl
theorem q339 : (Jvm.Cond.classLink "TimberList$Board$1" (39 : Nat) "TimberList$Stretch") ∈ lw_all := lw_g (lw_at lw_m2 53 rfl) rfl
theorem q341 : (Jvm.Cond.methodLink "TimberList$Board$1" (41 : Nat) ({ cls := "TimberList$Stretch", name := "<init>", desc := "(II)V" } : Jvm.MethodName)) ∈ lw_all := lw_g (lw_at lw_m2 55 rfl) rfl
theorem q362 : (Jvm.Cond.methodLink "TimberList$Board$1" (17 : Nat) ({ cls := "TimberList$Board$1", name := "next", desc := "(I)I" } : Jvm.MethodName)) ∈ lw_all := lw_g (lw_at lw_m2 76 rfl) rfl
theorem q363 : (Jvm.Cond.privateMethod ({ cls := "TimberList$Board$1", name := "next", desc := "(I)I" } : Jvm.MethodName)) ∈ lw_tbl := lw_at lw_m2 77 rfl
theorem q364 : (Jvm.Cond.instanceMethod ({ cls := "TimberList$Board$1", name := "next", desc := "(I)I" } : Jvm.MethodName)) ∈ lw_all := lw_g (lw_at lw_m2 78 rfl) rfl
theorem q365 : (Jvm.Cond.instantiable "TimberList$Board$1" (3 : Nat)) ∈ lw_all := lw_g (lw_at lw_m2 79 rfl) rfl
theorem q366 : (Jvm.Cond.code ({ cls := "TimberList$Board$1", name := "next", desc := "(I)I" } : Jvm.MethodName) prog_3_method_2_code (3 : Nat) (Option.some Jvm.ClassFile.FieldType.int)) ∈ lw_all := lw_g (lw_at lw_m2 80 rfl) rfl
theorem q978 : (Jvm.Cond.selects "TimberList$Board$1" ({ cls := "java/lang/Object", name := "getClass", desc := "()Ljava/lang/Class;" } : Jvm.MethodName) ({ cls := "java/lang/Object", name := "getClass", desc := "()Ljava/lang/Class;" } : Jvm.MethodName)) ∈ lw_all := lw_g (lw_at lw_m4 212 rfl) rfl
theorem q1372 : (Jvm.Cond.fieldLink "TimberList$Board$1" (24 : Nat) "TimberList$Board" "length" "I") ∈ lw_all := lw_g (lw_at lw_m6 126 rfl) rfl
theorem q1550 : (Jvm.Cond.instanceMethod ({ cls := "TimberList$Board$1", name := "<init>", desc := "(LTimberList$Board;I)V" } : Jvm.MethodName)) ∈ lw_all := lw_g (lw_at lw_m7 64 rfl) rfl
theorem q1551 : (Jvm.Cond.code ({ cls := "TimberList$Board$1", name := "<init>", desc := "(LTimberList$Board;I)V" } : Jvm.MethodName) prog_3_method_1_code (3 : Nat) (Option.none : Option Jvm.ClassFile.FieldType)) ∈ lw_all := lw_g (lw_at lw_m7 65 rfl) rfl
theorem q1552 : (Jvm.Cond.methodLink "TimberList$Board$1" (11 : Nat) ({ cls := "java/lang/Object", name := "<init>", desc := "()V" } : Jvm.MethodName)) ∈ lw_all := lw_g (lw_at lw_m7 66 rfl) rfl
theorem q1553 : (Jvm.Cond.fieldLink "TimberList$Board$1" (21 : Nat) "TimberList$Board$1" "at" "I") ∈ lw_all := lw_g (lw_at lw_m7 67 rfl) rfl
theorem q1554 : (Jvm.Cond.fieldLink "TimberList$Board$1" (7 : Nat) "TimberList$Board$1" "val$most" "I") ∈ lw_all := lw_g (lw_at lw_m7 68 rfl) rfl
theorem q1555 : (Jvm.Cond.fieldLink "TimberList$Board$1" (1 : Nat) "TimberList$Board$1" "this$0" "LTimberList$Board;") ∈ lw_all := lw_g (lw_at lw_m7 69 rfl) rfl
theorem q1556 : (Jvm.Cond.lays "TimberList$Board$1" "TimberList$Board$1" "at" "I") ∈ lw_all := lw_g (lw_at lw_m7 70 rfl) rfl
theorem q1557 : (Jvm.Cond.soleField "TimberList$Board$1" "at") ∈ lw_all := lw_g (lw_at lw_m7 71 rfl) rfl
theorem q1558 : (Jvm.Cond.laysFinal "TimberList$Board$1" "TimberList$Board$1" "val$most" "I") ∈ lw_all := lw_g (lw_at lw_m7 72 rfl) rfl
theorem q1559 : (Jvm.Cond.soleField "TimberList$Board$1" "val$most") ∈ lw_all := lw_g (lw_at lw_m7 73 rfl) rfl
theorem q1560 : (Jvm.Cond.laysFinal "TimberList$Board$1" "TimberList$Board$1" "this$0" "LTimberList$Board;") ∈ lw_all := lw_g (lw_at lw_m7 74 rfl) rfl
theorem q1561 : (Jvm.Cond.soleField "TimberList$Board$1" "this$0") ∈ lw_all := lw_g (lw_at lw_m7 75 rfl) rfl
theorem q1562 : (Jvm.Cond.superclass "TimberList$Board$1" "java/lang/Object") ∈ lw_all := lw_g (lw_at lw_m7 76 rfl) rfl
theorem q1641 : (Jvm.Cond.selects "TimberList$Board$1" ({ cls := "java/lang/Object", name := "equals", desc := "(Ljava/lang/Object;)Z" } : Jvm.MethodName) ({ cls := "java/lang/Object", name := "equals", desc := "(Ljava/lang/Object;)Z" } : Jvm.MethodName)) ∈ lw_all := lw_g (lw_at lw_m7 155 rfl) rfl
theorem q1974 : (Jvm.Cond.selects "TimberList$Board$1" ({ cls := "TimberList$Board$1", name := "hasNext", desc := "()Z" } : Jvm.MethodName) ({ cls := "TimberList$Board$1", name := "hasNext", desc := "()Z" } : Jvm.MethodName)) ∈ lw_all := lw_g (lw_at lw_m9 8 rfl) rfl
theorem q2001 : (Jvm.Cond.castable "TimberList$Board$1" "java/lang/Object") ∈ lw_tbl := lw_at lw_m9 35 rfl
theorem in_X7 : ∀ w ∈ wsX70, w ∈ lw_all := lw_in wsX70 [1556, 1558, 1560] (by decide +kernel) (by decide +kernel)

/-! TimberList$Piece -/
set_option maxRecDepth 100000
def RX8 : String := "TimberList$Piece"
def TX8 : u_T := fun k => match k with
  | 0 => ("TimberList$Stretch", "from", "I", true)
  | 1 => ("TimberList$Stretch", "to", "I", true)
  | 2 => ("TimberList$Piece", "part", "LTimberList$Part;", true)
  | _ => ("TimberList$Piece", "isJoined", "Z", true)
def tyX8 : Nat → FieldType := fun k => match k with
  | 0 => .int
  | 1 => .int
  | 2 => .object "TimberList$Part"
  | _ => .boolean
abbrev wsX80 : List Cond := u_ws RX8 TX8 4
theorem nmX8 : ∀ a, a < 4 → ∀ b, b < 4 → a ≠ b → (TX8 a).2.1 ≠ (TX8 b).2.1 := by decide +kernel
theorem tyX8_ok : ∀ k, k < 4 → parseFieldDescriptor (TX8 k).2.2.1 = some (tyX8 k) := by decide +kernel
abbrev cX8_init : ByteArray := prog_7_method_1_code
def yX8_init : MethodName := ⟨RX8, "<init>", "(LTimberList$Part;IIZ)V"⟩
def dkwX8_init_0 : List UInt8 := [42, 28, 28, 29, 96, 183, 0, 1, 42, 43, 181, 0, 7, 42, 21, 4, 181, 0, 13, 177]
abbrev dktX8_init_0 : List UInt8 := dkwX8_init_0 ++ []
theorem dksX8_init_0 : cX8_init.data.toList.drop 0 = dktX8_init_0 := by decide +kernel
theorem dX8_init_0 : decode cX8_init 0 = .ok (.aload_n 0, 1) := dk_42 (dk_at dksX8_init_0 0 rfl rfl)
theorem dX8_init_1 : decode cX8_init 1 = .ok (.iload_n 2, 1) := dk_28 (dk_at dksX8_init_0 1 rfl rfl)
theorem dX8_init_2 : decode cX8_init 2 = .ok (.iload_n 2, 1) := dk_28 (dk_at dksX8_init_0 2 rfl rfl)
theorem dX8_init_3 : decode cX8_init 3 = .ok (.iload_n 3, 1) := dk_29 (dk_at dksX8_init_0 3 rfl rfl)
theorem dX8_init_4 : decode cX8_init 4 = .ok (.iadd, 1) := dk_96 (dk_at dksX8_init_0 4 rfl rfl)
theorem dX8_init_5 : decode cX8_init 5 = .ok (.invokespecial 1, 3) := dk_183 0 1 (dk_at dksX8_init_0 5 rfl rfl)
theorem dX8_init_8 : decode cX8_init 8 = .ok (.aload_n 0, 1) := dk_42 (dk_at dksX8_init_0 8 rfl rfl)
theorem dX8_init_9 : decode cX8_init 9 = .ok (.aload_n 1, 1) := dk_43 (dk_at dksX8_init_0 9 rfl rfl)
theorem dX8_init_10 : decode cX8_init 10 = .ok (.putfield 7, 3) := dk_181 0 7 (dk_at dksX8_init_0 10 rfl rfl)
theorem dX8_init_13 : decode cX8_init 13 = .ok (.aload_n 0, 1) := dk_42 (dk_at dksX8_init_0 13 rfl rfl)
theorem dX8_init_14 : decode cX8_init 14 = .ok (.iload 4, 2) := dk_21 4 (dk_at dksX8_init_0 14 rfl rfl)
theorem dX8_init_16 : decode cX8_init 16 = .ok (.putfield 13, 3) := dk_181 0 13 (dk_at dksX8_init_0 16 rfl rfl)
theorem dX8_init_19 : decode cX8_init 19 = .ok (.return_, 1) := dk_177 (dk_at dksX8_init_0 19 rfl rfl)
abbrev cX8_isSpoiled : ByteArray := prog_7_method_3_code
def yX8_isSpoiled : MethodName := ⟨RX8, "isSpoiled", "(LTimberList$Defect;)Z"⟩
def dkwX8_isSpoiled_1 : List UInt8 := [167, 0, 4, 3, 172]
abbrev dktX8_isSpoiled_1 : List UInt8 := dkwX8_isSpoiled_1 ++ []
def dkwX8_isSpoiled_0 : List UInt8 := [43, 180, 0, 29, 42, 180, 0, 7, 180, 0, 34, 164, 0, 16, 42, 43, 3, 182, 0, 35, 153, 0, 7, 4]
abbrev dktX8_isSpoiled_0 : List UInt8 := dkwX8_isSpoiled_0 ++ dktX8_isSpoiled_1
theorem dksX8_isSpoiled_0 : cX8_isSpoiled.data.toList.drop 0 = dktX8_isSpoiled_0 := by decide +kernel
theorem dksX8_isSpoiled_1 : cX8_isSpoiled.data.toList.drop 24 = dktX8_isSpoiled_1 := dk_seg dksX8_isSpoiled_0 24 rfl rfl
theorem dX8_isSpoiled_0 : decode cX8_isSpoiled 0 = .ok (.aload_n 1, 1) := dk_43 (dk_at dksX8_isSpoiled_0 0 rfl rfl)
theorem dX8_isSpoiled_1 : decode cX8_isSpoiled 1 = .ok (.getfield 29, 3) := dk_180 0 29 (dk_at dksX8_isSpoiled_0 1 rfl rfl)
theorem dX8_isSpoiled_4 : decode cX8_isSpoiled 4 = .ok (.aload_n 0, 1) := dk_42 (dk_at dksX8_isSpoiled_0 4 rfl rfl)
theorem dX8_isSpoiled_5 : decode cX8_isSpoiled 5 = .ok (.getfield 7, 3) := dk_180 0 7 (dk_at dksX8_isSpoiled_0 5 rfl rfl)
theorem dX8_isSpoiled_8 : decode cX8_isSpoiled 8 = .ok (.getfield 34, 3) := dk_180 0 34 (dk_at dksX8_isSpoiled_0 8 rfl rfl)
theorem dX8_isSpoiled_11 : decode cX8_isSpoiled 11 = .ok (.if_icmp .le 16, 3) := dk_164 0 16 (dk_at dksX8_isSpoiled_0 11 rfl rfl)
theorem dX8_isSpoiled_14 : decode cX8_isSpoiled 14 = .ok (.aload_n 0, 1) := dk_42 (dk_at dksX8_isSpoiled_0 14 rfl rfl)
theorem dX8_isSpoiled_15 : decode cX8_isSpoiled 15 = .ok (.aload_n 1, 1) := dk_43 (dk_at dksX8_isSpoiled_0 15 rfl rfl)
theorem dX8_isSpoiled_16 : decode cX8_isSpoiled 16 = .ok (.iconst 0, 1) := dk_3 (dk_at dksX8_isSpoiled_0 16 rfl rfl)
theorem dX8_isSpoiled_17 : decode cX8_isSpoiled 17 = .ok (.invokevirtual 35, 3) := dk_182 0 35 (dk_at dksX8_isSpoiled_0 17 rfl rfl)
theorem dX8_isSpoiled_20 : decode cX8_isSpoiled 20 = .ok (.ifCond .eq 7, 3) := dk_153 0 7 (dk_at dksX8_isSpoiled_0 20 rfl rfl)
theorem dX8_isSpoiled_23 : decode cX8_isSpoiled 23 = .ok (.iconst 1, 1) := dk_4 (dk_at dksX8_isSpoiled_0 23 rfl rfl)
theorem dX8_isSpoiled_24 : decode cX8_isSpoiled 24 = .ok (.goto 4, 3) := dk_167 0 4 (dk_at dksX8_isSpoiled_1 0 rfl rfl)
theorem dX8_isSpoiled_27 : decode cX8_isSpoiled 27 = .ok (.iconst 0, 1) := dk_3 (dk_at dksX8_isSpoiled_1 3 rfl rfl)
theorem dX8_isSpoiled_28 : decode cX8_isSpoiled 28 = .ok (.ireturn, 1) := dk_172 (dk_at dksX8_isSpoiled_1 4 rfl rfl)
abbrev cX8_get : ByteArray := prog_7_method_2_code
def yX8_get : MethodName := ⟨RX8, "get", "(I)I"⟩
def dkwX8_get_2 : List UInt8 := [167, 0, 4, 3, 172]
abbrev dktX8_get_2 : List UInt8 := dkwX8_get_2 ++ []
def dkwX8_get_1 : List UInt8 := [167, 0, 27, 27, 5, 160, 0, 10, 42, 180, 0, 26, 167, 0, 15, 42, 180, 0, 13, 153, 0, 7, 4]
abbrev dktX8_get_1 : List UInt8 := dkwX8_get_1 ++ dktX8_get_2
def dkwX8_get_0 : List UInt8 := [27, 154, 0, 13, 42, 180, 0, 7, 180, 0, 17, 167, 0, 39, 27, 4, 160, 0, 10, 42, 180, 0, 23]
abbrev dktX8_get_0 : List UInt8 := dkwX8_get_0 ++ dktX8_get_1
theorem dksX8_get_0 : cX8_get.data.toList.drop 0 = dktX8_get_0 := by decide +kernel
theorem dksX8_get_1 : cX8_get.data.toList.drop 23 = dktX8_get_1 := dk_seg dksX8_get_0 23 rfl rfl
theorem dksX8_get_2 : cX8_get.data.toList.drop 46 = dktX8_get_2 := dk_seg dksX8_get_1 23 rfl rfl
theorem dX8_get_0 : decode cX8_get 0 = .ok (.iload_n 1, 1) := dk_27 (dk_at dksX8_get_0 0 rfl rfl)
theorem dX8_get_1 : decode cX8_get 1 = .ok (.ifCond .ne 13, 3) := dk_154 0 13 (dk_at dksX8_get_0 1 rfl rfl)
theorem dX8_get_4 : decode cX8_get 4 = .ok (.aload_n 0, 1) := dk_42 (dk_at dksX8_get_0 4 rfl rfl)
theorem dX8_get_5 : decode cX8_get 5 = .ok (.getfield 7, 3) := dk_180 0 7 (dk_at dksX8_get_0 5 rfl rfl)
theorem dX8_get_8 : decode cX8_get 8 = .ok (.getfield 17, 3) := dk_180 0 17 (dk_at dksX8_get_0 8 rfl rfl)
theorem dX8_get_11 : decode cX8_get 11 = .ok (.goto 39, 3) := dk_167 0 39 (dk_at dksX8_get_0 11 rfl rfl)
theorem dX8_get_14 : decode cX8_get 14 = .ok (.iload_n 1, 1) := dk_27 (dk_at dksX8_get_0 14 rfl rfl)
theorem dX8_get_15 : decode cX8_get 15 = .ok (.iconst 1, 1) := dk_4 (dk_at dksX8_get_0 15 rfl rfl)
theorem dX8_get_16 : decode cX8_get 16 = .ok (.if_icmp .ne 10, 3) := dk_160 0 10 (dk_at dksX8_get_0 16 rfl rfl)
theorem dX8_get_19 : decode cX8_get 19 = .ok (.aload_n 0, 1) := dk_42 (dk_at dksX8_get_0 19 rfl rfl)
theorem dX8_get_20 : decode cX8_get 20 = .ok (.getfield 23, 3) := dk_180 0 23 (dk_at dksX8_get_0 20 rfl rfl)
theorem dX8_get_23 : decode cX8_get 23 = .ok (.goto 27, 3) := dk_167 0 27 (dk_at dksX8_get_1 0 rfl rfl)
theorem dX8_get_26 : decode cX8_get 26 = .ok (.iload_n 1, 1) := dk_27 (dk_at dksX8_get_1 3 rfl rfl)
theorem dX8_get_27 : decode cX8_get 27 = .ok (.iconst 2, 1) := dk_5 (dk_at dksX8_get_1 4 rfl rfl)
theorem dX8_get_28 : decode cX8_get 28 = .ok (.if_icmp .ne 10, 3) := dk_160 0 10 (dk_at dksX8_get_1 5 rfl rfl)
theorem dX8_get_31 : decode cX8_get 31 = .ok (.aload_n 0, 1) := dk_42 (dk_at dksX8_get_1 8 rfl rfl)
theorem dX8_get_32 : decode cX8_get 32 = .ok (.getfield 26, 3) := dk_180 0 26 (dk_at dksX8_get_1 9 rfl rfl)
theorem dX8_get_35 : decode cX8_get 35 = .ok (.goto 15, 3) := dk_167 0 15 (dk_at dksX8_get_1 12 rfl rfl)
theorem dX8_get_38 : decode cX8_get 38 = .ok (.aload_n 0, 1) := dk_42 (dk_at dksX8_get_1 15 rfl rfl)
theorem dX8_get_39 : decode cX8_get 39 = .ok (.getfield 13, 3) := dk_180 0 13 (dk_at dksX8_get_1 16 rfl rfl)
theorem dX8_get_42 : decode cX8_get 42 = .ok (.ifCond .eq 7, 3) := dk_153 0 7 (dk_at dksX8_get_1 19 rfl rfl)
theorem dX8_get_45 : decode cX8_get 45 = .ok (.iconst 1, 1) := dk_4 (dk_at dksX8_get_1 22 rfl rfl)
theorem dX8_get_46 : decode cX8_get 46 = .ok (.goto 4, 3) := dk_167 0 4 (dk_at dksX8_get_2 0 rfl rfl)
theorem dX8_get_49 : decode cX8_get 49 = .ok (.iconst 0, 1) := dk_3 (dk_at dksX8_get_2 3 rfl rfl)
theorem dX8_get_50 : decode cX8_get 50 = .ok (.ireturn, 1) := dk_172 (dk_at dksX8_get_2 4 rfl rfl)
theorem q77 : (Jvm.Cond.initialized "TimberList$Piece") ∈ lw_all := lw_g (lw_at lw_m1 31 rfl) rfl
theorem q346 : (Jvm.Cond.fieldLink "TimberList$Piece" (23 : Nat) "TimberList$Piece" "from" "I") ∈ lw_all := lw_g (lw_at lw_m2 60 rfl) rfl
theorem q347 : (Jvm.Cond.sameField "TimberList$Piece" "TimberList$Stretch" "from" "I") ∈ lw_all := lw_g (lw_at lw_m2 61 rfl) rfl
theorem q351 : (Jvm.Cond.fieldLink "TimberList$Piece" (26 : Nat) "TimberList$Piece" "to" "I") ∈ lw_all := lw_g (lw_at lw_m2 65 rfl) rfl
theorem q352 : (Jvm.Cond.sameField "TimberList$Piece" "TimberList$Stretch" "to" "I") ∈ lw_all := lw_g (lw_at lw_m2 66 rfl) rfl
theorem q881 : (Jvm.Cond.instantiable "TimberList$Piece" (4 : Nat)) ∈ lw_all := lw_g (lw_at lw_m4 115 rfl) rfl
theorem q883 : (Jvm.Cond.instanceMethod ({ cls := "TimberList$Piece", name := "<init>", desc := "(LTimberList$Part;IIZ)V" } : Jvm.MethodName)) ∈ lw_all := lw_g (lw_at lw_m4 117 rfl) rfl
theorem q884 : (Jvm.Cond.code ({ cls := "TimberList$Piece", name := "<init>", desc := "(LTimberList$Part;IIZ)V" } : Jvm.MethodName) prog_7_method_1_code (5 : Nat) (Option.none : Option Jvm.ClassFile.FieldType)) ∈ lw_all := lw_g (lw_at lw_m4 118 rfl) rfl
theorem q885 : (Jvm.Cond.methodLink "TimberList$Piece" (1 : Nat) ({ cls := "TimberList$Stretch", name := "<init>", desc := "(II)V" } : Jvm.MethodName)) ∈ lw_all := lw_g (lw_at lw_m4 119 rfl) rfl
theorem q886 : (Jvm.Cond.fieldLink "TimberList$Piece" (7 : Nat) "TimberList$Piece" "part" "LTimberList$Part;") ∈ lw_all := lw_g (lw_at lw_m4 120 rfl) rfl
theorem q889 : (Jvm.Cond.fieldLink "TimberList$Piece" (13 : Nat) "TimberList$Piece" "isJoined" "Z") ∈ lw_all := lw_g (lw_at lw_m4 123 rfl) rfl
theorem q890 : (Jvm.Cond.laysFinal "TimberList$Piece" "TimberList$Piece" "part" "LTimberList$Part;") ∈ lw_all := lw_g (lw_at lw_m4 124 rfl) rfl
theorem q891 : (Jvm.Cond.soleField "TimberList$Piece" "part") ∈ lw_all := lw_g (lw_at lw_m4 125 rfl) rfl
theorem q892 : (Jvm.Cond.laysFinal "TimberList$Piece" "TimberList$Piece" "isJoined" "Z") ∈ lw_all := lw_g (lw_at lw_m4 126 rfl) rfl
theorem q893 : (Jvm.Cond.soleField "TimberList$Piece" "isJoined") ∈ lw_all := lw_g (lw_at lw_m4 127 rfl) rfl
theorem q894 : (Jvm.Cond.laysFinal "TimberList$Piece" "TimberList$Stretch" "from" "I") ∈ lw_all := lw_g (lw_at lw_m4 128 rfl) rfl
theorem q895 : (Jvm.Cond.laysFinal "TimberList$Piece" "TimberList$Stretch" "to" "I") ∈ lw_all := lw_g (lw_at lw_m4 129 rfl) rfl
theorem q896 : (Jvm.Cond.superclass "TimberList$Piece" "TimberList$Stretch") ∈ lw_all := lw_g (lw_at lw_m4 130 rfl) rfl
theorem q902 : (Jvm.Cond.instanceMethod ({ cls := "TimberList$Piece", name := "isSpoiled", desc := "(LTimberList$Defect;)Z" } : Jvm.MethodName)) ∈ lw_all := lw_g (lw_at lw_m4 136 rfl) rfl
theorem q903 : (Jvm.Cond.selects "TimberList$Piece" ({ cls := "TimberList$Piece", name := "isSpoiled", desc := "(LTimberList$Defect;)Z" } : Jvm.MethodName) ({ cls := "TimberList$Piece", name := "isSpoiled", desc := "(LTimberList$Defect;)Z" } : Jvm.MethodName)) ∈ lw_all := lw_g (lw_at lw_m4 137 rfl) rfl
theorem q904 : (Jvm.Cond.code ({ cls := "TimberList$Piece", name := "isSpoiled", desc := "(LTimberList$Defect;)Z" } : Jvm.MethodName) prog_7_method_3_code (2 : Nat) (Option.some Jvm.ClassFile.FieldType.boolean)) ∈ lw_all := lw_g (lw_at lw_m4 138 rfl) rfl
theorem q905 : (Jvm.Cond.methodLink "TimberList$Piece" (35 : Nat) ({ cls := "TimberList$Piece", name := "isNear", desc := "(LTimberList$Stretch;I)Z" } : Jvm.MethodName)) ∈ lw_all := lw_g (lw_at lw_m4 139 rfl) rfl
theorem q906 : (Jvm.Cond.sameMethod "TimberList$Piece" "TimberList$Stretch" "isNear" "(LTimberList$Stretch;I)Z") ∈ lw_all := lw_g (lw_at lw_m4 140 rfl) rfl
theorem q908 : (Jvm.Cond.selects "TimberList$Piece" ({ cls := "TimberList$Piece", name := "isNear", desc := "(LTimberList$Stretch;I)Z" } : Jvm.MethodName) ({ cls := "TimberList$Stretch", name := "isNear", desc := "(LTimberList$Stretch;I)Z" } : Jvm.MethodName)) ∈ lw_all := lw_g (lw_at lw_m4 142 rfl) rfl
theorem q982 : (Jvm.Cond.selects "TimberList$Piece" ({ cls := "java/lang/Object", name := "getClass", desc := "()Ljava/lang/Class;" } : Jvm.MethodName) ({ cls := "java/lang/Object", name := "getClass", desc := "()Ljava/lang/Class;" } : Jvm.MethodName)) ∈ lw_all := lw_g (lw_at lw_m4 216 rfl) rfl
theorem q1303 : (Jvm.Cond.sameMethod "TimberList$Piece" "TimberList$Stretch" "length" "()I") ∈ lw_all := lw_g (lw_at lw_m6 57 rfl) rfl
theorem q1305 : (Jvm.Cond.selects "TimberList$Piece" ({ cls := "TimberList$Piece", name := "length", desc := "()I" } : Jvm.MethodName) ({ cls := "TimberList$Stretch", name := "length", desc := "()I" } : Jvm.MethodName)) ∈ lw_all := lw_g (lw_at lw_m6 59 rfl) rfl
theorem q1320 : (Jvm.Cond.instanceMethod ({ cls := "TimberList$Piece", name := "get", desc := "(I)I" } : Jvm.MethodName)) ∈ lw_all := lw_g (lw_at lw_m6 74 rfl) rfl
theorem q1321 : (Jvm.Cond.selects "TimberList$Piece" ({ cls := "TimberList$Piece", name := "get", desc := "(I)I" } : Jvm.MethodName) ({ cls := "TimberList$Piece", name := "get", desc := "(I)I" } : Jvm.MethodName)) ∈ lw_all := lw_g (lw_at lw_m6 75 rfl) rfl
theorem q1322 : (Jvm.Cond.code ({ cls := "TimberList$Piece", name := "get", desc := "(I)I" } : Jvm.MethodName) prog_7_method_2_code (2 : Nat) (Option.some Jvm.ClassFile.FieldType.int)) ∈ lw_all := lw_g (lw_at lw_m6 76 rfl) rfl
theorem q1438 : (Jvm.Cond.fieldLink "TimberList$Piece" (29 : Nat) "TimberList$Defect" "grade" "I") ∈ lw_all := lw_g (lw_at lw_m6 192 rfl) rfl
theorem q1458 : (Jvm.Cond.fieldLink "TimberList$Piece" (17 : Nat) "TimberList$Part" "number" "I") ∈ lw_all := lw_g (lw_at lw_m6 212 rfl) rfl
theorem q1467 : (Jvm.Cond.fieldLink "TimberList$Piece" (34 : Nat) "TimberList$Part" "grade" "I") ∈ lw_all := lw_g (lw_at lw_m6 221 rfl) rfl
theorem q1645 : (Jvm.Cond.selects "TimberList$Piece" ({ cls := "java/lang/Object", name := "equals", desc := "(Ljava/lang/Object;)Z" } : Jvm.MethodName) ({ cls := "java/lang/Object", name := "equals", desc := "(Ljava/lang/Object;)Z" } : Jvm.MethodName)) ∈ lw_all := lw_g (lw_at lw_m7 159 rfl) rfl
theorem q1988 : (Jvm.Cond.castable "TimberList$Piece" "TimberList$Stretch") ∈ lw_tbl := lw_at lw_m9 22 rfl
theorem q2004 : (Jvm.Cond.castable "TimberList$Piece" "java/lang/Object") ∈ lw_tbl := lw_at lw_m9 38 rfl
theorem in_X8 : ∀ w ∈ wsX80, w ∈ lw_all := lw_in wsX80 [894, 895, 890, 892] (by decide +kernel) (by decide +kernel)

/-! TimberList$Cutting -/
set_option maxRecDepth 100000
def RX9 : String := "TimberList$Cutting"
def TX9 : u_T := fun k => match k with
  | 0 => ("TimberList$Cutting", "part", "LTimberList$Part;", true)
  | 1 => ("TimberList$Cutting", "boards", "Ljava/util/ArrayList;", true)
  | _ => ("TimberList$Cutting", "pieces", "Ljava/util/ArrayList;", true)
def tyX9 : Nat → FieldType := fun k => match k with
  | 0 => .object "TimberList$Part"
  | 1 => .object "java/util/ArrayList"
  | _ => .object "java/util/ArrayList"
abbrev wsX90 : List Cond := u_ws RX9 TX9 3
theorem nmX9 : ∀ a, a < 3 → ∀ b, b < 3 → a ≠ b → (TX9 a).2.1 ≠ (TX9 b).2.1 := by decide +kernel
theorem tyX9_ok : ∀ k, k < 3 → parseFieldDescriptor (TX9 k).2.2.1 = some (tyX9 k) := by decide +kernel
abbrev cX9_init : ByteArray := prog_4_method_1_code
def yX9_init : MethodName := ⟨RX9, "<init>", "(LTimberList$Part;)V"⟩
def dkwX9_init_1 : List UInt8 := [181, 0, 16, 42, 43, 181, 0, 19, 177]
abbrev dktX9_init_1 : List UInt8 := dkwX9_init_1 ++ []
def dkwX9_init_0 : List UInt8 := [42, 183, 0, 1, 42, 187, 0, 7, 89, 183, 0, 9, 181, 0, 10, 42, 187, 0, 7, 89, 183, 0, 9]
abbrev dktX9_init_0 : List UInt8 := dkwX9_init_0 ++ dktX9_init_1
theorem dksX9_init_0 : cX9_init.data.toList.drop 0 = dktX9_init_0 := by decide +kernel
theorem dksX9_init_1 : cX9_init.data.toList.drop 23 = dktX9_init_1 := dk_seg dksX9_init_0 23 rfl rfl
theorem dX9_init_0 : decode cX9_init 0 = .ok (.aload_n 0, 1) := dk_42 (dk_at dksX9_init_0 0 rfl rfl)
theorem dX9_init_1 : decode cX9_init 1 = .ok (.invokespecial 1, 3) := dk_183 0 1 (dk_at dksX9_init_0 1 rfl rfl)
theorem dX9_init_4 : decode cX9_init 4 = .ok (.aload_n 0, 1) := dk_42 (dk_at dksX9_init_0 4 rfl rfl)
theorem dX9_init_5 : decode cX9_init 5 = .ok (.new 7, 3) := dk_187 0 7 (dk_at dksX9_init_0 5 rfl rfl)
theorem dX9_init_8 : decode cX9_init 8 = .ok (.dup, 1) := dk_89 (dk_at dksX9_init_0 8 rfl rfl)
theorem dX9_init_9 : decode cX9_init 9 = .ok (.invokespecial 9, 3) := dk_183 0 9 (dk_at dksX9_init_0 9 rfl rfl)
theorem dX9_init_12 : decode cX9_init 12 = .ok (.putfield 10, 3) := dk_181 0 10 (dk_at dksX9_init_0 12 rfl rfl)
theorem dX9_init_15 : decode cX9_init 15 = .ok (.aload_n 0, 1) := dk_42 (dk_at dksX9_init_0 15 rfl rfl)
theorem dX9_init_16 : decode cX9_init 16 = .ok (.new 7, 3) := dk_187 0 7 (dk_at dksX9_init_0 16 rfl rfl)
theorem dX9_init_19 : decode cX9_init 19 = .ok (.dup, 1) := dk_89 (dk_at dksX9_init_0 19 rfl rfl)
theorem dX9_init_20 : decode cX9_init 20 = .ok (.invokespecial 9, 3) := dk_183 0 9 (dk_at dksX9_init_0 20 rfl rfl)
theorem dX9_init_23 : decode cX9_init 23 = .ok (.putfield 16, 3) := dk_181 0 16 (dk_at dksX9_init_1 0 rfl rfl)
theorem dX9_init_26 : decode cX9_init 26 = .ok (.aload_n 0, 1) := dk_42 (dk_at dksX9_init_1 3 rfl rfl)
theorem dX9_init_27 : decode cX9_init 27 = .ok (.aload_n 1, 1) := dk_43 (dk_at dksX9_init_1 4 rfl rfl)
theorem dX9_init_28 : decode cX9_init 28 = .ok (.putfield 19, 3) := dk_181 0 19 (dk_at dksX9_init_1 5 rfl rfl)
theorem dX9_init_31 : decode cX9_init 31 = .ok (.return_, 1) := dk_177 (dk_at dksX9_init_1 8 rfl rfl)
abbrev cX9_add : ByteArray := prog_4_method_2_code
def yX9_add : MethodName := ⟨RX9, "add", "(LTimberList$Board;LTimberList$Piece;)V"⟩
def dkwX9_add_0 : List UInt8 := [42, 180, 0, 10, 43, 182, 0, 23, 87, 42, 180, 0, 16, 44, 182, 0, 23, 87, 43, 44, 182, 0, 27, 177]
abbrev dktX9_add_0 : List UInt8 := dkwX9_add_0 ++ []
theorem dksX9_add_0 : cX9_add.data.toList.drop 0 = dktX9_add_0 := by decide +kernel
theorem dX9_add_0 : decode cX9_add 0 = .ok (.aload_n 0, 1) := dk_42 (dk_at dksX9_add_0 0 rfl rfl)
theorem dX9_add_1 : decode cX9_add 1 = .ok (.getfield 10, 3) := dk_180 0 10 (dk_at dksX9_add_0 1 rfl rfl)
theorem dX9_add_4 : decode cX9_add 4 = .ok (.aload_n 1, 1) := dk_43 (dk_at dksX9_add_0 4 rfl rfl)
theorem dX9_add_5 : decode cX9_add 5 = .ok (.invokevirtual 23, 3) := dk_182 0 23 (dk_at dksX9_add_0 5 rfl rfl)
theorem dX9_add_8 : decode cX9_add 8 = .ok (.pop, 1) := dk_87 (dk_at dksX9_add_0 8 rfl rfl)
theorem dX9_add_9 : decode cX9_add 9 = .ok (.aload_n 0, 1) := dk_42 (dk_at dksX9_add_0 9 rfl rfl)
theorem dX9_add_10 : decode cX9_add 10 = .ok (.getfield 16, 3) := dk_180 0 16 (dk_at dksX9_add_0 10 rfl rfl)
theorem dX9_add_13 : decode cX9_add 13 = .ok (.aload_n 2, 1) := dk_44 (dk_at dksX9_add_0 13 rfl rfl)
theorem dX9_add_14 : decode cX9_add 14 = .ok (.invokevirtual 23, 3) := dk_182 0 23 (dk_at dksX9_add_0 14 rfl rfl)
theorem dX9_add_17 : decode cX9_add 17 = .ok (.pop, 1) := dk_87 (dk_at dksX9_add_0 17 rfl rfl)
theorem dX9_add_18 : decode cX9_add 18 = .ok (.aload_n 1, 1) := dk_43 (dk_at dksX9_add_0 18 rfl rfl)
theorem dX9_add_19 : decode cX9_add 19 = .ok (.aload_n 2, 1) := dk_44 (dk_at dksX9_add_0 19 rfl rfl)
theorem dX9_add_20 : decode cX9_add 20 = .ok (.invokevirtual 27, 3) := dk_182 0 27 (dk_at dksX9_add_0 20 rfl rfl)
theorem dX9_add_23 : decode cX9_add 23 = .ok (.return_, 1) := dk_177 (dk_at dksX9_add_0 23 rfl rfl)
abbrev cX9_undo : ByteArray := prog_4_method_3_code
def yX9_undo : MethodName := ⟨RX9, "undo", "()V"⟩
def dkwX9_undo_1 : List UInt8 := [180, 0, 40, 42, 180, 0, 16, 27, 182, 0, 36, 182, 0, 41, 87, 132, 1, 1, 167, 255, 216, 177]
abbrev dktX9_undo_1 : List UInt8 := dkwX9_undo_1 ++ []
def dkwX9_undo_0 : List UInt8 := [3, 60, 27, 42, 180, 0, 10, 182, 0, 32, 162, 0, 35, 42, 180, 0, 10, 27, 182, 0, 36, 192, 0, 28]
abbrev dktX9_undo_0 : List UInt8 := dkwX9_undo_0 ++ dktX9_undo_1
theorem dksX9_undo_0 : cX9_undo.data.toList.drop 0 = dktX9_undo_0 := by decide +kernel
theorem dksX9_undo_1 : cX9_undo.data.toList.drop 24 = dktX9_undo_1 := dk_seg dksX9_undo_0 24 rfl rfl
theorem dX9_undo_0 : decode cX9_undo 0 = .ok (.iconst 0, 1) := dk_3 (dk_at dksX9_undo_0 0 rfl rfl)
theorem dX9_undo_1 : decode cX9_undo 1 = .ok (.istore_n 1, 1) := dk_60 (dk_at dksX9_undo_0 1 rfl rfl)
theorem dX9_undo_2 : decode cX9_undo 2 = .ok (.iload_n 1, 1) := dk_27 (dk_at dksX9_undo_0 2 rfl rfl)
theorem dX9_undo_3 : decode cX9_undo 3 = .ok (.aload_n 0, 1) := dk_42 (dk_at dksX9_undo_0 3 rfl rfl)
theorem dX9_undo_4 : decode cX9_undo 4 = .ok (.getfield 10, 3) := dk_180 0 10 (dk_at dksX9_undo_0 4 rfl rfl)
theorem dX9_undo_7 : decode cX9_undo 7 = .ok (.invokevirtual 32, 3) := dk_182 0 32 (dk_at dksX9_undo_0 7 rfl rfl)
theorem dX9_undo_10 : decode cX9_undo 10 = .ok (.if_icmp .ge 35, 3) := dk_162 0 35 (dk_at dksX9_undo_0 10 rfl rfl)
theorem dX9_undo_13 : decode cX9_undo 13 = .ok (.aload_n 0, 1) := dk_42 (dk_at dksX9_undo_0 13 rfl rfl)
theorem dX9_undo_14 : decode cX9_undo 14 = .ok (.getfield 10, 3) := dk_180 0 10 (dk_at dksX9_undo_0 14 rfl rfl)
theorem dX9_undo_17 : decode cX9_undo 17 = .ok (.iload_n 1, 1) := dk_27 (dk_at dksX9_undo_0 17 rfl rfl)
theorem dX9_undo_18 : decode cX9_undo 18 = .ok (.invokevirtual 36, 3) := dk_182 0 36 (dk_at dksX9_undo_0 18 rfl rfl)
theorem dX9_undo_21 : decode cX9_undo 21 = .ok (.checkcast 28, 3) := dk_192 0 28 (dk_at dksX9_undo_0 21 rfl rfl)
theorem dX9_undo_24 : decode cX9_undo 24 = .ok (.getfield 40, 3) := dk_180 0 40 (dk_at dksX9_undo_1 0 rfl rfl)
theorem dX9_undo_27 : decode cX9_undo 27 = .ok (.aload_n 0, 1) := dk_42 (dk_at dksX9_undo_1 3 rfl rfl)
theorem dX9_undo_28 : decode cX9_undo 28 = .ok (.getfield 16, 3) := dk_180 0 16 (dk_at dksX9_undo_1 4 rfl rfl)
theorem dX9_undo_31 : decode cX9_undo 31 = .ok (.iload_n 1, 1) := dk_27 (dk_at dksX9_undo_1 7 rfl rfl)
theorem dX9_undo_32 : decode cX9_undo 32 = .ok (.invokevirtual 36, 3) := dk_182 0 36 (dk_at dksX9_undo_1 8 rfl rfl)
theorem dX9_undo_35 : decode cX9_undo 35 = .ok (.invokevirtual 41, 3) := dk_182 0 41 (dk_at dksX9_undo_1 11 rfl rfl)
theorem dX9_undo_38 : decode cX9_undo 38 = .ok (.pop, 1) := dk_87 (dk_at dksX9_undo_1 14 rfl rfl)
theorem dX9_undo_39 : decode cX9_undo 39 = .ok (.iinc 1 1, 3) := dk_132 1 1 (dk_at dksX9_undo_1 15 rfl rfl)
theorem dX9_undo_42 : decode cX9_undo 42 = .ok (.goto (-40), 3) := dk_167 255 216 (dk_at dksX9_undo_1 18 rfl rfl)
theorem dX9_undo_45 : decode cX9_undo 45 = .ok (.return_, 1) := dk_177 (dk_at dksX9_undo_1 21 rfl rfl)
theorem q92 : (Jvm.Cond.initialized "TimberList$Cutting") ∈ lw_all := lw_g (lw_at lw_m1 46 rfl) rfl
theorem q922 : (Jvm.Cond.instantiable "TimberList$Cutting" (3 : Nat)) ∈ lw_all := lw_g (lw_at lw_m4 156 rfl) rfl
theorem q924 : (Jvm.Cond.instanceMethod ({ cls := "TimberList$Cutting", name := "<init>", desc := "(LTimberList$Part;)V" } : Jvm.MethodName)) ∈ lw_all := lw_g (lw_at lw_m4 158 rfl) rfl
theorem q925 : (Jvm.Cond.code ({ cls := "TimberList$Cutting", name := "<init>", desc := "(LTimberList$Part;)V" } : Jvm.MethodName) prog_4_method_1_code (2 : Nat) (Option.none : Option Jvm.ClassFile.FieldType)) ∈ lw_all := lw_g (lw_at lw_m4 159 rfl) rfl
theorem q926 : (Jvm.Cond.methodLink "TimberList$Cutting" (1 : Nat) ({ cls := "java/lang/Object", name := "<init>", desc := "()V" } : Jvm.MethodName)) ∈ lw_all := lw_g (lw_at lw_m4 160 rfl) rfl
theorem q927 : (Jvm.Cond.classLink "TimberList$Cutting" (7 : Nat) "java/util/ArrayList") ∈ lw_all := lw_g (lw_at lw_m4 161 rfl) rfl
theorem q928 : (Jvm.Cond.methodLink "TimberList$Cutting" (9 : Nat) ({ cls := "java/util/ArrayList", name := "<init>", desc := "()V" } : Jvm.MethodName)) ∈ lw_all := lw_g (lw_at lw_m4 162 rfl) rfl
theorem q929 : (Jvm.Cond.fieldLink "TimberList$Cutting" (19 : Nat) "TimberList$Cutting" "part" "LTimberList$Part;") ∈ lw_all := lw_g (lw_at lw_m4 163 rfl) rfl
theorem q931 : (Jvm.Cond.fieldLink "TimberList$Cutting" (10 : Nat) "TimberList$Cutting" "boards" "Ljava/util/ArrayList;") ∈ lw_all := lw_g (lw_at lw_m4 165 rfl) rfl
theorem q932 : (Jvm.Cond.fieldLink "TimberList$Cutting" (16 : Nat) "TimberList$Cutting" "pieces" "Ljava/util/ArrayList;") ∈ lw_all := lw_g (lw_at lw_m4 166 rfl) rfl
theorem q933 : (Jvm.Cond.laysFinal "TimberList$Cutting" "TimberList$Cutting" "part" "LTimberList$Part;") ∈ lw_all := lw_g (lw_at lw_m4 167 rfl) rfl
theorem q934 : (Jvm.Cond.soleField "TimberList$Cutting" "part") ∈ lw_all := lw_g (lw_at lw_m4 168 rfl) rfl
theorem q935 : (Jvm.Cond.laysFinal "TimberList$Cutting" "TimberList$Cutting" "boards" "Ljava/util/ArrayList;") ∈ lw_all := lw_g (lw_at lw_m4 169 rfl) rfl
theorem q936 : (Jvm.Cond.soleField "TimberList$Cutting" "boards") ∈ lw_all := lw_g (lw_at lw_m4 170 rfl) rfl
theorem q937 : (Jvm.Cond.laysFinal "TimberList$Cutting" "TimberList$Cutting" "pieces" "Ljava/util/ArrayList;") ∈ lw_all := lw_g (lw_at lw_m4 171 rfl) rfl
theorem q938 : (Jvm.Cond.soleField "TimberList$Cutting" "pieces") ∈ lw_all := lw_g (lw_at lw_m4 172 rfl) rfl
theorem q939 : (Jvm.Cond.superclass "TimberList$Cutting" "java/lang/Object") ∈ lw_all := lw_g (lw_at lw_m4 173 rfl) rfl
theorem q943 : (Jvm.Cond.instanceMethod ({ cls := "TimberList$Cutting", name := "add", desc := "(LTimberList$Board;LTimberList$Piece;)V" } : Jvm.MethodName)) ∈ lw_all := lw_g (lw_at lw_m4 177 rfl) rfl
theorem q944 : (Jvm.Cond.selects "TimberList$Cutting" ({ cls := "TimberList$Cutting", name := "add", desc := "(LTimberList$Board;LTimberList$Piece;)V" } : Jvm.MethodName) ({ cls := "TimberList$Cutting", name := "add", desc := "(LTimberList$Board;LTimberList$Piece;)V" } : Jvm.MethodName)) ∈ lw_all := lw_g (lw_at lw_m4 178 rfl) rfl
theorem q945 : (Jvm.Cond.code ({ cls := "TimberList$Cutting", name := "add", desc := "(LTimberList$Board;LTimberList$Piece;)V" } : Jvm.MethodName) prog_4_method_2_code (3 : Nat) (Option.none : Option Jvm.ClassFile.FieldType)) ∈ lw_all := lw_g (lw_at lw_m4 179 rfl) rfl
theorem q946 : (Jvm.Cond.methodLink "TimberList$Cutting" (23 : Nat) ({ cls := "java/util/ArrayList", name := "add", desc := "(Ljava/lang/Object;)Z" } : Jvm.MethodName)) ∈ lw_all := lw_g (lw_at lw_m4 180 rfl) rfl
theorem q979 : (Jvm.Cond.selects "TimberList$Cutting" ({ cls := "java/lang/Object", name := "getClass", desc := "()Ljava/lang/Class;" } : Jvm.MethodName) ({ cls := "java/lang/Object", name := "getClass", desc := "()Ljava/lang/Class;" } : Jvm.MethodName)) ∈ lw_all := lw_g (lw_at lw_m4 213 rfl) rfl
theorem q1016 : (Jvm.Cond.methodLink "TimberList$Cutting" (27 : Nat) ({ cls := "TimberList$Board", name := "add", desc := "(LTimberList$Piece;)V" } : Jvm.MethodName)) ∈ lw_all := lw_g (lw_at lw_m5 10 rfl) rfl
theorem q1380 : (Jvm.Cond.fieldLink "TimberList$Cutting" (40 : Nat) "TimberList$Board" "pieces" "Ljava/util/ArrayList;") ∈ lw_all := lw_g (lw_at lw_m6 134 rfl) rfl
theorem q1625 : (Jvm.Cond.instanceMethod ({ cls := "TimberList$Cutting", name := "undo", desc := "()V" } : Jvm.MethodName)) ∈ lw_all := lw_g (lw_at lw_m7 139 rfl) rfl
theorem q1626 : (Jvm.Cond.selects "TimberList$Cutting" ({ cls := "TimberList$Cutting", name := "undo", desc := "()V" } : Jvm.MethodName) ({ cls := "TimberList$Cutting", name := "undo", desc := "()V" } : Jvm.MethodName)) ∈ lw_all := lw_g (lw_at lw_m7 140 rfl) rfl
theorem q1627 : (Jvm.Cond.code ({ cls := "TimberList$Cutting", name := "undo", desc := "()V" } : Jvm.MethodName) prog_4_method_3_code (2 : Nat) (Option.none : Option Jvm.ClassFile.FieldType)) ∈ lw_all := lw_g (lw_at lw_m7 141 rfl) rfl
theorem q1628 : (Jvm.Cond.methodLink "TimberList$Cutting" (32 : Nat) ({ cls := "java/util/ArrayList", name := "size", desc := "()I" } : Jvm.MethodName)) ∈ lw_all := lw_g (lw_at lw_m7 142 rfl) rfl
theorem q1629 : (Jvm.Cond.methodLink "TimberList$Cutting" (36 : Nat) ({ cls := "java/util/ArrayList", name := "get", desc := "(I)Ljava/lang/Object;" } : Jvm.MethodName)) ∈ lw_all := lw_g (lw_at lw_m7 143 rfl) rfl
theorem q1630 : (Jvm.Cond.classLink "TimberList$Cutting" (28 : Nat) "TimberList$Board") ∈ lw_all := lw_g (lw_at lw_m7 144 rfl) rfl
theorem q1631 : (Jvm.Cond.methodLink "TimberList$Cutting" (41 : Nat) ({ cls := "java/util/ArrayList", name := "remove", desc := "(Ljava/lang/Object;)Z" } : Jvm.MethodName)) ∈ lw_all := lw_g (lw_at lw_m7 145 rfl) rfl
theorem q1642 : (Jvm.Cond.selects "TimberList$Cutting" ({ cls := "java/lang/Object", name := "equals", desc := "(Ljava/lang/Object;)Z" } : Jvm.MethodName) ({ cls := "java/lang/Object", name := "equals", desc := "(Ljava/lang/Object;)Z" } : Jvm.MethodName)) ∈ lw_all := lw_g (lw_at lw_m7 156 rfl) rfl
theorem q2011 : (Jvm.Cond.castable "TimberList$Cutting" "java/lang/Object") ∈ lw_tbl := lw_at lw_m9 45 rfl
theorem in_X9 : ∀ w ∈ wsX90, w ∈ lw_all := lw_in wsX90 [933, 935, 937] (by decide +kernel) (by decide +kernel)

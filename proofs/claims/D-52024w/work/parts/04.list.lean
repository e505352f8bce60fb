/-! TimberList -/
set_option maxRecDepth 100000
def RX1 : String := "TimberList"
def TX1 : u_T := fun k => match k with
  | 0 => ("TimberList", "boards", "Ljava/util/ArrayList;", true)
  | 1 => ("TimberList", "parts", "Ljava/util/ArrayList;", true)
  | 2 => ("TimberList", "cuttings", "Ljava/util/LinkedList;", true)
  | 3 => ("TimberList", "defects", "I", false)
  | 4 => ("TimberList", "saw", "I", false)
  | _ => ("TimberList", "joint", "I", false)
def tyX1 : Nat → FieldType := fun k => match k with
  | 0 => .object "java/util/ArrayList"
  | 1 => .object "java/util/ArrayList"
  | 2 => .object "java/util/LinkedList"
  | 3 => .int
  | 4 => .int
  | _ => .int
abbrev wsX10 : List Cond := u_ws RX1 TX1 6
theorem nmX1 : ∀ a, a < 6 → ∀ b, b < 6 → a ≠ b → (TX1 a).2.1 ≠ (TX1 b).2.1 := by decide +kernel
theorem tyX1_ok : ∀ k, k < 6 → parseFieldDescriptor (TX1 k).2.2.1 = some (tyX1 k) := by decide +kernel
abbrev cX1_init : ByteArray := prog_1_method_5_code
def yX1_init : MethodName := ⟨RX1, "<init>", "()V"⟩
def dkwX1_init_2 : List UInt8 := [181, 0, 43, 177]
abbrev dktX1_init_2 : List UInt8 := dkwX1_init_2 ++ []
def dkwX1_init_1 : List UInt8 := [181, 0, 29, 42, 187, 0, 32, 89, 183, 0, 34, 181, 0, 35, 42, 6, 181, 0, 39, 42, 16, 10]
abbrev dktX1_init_1 : List UInt8 := dkwX1_init_1 ++ dktX1_init_2
def dkwX1_init_0 : List UInt8 := [42, 183, 0, 19, 42, 187, 0, 22, 89, 183, 0, 24, 181, 0, 25, 42, 187, 0, 22, 89, 183, 0, 24]
abbrev dktX1_init_0 : List UInt8 := dkwX1_init_0 ++ dktX1_init_1
theorem dksX1_init_0 : cX1_init.data.toList.drop 0 = dktX1_init_0 := by decide +kernel
theorem dksX1_init_1 : cX1_init.data.toList.drop 23 = dktX1_init_1 := dk_seg dksX1_init_0 23 rfl rfl
theorem dksX1_init_2 : cX1_init.data.toList.drop 45 = dktX1_init_2 := dk_seg dksX1_init_1 22 rfl rfl
theorem dX1_init_0 : decode cX1_init 0 = .ok (.aload_n 0, 1) := dk_42 (dk_at dksX1_init_0 0 rfl rfl)
theorem dX1_init_1 : decode cX1_init 1 = .ok (.invokespecial 19, 3) := dk_183 0 19 (dk_at dksX1_init_0 1 rfl rfl)
theorem dX1_init_4 : decode cX1_init 4 = .ok (.aload_n 0, 1) := dk_42 (dk_at dksX1_init_0 4 rfl rfl)
theorem dX1_init_5 : decode cX1_init 5 = .ok (.new 22, 3) := dk_187 0 22 (dk_at dksX1_init_0 5 rfl rfl)
theorem dX1_init_8 : decode cX1_init 8 = .ok (.dup, 1) := dk_89 (dk_at dksX1_init_0 8 rfl rfl)
theorem dX1_init_9 : decode cX1_init 9 = .ok (.invokespecial 24, 3) := dk_183 0 24 (dk_at dksX1_init_0 9 rfl rfl)
theorem dX1_init_12 : decode cX1_init 12 = .ok (.putfield 25, 3) := dk_181 0 25 (dk_at dksX1_init_0 12 rfl rfl)
theorem dX1_init_15 : decode cX1_init 15 = .ok (.aload_n 0, 1) := dk_42 (dk_at dksX1_init_0 15 rfl rfl)
theorem dX1_init_16 : decode cX1_init 16 = .ok (.new 22, 3) := dk_187 0 22 (dk_at dksX1_init_0 16 rfl rfl)
theorem dX1_init_19 : decode cX1_init 19 = .ok (.dup, 1) := dk_89 (dk_at dksX1_init_0 19 rfl rfl)
theorem dX1_init_20 : decode cX1_init 20 = .ok (.invokespecial 24, 3) := dk_183 0 24 (dk_at dksX1_init_0 20 rfl rfl)
theorem dX1_init_23 : decode cX1_init 23 = .ok (.putfield 29, 3) := dk_181 0 29 (dk_at dksX1_init_1 0 rfl rfl)
theorem dX1_init_26 : decode cX1_init 26 = .ok (.aload_n 0, 1) := dk_42 (dk_at dksX1_init_1 3 rfl rfl)
theorem dX1_init_27 : decode cX1_init 27 = .ok (.new 32, 3) := dk_187 0 32 (dk_at dksX1_init_1 4 rfl rfl)
theorem dX1_init_30 : decode cX1_init 30 = .ok (.dup, 1) := dk_89 (dk_at dksX1_init_1 7 rfl rfl)
theorem dX1_init_31 : decode cX1_init 31 = .ok (.invokespecial 34, 3) := dk_183 0 34 (dk_at dksX1_init_1 8 rfl rfl)
theorem dX1_init_34 : decode cX1_init 34 = .ok (.putfield 35, 3) := dk_181 0 35 (dk_at dksX1_init_1 11 rfl rfl)
theorem dX1_init_37 : decode cX1_init 37 = .ok (.aload_n 0, 1) := dk_42 (dk_at dksX1_init_1 14 rfl rfl)
theorem dX1_init_38 : decode cX1_init 38 = .ok (.iconst 3, 1) := dk_6 (dk_at dksX1_init_1 15 rfl rfl)
theorem dX1_init_39 : decode cX1_init 39 = .ok (.putfield 39, 3) := dk_181 0 39 (dk_at dksX1_init_1 16 rfl rfl)
theorem dX1_init_42 : decode cX1_init 42 = .ok (.aload_n 0, 1) := dk_42 (dk_at dksX1_init_1 19 rfl rfl)
theorem dX1_init_43 : decode cX1_init 43 = .ok (.bipush 10, 2) := dk_16 10 (dk_at dksX1_init_1 20 rfl rfl)
theorem dX1_init_45 : decode cX1_init 45 = .ok (.putfield 43, 3) := dk_181 0 43 (dk_at dksX1_init_2 0 rfl rfl)
theorem dX1_init_48 : decode cX1_init 48 = .ok (.return_, 1) := dk_177 (dk_at dksX1_init_2 3 rfl rfl)
abbrev cX1_plan : ByteArray := prog_1_method_26_code
def yX1_plan : MethodName := ⟨RX1, "plan", "()I"⟩
def dkwX1_plan_1 : List UInt8 := [180, 0, 39, 182, 0, 155, 182, 0, 171, 132, 1, 1, 42, 182, 0, 207, 77, 167, 255, 223, 27, 172]
abbrev dktX1_plan_1 : List UInt8 := dkwX1_plan_1 ++ []
def dkwX1_plan_0 : List UInt8 := [3, 60, 42, 182, 0, 207, 77, 44, 198, 0, 35, 42, 44, 182, 0, 203, 78, 42, 44, 45, 45, 44, 42]
abbrev dktX1_plan_0 : List UInt8 := dkwX1_plan_0 ++ dktX1_plan_1
theorem dksX1_plan_0 : cX1_plan.data.toList.drop 0 = dktX1_plan_0 := by decide +kernel
theorem dksX1_plan_1 : cX1_plan.data.toList.drop 23 = dktX1_plan_1 := dk_seg dksX1_plan_0 23 rfl rfl
theorem dX1_plan_0 : decode cX1_plan 0 = .ok (.iconst 0, 1) := dk_3 (dk_at dksX1_plan_0 0 rfl rfl)
theorem dX1_plan_1 : decode cX1_plan 1 = .ok (.istore_n 1, 1) := dk_60 (dk_at dksX1_plan_0 1 rfl rfl)
theorem dX1_plan_2 : decode cX1_plan 2 = .ok (.aload_n 0, 1) := dk_42 (dk_at dksX1_plan_0 2 rfl rfl)
theorem dX1_plan_3 : decode cX1_plan 3 = .ok (.invokevirtual 207, 3) := dk_182 0 207 (dk_at dksX1_plan_0 3 rfl rfl)
theorem dX1_plan_6 : decode cX1_plan 6 = .ok (.astore_n 2, 1) := dk_77 (dk_at dksX1_plan_0 6 rfl rfl)
theorem dX1_plan_7 : decode cX1_plan 7 = .ok (.aload_n 2, 1) := dk_44 (dk_at dksX1_plan_0 7 rfl rfl)
theorem dX1_plan_8 : decode cX1_plan 8 = .ok (.ifnull 35, 3) := dk_198 0 35 (dk_at dksX1_plan_0 8 rfl rfl)
theorem dX1_plan_11 : decode cX1_plan 11 = .ok (.aload_n 0, 1) := dk_42 (dk_at dksX1_plan_0 11 rfl rfl)
theorem dX1_plan_12 : decode cX1_plan 12 = .ok (.aload_n 2, 1) := dk_44 (dk_at dksX1_plan_0 12 rfl rfl)
theorem dX1_plan_13 : decode cX1_plan 13 = .ok (.invokevirtual 203, 3) := dk_182 0 203 (dk_at dksX1_plan_0 13 rfl rfl)
theorem dX1_plan_16 : decode cX1_plan 16 = .ok (.astore_n 3, 1) := dk_78 (dk_at dksX1_plan_0 16 rfl rfl)
theorem dX1_plan_17 : decode cX1_plan 17 = .ok (.aload_n 0, 1) := dk_42 (dk_at dksX1_plan_0 17 rfl rfl)
theorem dX1_plan_18 : decode cX1_plan 18 = .ok (.aload_n 2, 1) := dk_44 (dk_at dksX1_plan_0 18 rfl rfl)
theorem dX1_plan_19 : decode cX1_plan 19 = .ok (.aload_n 3, 1) := dk_45 (dk_at dksX1_plan_0 19 rfl rfl)
theorem dX1_plan_20 : decode cX1_plan 20 = .ok (.aload_n 3, 1) := dk_45 (dk_at dksX1_plan_0 20 rfl rfl)
theorem dX1_plan_21 : decode cX1_plan 21 = .ok (.aload_n 2, 1) := dk_44 (dk_at dksX1_plan_0 21 rfl rfl)
theorem dX1_plan_22 : decode cX1_plan 22 = .ok (.aload_n 0, 1) := dk_42 (dk_at dksX1_plan_0 22 rfl rfl)
theorem dX1_plan_23 : decode cX1_plan 23 = .ok (.getfield 39, 3) := dk_180 0 39 (dk_at dksX1_plan_1 0 rfl rfl)
theorem dX1_plan_26 : decode cX1_plan 26 = .ok (.invokevirtual 155, 3) := dk_182 0 155 (dk_at dksX1_plan_1 3 rfl rfl)
theorem dX1_plan_29 : decode cX1_plan 29 = .ok (.invokevirtual 171, 3) := dk_182 0 171 (dk_at dksX1_plan_1 6 rfl rfl)
theorem dX1_plan_32 : decode cX1_plan 32 = .ok (.iinc 1 1, 3) := dk_132 1 1 (dk_at dksX1_plan_1 9 rfl rfl)
theorem dX1_plan_35 : decode cX1_plan 35 = .ok (.aload_n 0, 1) := dk_42 (dk_at dksX1_plan_1 12 rfl rfl)
theorem dX1_plan_36 : decode cX1_plan 36 = .ok (.invokevirtual 207, 3) := dk_182 0 207 (dk_at dksX1_plan_1 13 rfl rfl)
theorem dX1_plan_39 : decode cX1_plan 39 = .ok (.astore_n 2, 1) := dk_77 (dk_at dksX1_plan_1 16 rfl rfl)
theorem dX1_plan_40 : decode cX1_plan 40 = .ok (.goto (-33), 3) := dk_167 255 223 (dk_at dksX1_plan_1 17 rfl rfl)
theorem dX1_plan_43 : decode cX1_plan 43 = .ok (.iload_n 1, 1) := dk_27 (dk_at dksX1_plan_1 20 rfl rfl)
theorem dX1_plan_44 : decode cX1_plan 44 = .ok (.ireturn, 1) := dk_172 (dk_at dksX1_plan_1 21 rfl rfl)
abbrev cX1_next : ByteArray := prog_1_method_25_code
def yX1_next : MethodName := ⟨RX1, "next", "()LTimberList$Part;"⟩
def dkwX1_next_2 : List UInt8 := [182, 0, 199, 153, 0, 13, 42, 45, 182, 0, 203, 198, 0, 5, 45, 76, 167, 255, 208, 43, 176]
abbrev dktX1_next_2 : List UInt8 := dkwX1_next_2 ++ []
def dkwX1_next_1 : List UInt8 := [185, 0, 105, 1, 0, 192, 0, 60, 78, 45, 180, 0, 168, 158, 0, 25, 43, 198, 0, 11, 45, 43]
abbrev dktX1_next_1 : List UInt8 := dkwX1_next_1 ++ dktX1_next_2
def dkwX1_next_0 : List UInt8 := [1, 76, 42, 180, 0, 29, 182, 0, 95, 77, 44, 185, 0, 99, 1, 0, 153, 0, 45, 44]
abbrev dktX1_next_0 : List UInt8 := dkwX1_next_0 ++ dktX1_next_1
theorem dksX1_next_0 : cX1_next.data.toList.drop 0 = dktX1_next_0 := by decide +kernel
theorem dksX1_next_1 : cX1_next.data.toList.drop 20 = dktX1_next_1 := dk_seg dksX1_next_0 20 rfl rfl
theorem dksX1_next_2 : cX1_next.data.toList.drop 42 = dktX1_next_2 := dk_seg dksX1_next_1 22 rfl rfl
theorem dX1_next_0 : decode cX1_next 0 = .ok (.aconst_null, 1) := dk_1 (dk_at dksX1_next_0 0 rfl rfl)
theorem dX1_next_1 : decode cX1_next 1 = .ok (.astore_n 1, 1) := dk_76 (dk_at dksX1_next_0 1 rfl rfl)
theorem dX1_next_2 : decode cX1_next 2 = .ok (.aload_n 0, 1) := dk_42 (dk_at dksX1_next_0 2 rfl rfl)
theorem dX1_next_3 : decode cX1_next 3 = .ok (.getfield 29, 3) := dk_180 0 29 (dk_at dksX1_next_0 3 rfl rfl)
theorem dX1_next_6 : decode cX1_next 6 = .ok (.invokevirtual 95, 3) := dk_182 0 95 (dk_at dksX1_next_0 6 rfl rfl)
theorem dX1_next_9 : decode cX1_next 9 = .ok (.astore_n 2, 1) := dk_77 (dk_at dksX1_next_0 9 rfl rfl)
theorem dX1_next_10 : decode cX1_next 10 = .ok (.aload_n 2, 1) := dk_44 (dk_at dksX1_next_0 10 rfl rfl)
theorem dX1_next_11 : decode cX1_next 11 = .ok (.invokeinterface 99 1, 5) := by decide +kernel
theorem dX1_next_16 : decode cX1_next 16 = .ok (.ifCond .eq 45, 3) := dk_153 0 45 (dk_at dksX1_next_0 16 rfl rfl)
theorem dX1_next_19 : decode cX1_next 19 = .ok (.aload_n 2, 1) := dk_44 (dk_at dksX1_next_0 19 rfl rfl)
theorem dX1_next_20 : decode cX1_next 20 = .ok (.invokeinterface 105 1, 5) := by decide +kernel
theorem dX1_next_25 : decode cX1_next 25 = .ok (.checkcast 60, 3) := dk_192 0 60 (dk_at dksX1_next_1 5 rfl rfl)
theorem dX1_next_28 : decode cX1_next 28 = .ok (.astore_n 3, 1) := dk_78 (dk_at dksX1_next_1 8 rfl rfl)
theorem dX1_next_29 : decode cX1_next 29 = .ok (.aload_n 3, 1) := dk_45 (dk_at dksX1_next_1 9 rfl rfl)
theorem dX1_next_30 : decode cX1_next 30 = .ok (.getfield 168, 3) := dk_180 0 168 (dk_at dksX1_next_1 10 rfl rfl)
theorem dX1_next_33 : decode cX1_next 33 = .ok (.ifCond .le 25, 3) := dk_158 0 25 (dk_at dksX1_next_1 13 rfl rfl)
theorem dX1_next_36 : decode cX1_next 36 = .ok (.aload_n 1, 1) := dk_43 (dk_at dksX1_next_1 16 rfl rfl)
theorem dX1_next_37 : decode cX1_next 37 = .ok (.ifnull 11, 3) := dk_198 0 11 (dk_at dksX1_next_1 17 rfl rfl)
theorem dX1_next_40 : decode cX1_next 40 = .ok (.aload_n 3, 1) := dk_45 (dk_at dksX1_next_1 20 rfl rfl)
theorem dX1_next_41 : decode cX1_next 41 = .ok (.aload_n 1, 1) := dk_43 (dk_at dksX1_next_1 21 rfl rfl)
theorem dX1_next_42 : decode cX1_next 42 = .ok (.invokevirtual 199, 3) := dk_182 0 199 (dk_at dksX1_next_2 0 rfl rfl)
theorem dX1_next_45 : decode cX1_next 45 = .ok (.ifCond .eq 13, 3) := dk_153 0 13 (dk_at dksX1_next_2 3 rfl rfl)
theorem dX1_next_48 : decode cX1_next 48 = .ok (.aload_n 0, 1) := dk_42 (dk_at dksX1_next_2 6 rfl rfl)
theorem dX1_next_49 : decode cX1_next 49 = .ok (.aload_n 3, 1) := dk_45 (dk_at dksX1_next_2 7 rfl rfl)
theorem dX1_next_50 : decode cX1_next 50 = .ok (.invokevirtual 203, 3) := dk_182 0 203 (dk_at dksX1_next_2 8 rfl rfl)
theorem dX1_next_53 : decode cX1_next 53 = .ok (.ifnull 5, 3) := dk_198 0 5 (dk_at dksX1_next_2 11 rfl rfl)
theorem dX1_next_56 : decode cX1_next 56 = .ok (.aload_n 3, 1) := dk_45 (dk_at dksX1_next_2 14 rfl rfl)
theorem dX1_next_57 : decode cX1_next 57 = .ok (.astore_n 1, 1) := dk_76 (dk_at dksX1_next_2 15 rfl rfl)
theorem dX1_next_58 : decode cX1_next 58 = .ok (.goto (-48), 3) := dk_167 255 208 (dk_at dksX1_next_2 16 rfl rfl)
theorem dX1_next_61 : decode cX1_next 61 = .ok (.aload_n 1, 1) := dk_43 (dk_at dksX1_next_2 19 rfl rfl)
theorem dX1_next_62 : decode cX1_next 62 = .ok (.areturn, 1) := dk_176 (dk_at dksX1_next_2 20 rfl rfl)
abbrev cX1_chosen : ByteArray := prog_1_method_24_code
def yX1_chosen : MethodName := ⟨RX1, "chosen", "(LTimberList$Part;)LTimberList$Board;"⟩
def dkwX1_chosen_4 : List UInt8 := [167, 255, 176, 44, 176]
abbrev dktX1_chosen_4 : List UInt8 := dkwX1_chosen_4 ++ []
def dkwX1_chosen_3 : List UInt8 := [100, 54, 7, 44, 198, 0, 12, 21, 7, 29, 161, 0, 6, 167, 255, 185, 25, 5, 77, 21, 7, 62]
abbrev dktX1_chosen_3 : List UInt8 := dkwX1_chosen_3 ++ dktX1_chosen_4
def dkwX1_chosen_2 : List UInt8 := [21, 6, 2, 160, 0, 6, 167, 255, 216, 25, 5, 21, 6, 42, 180, 0, 39, 182, 0, 195, 43, 180, 0, 139]
abbrev dktX1_chosen_2 : List UInt8 := dkwX1_chosen_2 ++ dktX1_chosen_3
def dkwX1_chosen_1 : List UInt8 := [25, 4, 185, 0, 105, 1, 0, 192, 0, 58, 58, 5, 25, 5, 43, 42, 180, 0, 39, 182, 0, 155, 54, 6]
abbrev dktX1_chosen_1 : List UInt8 := dkwX1_chosen_1 ++ dktX1_chosen_2
def dkwX1_chosen_0 : List UInt8 := [1, 77, 3, 62, 42, 180, 0, 25, 182, 0, 95, 58, 4, 25, 4, 185, 0, 99, 1, 0, 153, 0, 76]
abbrev dktX1_chosen_0 : List UInt8 := dkwX1_chosen_0 ++ dktX1_chosen_1
theorem dksX1_chosen_0 : cX1_chosen.data.toList.drop 0 = dktX1_chosen_0 := by decide +kernel
theorem dksX1_chosen_1 : cX1_chosen.data.toList.drop 23 = dktX1_chosen_1 := dk_seg dksX1_chosen_0 23 rfl rfl
theorem dksX1_chosen_2 : cX1_chosen.data.toList.drop 47 = dktX1_chosen_2 := dk_seg dksX1_chosen_1 24 rfl rfl
theorem dksX1_chosen_3 : cX1_chosen.data.toList.drop 71 = dktX1_chosen_3 := dk_seg dksX1_chosen_2 24 rfl rfl
theorem dksX1_chosen_4 : cX1_chosen.data.toList.drop 93 = dktX1_chosen_4 := dk_seg dksX1_chosen_3 22 rfl rfl
theorem dX1_chosen_0 : decode cX1_chosen 0 = .ok (.aconst_null, 1) := dk_1 (dk_at dksX1_chosen_0 0 rfl rfl)
theorem dX1_chosen_1 : decode cX1_chosen 1 = .ok (.astore_n 2, 1) := dk_77 (dk_at dksX1_chosen_0 1 rfl rfl)
theorem dX1_chosen_2 : decode cX1_chosen 2 = .ok (.iconst 0, 1) := dk_3 (dk_at dksX1_chosen_0 2 rfl rfl)
theorem dX1_chosen_3 : decode cX1_chosen 3 = .ok (.istore_n 3, 1) := dk_62 (dk_at dksX1_chosen_0 3 rfl rfl)
theorem dX1_chosen_4 : decode cX1_chosen 4 = .ok (.aload_n 0, 1) := dk_42 (dk_at dksX1_chosen_0 4 rfl rfl)
theorem dX1_chosen_5 : decode cX1_chosen 5 = .ok (.getfield 25, 3) := dk_180 0 25 (dk_at dksX1_chosen_0 5 rfl rfl)
theorem dX1_chosen_8 : decode cX1_chosen 8 = .ok (.invokevirtual 95, 3) := dk_182 0 95 (dk_at dksX1_chosen_0 8 rfl rfl)
theorem dX1_chosen_11 : decode cX1_chosen 11 = .ok (.astore 4, 2) := dk_58 4 (dk_at dksX1_chosen_0 11 rfl rfl)
theorem dX1_chosen_13 : decode cX1_chosen 13 = .ok (.aload 4, 2) := dk_25 4 (dk_at dksX1_chosen_0 13 rfl rfl)
theorem dX1_chosen_15 : decode cX1_chosen 15 = .ok (.invokeinterface 99 1, 5) := by decide +kernel
theorem dX1_chosen_20 : decode cX1_chosen 20 = .ok (.ifCond .eq 76, 3) := dk_153 0 76 (dk_at dksX1_chosen_0 20 rfl rfl)
theorem dX1_chosen_23 : decode cX1_chosen 23 = .ok (.aload 4, 2) := dk_25 4 (dk_at dksX1_chosen_1 0 rfl rfl)
theorem dX1_chosen_25 : decode cX1_chosen 25 = .ok (.invokeinterface 105 1, 5) := by decide +kernel
theorem dX1_chosen_30 : decode cX1_chosen 30 = .ok (.checkcast 58, 3) := dk_192 0 58 (dk_at dksX1_chosen_1 7 rfl rfl)
theorem dX1_chosen_33 : decode cX1_chosen 33 = .ok (.astore 5, 2) := dk_58 5 (dk_at dksX1_chosen_1 10 rfl rfl)
theorem dX1_chosen_35 : decode cX1_chosen 35 = .ok (.aload 5, 2) := dk_25 5 (dk_at dksX1_chosen_1 12 rfl rfl)
theorem dX1_chosen_37 : decode cX1_chosen 37 = .ok (.aload_n 1, 1) := dk_43 (dk_at dksX1_chosen_1 14 rfl rfl)
theorem dX1_chosen_38 : decode cX1_chosen 38 = .ok (.aload_n 0, 1) := dk_42 (dk_at dksX1_chosen_1 15 rfl rfl)
theorem dX1_chosen_39 : decode cX1_chosen 39 = .ok (.getfield 39, 3) := dk_180 0 39 (dk_at dksX1_chosen_1 16 rfl rfl)
theorem dX1_chosen_42 : decode cX1_chosen 42 = .ok (.invokevirtual 155, 3) := dk_182 0 155 (dk_at dksX1_chosen_1 19 rfl rfl)
theorem dX1_chosen_45 : decode cX1_chosen 45 = .ok (.istore 6, 2) := dk_54 6 (dk_at dksX1_chosen_1 22 rfl rfl)
theorem dX1_chosen_47 : decode cX1_chosen 47 = .ok (.iload 6, 2) := dk_21 6 (dk_at dksX1_chosen_2 0 rfl rfl)
theorem dX1_chosen_49 : decode cX1_chosen 49 = .ok (.iconst (-1), 1) := dk_2 (dk_at dksX1_chosen_2 2 rfl rfl)
theorem dX1_chosen_50 : decode cX1_chosen 50 = .ok (.if_icmp .ne 6, 3) := dk_160 0 6 (dk_at dksX1_chosen_2 3 rfl rfl)
theorem dX1_chosen_53 : decode cX1_chosen 53 = .ok (.goto (-40), 3) := dk_167 255 216 (dk_at dksX1_chosen_2 6 rfl rfl)
theorem dX1_chosen_56 : decode cX1_chosen 56 = .ok (.aload 5, 2) := dk_25 5 (dk_at dksX1_chosen_2 9 rfl rfl)
theorem dX1_chosen_58 : decode cX1_chosen 58 = .ok (.iload 6, 2) := dk_21 6 (dk_at dksX1_chosen_2 11 rfl rfl)
theorem dX1_chosen_60 : decode cX1_chosen 60 = .ok (.aload_n 0, 1) := dk_42 (dk_at dksX1_chosen_2 13 rfl rfl)
theorem dX1_chosen_61 : decode cX1_chosen 61 = .ok (.getfield 39, 3) := dk_180 0 39 (dk_at dksX1_chosen_2 14 rfl rfl)
theorem dX1_chosen_64 : decode cX1_chosen 64 = .ok (.invokevirtual 195, 3) := dk_182 0 195 (dk_at dksX1_chosen_2 17 rfl rfl)
theorem dX1_chosen_67 : decode cX1_chosen 67 = .ok (.aload_n 1, 1) := dk_43 (dk_at dksX1_chosen_2 20 rfl rfl)
theorem dX1_chosen_68 : decode cX1_chosen 68 = .ok (.getfield 139, 3) := dk_180 0 139 (dk_at dksX1_chosen_2 21 rfl rfl)
theorem dX1_chosen_71 : decode cX1_chosen 71 = .ok (.isub, 1) := dk_100 (dk_at dksX1_chosen_3 0 rfl rfl)
theorem dX1_chosen_72 : decode cX1_chosen 72 = .ok (.istore 7, 2) := dk_54 7 (dk_at dksX1_chosen_3 1 rfl rfl)
theorem dX1_chosen_74 : decode cX1_chosen 74 = .ok (.aload_n 2, 1) := dk_44 (dk_at dksX1_chosen_3 3 rfl rfl)
theorem dX1_chosen_75 : decode cX1_chosen 75 = .ok (.ifnull 12, 3) := dk_198 0 12 (dk_at dksX1_chosen_3 4 rfl rfl)
theorem dX1_chosen_78 : decode cX1_chosen 78 = .ok (.iload 7, 2) := dk_21 7 (dk_at dksX1_chosen_3 7 rfl rfl)
theorem dX1_chosen_80 : decode cX1_chosen 80 = .ok (.iload_n 3, 1) := dk_29 (dk_at dksX1_chosen_3 9 rfl rfl)
theorem dX1_chosen_81 : decode cX1_chosen 81 = .ok (.if_icmp .lt 6, 3) := dk_161 0 6 (dk_at dksX1_chosen_3 10 rfl rfl)
theorem dX1_chosen_84 : decode cX1_chosen 84 = .ok (.goto (-71), 3) := dk_167 255 185 (dk_at dksX1_chosen_3 13 rfl rfl)
theorem dX1_chosen_87 : decode cX1_chosen 87 = .ok (.aload 5, 2) := dk_25 5 (dk_at dksX1_chosen_3 16 rfl rfl)
theorem dX1_chosen_89 : decode cX1_chosen 89 = .ok (.astore_n 2, 1) := dk_77 (dk_at dksX1_chosen_3 18 rfl rfl)
theorem dX1_chosen_90 : decode cX1_chosen 90 = .ok (.iload 7, 2) := dk_21 7 (dk_at dksX1_chosen_3 19 rfl rfl)
theorem dX1_chosen_92 : decode cX1_chosen 92 = .ok (.istore_n 3, 1) := dk_62 (dk_at dksX1_chosen_3 21 rfl rfl)
theorem dX1_chosen_93 : decode cX1_chosen 93 = .ok (.goto (-80), 3) := dk_167 255 176 (dk_at dksX1_chosen_4 0 rfl rfl)
theorem dX1_chosen_96 : decode cX1_chosen 96 = .ok (.aload_n 2, 1) := dk_44 (dk_at dksX1_chosen_4 3 rfl rfl)
theorem dX1_chosen_97 : decode cX1_chosen 97 = .ok (.areturn, 1) := dk_176 (dk_at dksX1_chosen_4 4 rfl rfl)
abbrev cX1_cutOne : ByteArray := prog_1_method_20_code
def yX1_cutOne : MethodName := ⟨RX1, "cutOne", "(LTimberList$Part;LTimberList$Board;I)V"⟩
def dkwX1_cutOne_2 : List UInt8 := [181, 0, 168, 177]
abbrev dktX1_cutOne_2 : List UInt8 := dkwX1_cutOne_2 ++ []
def dkwX1_cutOne_1 : List UInt8 := [183, 0, 140, 182, 0, 164, 42, 180, 0, 35, 25, 4, 182, 0, 167, 87, 43, 89, 180, 0, 168, 4, 100]
abbrev dktX1_cutOne_1 : List UInt8 := dkwX1_cutOne_1 ++ dktX1_cutOne_2
def dkwX1_cutOne_0 : List UInt8 := [187, 0, 159, 89, 43, 183, 0, 161, 58, 4, 25, 4, 44, 187, 0, 109, 89, 43, 29, 43, 180, 0, 139, 3]
abbrev dktX1_cutOne_0 : List UInt8 := dkwX1_cutOne_0 ++ dktX1_cutOne_1
theorem dksX1_cutOne_0 : cX1_cutOne.data.toList.drop 0 = dktX1_cutOne_0 := by decide +kernel
theorem dksX1_cutOne_1 : cX1_cutOne.data.toList.drop 24 = dktX1_cutOne_1 := dk_seg dksX1_cutOne_0 24 rfl rfl
theorem dksX1_cutOne_2 : cX1_cutOne.data.toList.drop 47 = dktX1_cutOne_2 := dk_seg dksX1_cutOne_1 23 rfl rfl
theorem dX1_cutOne_0 : decode cX1_cutOne 0 = .ok (.new 159, 3) := dk_187 0 159 (dk_at dksX1_cutOne_0 0 rfl rfl)
theorem dX1_cutOne_3 : decode cX1_cutOne 3 = .ok (.dup, 1) := dk_89 (dk_at dksX1_cutOne_0 3 rfl rfl)
theorem dX1_cutOne_4 : decode cX1_cutOne 4 = .ok (.aload_n 1, 1) := dk_43 (dk_at dksX1_cutOne_0 4 rfl rfl)
theorem dX1_cutOne_5 : decode cX1_cutOne 5 = .ok (.invokespecial 161, 3) := dk_183 0 161 (dk_at dksX1_cutOne_0 5 rfl rfl)
theorem dX1_cutOne_8 : decode cX1_cutOne 8 = .ok (.astore 4, 2) := dk_58 4 (dk_at dksX1_cutOne_0 8 rfl rfl)
theorem dX1_cutOne_10 : decode cX1_cutOne 10 = .ok (.aload 4, 2) := dk_25 4 (dk_at dksX1_cutOne_0 10 rfl rfl)
theorem dX1_cutOne_12 : decode cX1_cutOne 12 = .ok (.aload_n 2, 1) := dk_44 (dk_at dksX1_cutOne_0 12 rfl rfl)
theorem dX1_cutOne_13 : decode cX1_cutOne 13 = .ok (.new 109, 3) := dk_187 0 109 (dk_at dksX1_cutOne_0 13 rfl rfl)
theorem dX1_cutOne_16 : decode cX1_cutOne 16 = .ok (.dup, 1) := dk_89 (dk_at dksX1_cutOne_0 16 rfl rfl)
theorem dX1_cutOne_17 : decode cX1_cutOne 17 = .ok (.aload_n 1, 1) := dk_43 (dk_at dksX1_cutOne_0 17 rfl rfl)
theorem dX1_cutOne_18 : decode cX1_cutOne 18 = .ok (.iload_n 3, 1) := dk_29 (dk_at dksX1_cutOne_0 18 rfl rfl)
theorem dX1_cutOne_19 : decode cX1_cutOne 19 = .ok (.aload_n 1, 1) := dk_43 (dk_at dksX1_cutOne_0 19 rfl rfl)
theorem dX1_cutOne_20 : decode cX1_cutOne 20 = .ok (.getfield 139, 3) := dk_180 0 139 (dk_at dksX1_cutOne_0 20 rfl rfl)
theorem dX1_cutOne_23 : decode cX1_cutOne 23 = .ok (.iconst 0, 1) := dk_3 (dk_at dksX1_cutOne_0 23 rfl rfl)
theorem dX1_cutOne_24 : decode cX1_cutOne 24 = .ok (.invokespecial 140, 3) := dk_183 0 140 (dk_at dksX1_cutOne_1 0 rfl rfl)
theorem dX1_cutOne_27 : decode cX1_cutOne 27 = .ok (.invokevirtual 164, 3) := dk_182 0 164 (dk_at dksX1_cutOne_1 3 rfl rfl)
theorem dX1_cutOne_30 : decode cX1_cutOne 30 = .ok (.aload_n 0, 1) := dk_42 (dk_at dksX1_cutOne_1 6 rfl rfl)
theorem dX1_cutOne_31 : decode cX1_cutOne 31 = .ok (.getfield 35, 3) := dk_180 0 35 (dk_at dksX1_cutOne_1 7 rfl rfl)
theorem dX1_cutOne_34 : decode cX1_cutOne 34 = .ok (.aload 4, 2) := dk_25 4 (dk_at dksX1_cutOne_1 10 rfl rfl)
theorem dX1_cutOne_36 : decode cX1_cutOne 36 = .ok (.invokevirtual 167, 3) := dk_182 0 167 (dk_at dksX1_cutOne_1 12 rfl rfl)
theorem dX1_cutOne_39 : decode cX1_cutOne 39 = .ok (.pop, 1) := dk_87 (dk_at dksX1_cutOne_1 15 rfl rfl)
theorem dX1_cutOne_40 : decode cX1_cutOne 40 = .ok (.aload_n 1, 1) := dk_43 (dk_at dksX1_cutOne_1 16 rfl rfl)
theorem dX1_cutOne_41 : decode cX1_cutOne 41 = .ok (.dup, 1) := dk_89 (dk_at dksX1_cutOne_1 17 rfl rfl)
theorem dX1_cutOne_42 : decode cX1_cutOne 42 = .ok (.getfield 168, 3) := dk_180 0 168 (dk_at dksX1_cutOne_1 18 rfl rfl)
theorem dX1_cutOne_45 : decode cX1_cutOne 45 = .ok (.iconst 1, 1) := dk_4 (dk_at dksX1_cutOne_1 21 rfl rfl)
theorem dX1_cutOne_46 : decode cX1_cutOne 46 = .ok (.isub, 1) := dk_100 (dk_at dksX1_cutOne_1 22 rfl rfl)
theorem dX1_cutOne_47 : decode cX1_cutOne 47 = .ok (.putfield 168, 3) := dk_181 0 168 (dk_at dksX1_cutOne_2 0 rfl rfl)
theorem dX1_cutOne_50 : decode cX1_cutOne 50 = .ok (.return_, 1) := dk_177 (dk_at dksX1_cutOne_2 3 rfl rfl)
abbrev cX1_used : ByteArray := prog_1_method_33_code
def yX1_used : MethodName := ⟨RX1, "used", "()D"⟩
def dkwX1_used_5 : List UInt8 := [133, 105, 97, 66, 167, 255, 149, 33, 9, 148, 154, 0, 7, 14, 167, 0, 8, 31, 138, 33, 138, 111, 175]
abbrev dktX1_used_5 : List UInt8 := dkwX1_used_5 ++ []
def dkwX1_used_4 : List UInt8 := [180, 0, 92, 182, 0, 233, 153, 0, 7, 9, 167, 0, 16, 25, 6, 180, 0, 83, 133, 25, 6, 180, 0, 221]
abbrev dktX1_used_4 : List UInt8 := dkwX1_used_4 ++ dktX1_used_5
def dkwX1_used_3 : List UInt8 := [182, 0, 230, 133, 25, 8, 180, 0, 232, 180, 0, 218, 133, 105, 97, 64, 167, 255, 215, 33, 25, 6]
abbrev dktX1_used_3 : List UInt8 := dkwX1_used_3 ++ dktX1_used_4
def dkwX1_used_2 : List UInt8 := [185, 0, 99, 1, 0, 153, 0, 37, 25, 7, 185, 0, 105, 1, 0, 192, 0, 109, 58, 8, 31, 25, 8]
abbrev dktX1_used_2 : List UInt8 := dkwX1_used_2 ++ dktX1_used_3
def dkwX1_used_1 : List UInt8 := [25, 5, 185, 0, 105, 1, 0, 192, 0, 58, 58, 6, 25, 6, 180, 0, 92, 182, 0, 95, 58, 7, 25, 7]
abbrev dktX1_used_1 : List UInt8 := dkwX1_used_1 ++ dktX1_used_2
def dkwX1_used_0 : List UInt8 := [9, 64, 9, 66, 42, 180, 0, 25, 182, 0, 95, 58, 5, 25, 5, 185, 0, 99, 1, 0, 153, 0, 103]
abbrev dktX1_used_0 : List UInt8 := dkwX1_used_0 ++ dktX1_used_1
theorem dksX1_used_0 : cX1_used.data.toList.drop 0 = dktX1_used_0 := by decide +kernel
theorem dksX1_used_1 : cX1_used.data.toList.drop 23 = dktX1_used_1 := dk_seg dksX1_used_0 23 rfl rfl
theorem dksX1_used_2 : cX1_used.data.toList.drop 47 = dktX1_used_2 := dk_seg dksX1_used_1 24 rfl rfl
theorem dksX1_used_3 : cX1_used.data.toList.drop 70 = dktX1_used_3 := dk_seg dksX1_used_2 23 rfl rfl
theorem dksX1_used_4 : cX1_used.data.toList.drop 92 = dktX1_used_4 := dk_seg dksX1_used_3 22 rfl rfl
theorem dksX1_used_5 : cX1_used.data.toList.drop 116 = dktX1_used_5 := dk_seg dksX1_used_4 24 rfl rfl
theorem dX1_used_0 : decode cX1_used 0 = .ok (.lconst 0, 1) := dk_9 (dk_at dksX1_used_0 0 rfl rfl)
theorem dX1_used_1 : decode cX1_used 1 = .ok (.lstore_n 1, 1) := dk_64 (dk_at dksX1_used_0 1 rfl rfl)
theorem dX1_used_2 : decode cX1_used 2 = .ok (.lconst 0, 1) := dk_9 (dk_at dksX1_used_0 2 rfl rfl)
theorem dX1_used_3 : decode cX1_used 3 = .ok (.lstore_n 3, 1) := dk_66 (dk_at dksX1_used_0 3 rfl rfl)
theorem dX1_used_4 : decode cX1_used 4 = .ok (.aload_n 0, 1) := dk_42 (dk_at dksX1_used_0 4 rfl rfl)
theorem dX1_used_5 : decode cX1_used 5 = .ok (.getfield 25, 3) := dk_180 0 25 (dk_at dksX1_used_0 5 rfl rfl)
theorem dX1_used_8 : decode cX1_used 8 = .ok (.invokevirtual 95, 3) := dk_182 0 95 (dk_at dksX1_used_0 8 rfl rfl)
theorem dX1_used_11 : decode cX1_used 11 = .ok (.astore 5, 2) := dk_58 5 (dk_at dksX1_used_0 11 rfl rfl)
theorem dX1_used_13 : decode cX1_used 13 = .ok (.aload 5, 2) := dk_25 5 (dk_at dksX1_used_0 13 rfl rfl)
theorem dX1_used_15 : decode cX1_used 15 = .ok (.invokeinterface 99 1, 5) := by decide +kernel
theorem dX1_used_20 : decode cX1_used 20 = .ok (.ifCond .eq 103, 3) := dk_153 0 103 (dk_at dksX1_used_0 20 rfl rfl)
theorem dX1_used_23 : decode cX1_used 23 = .ok (.aload 5, 2) := dk_25 5 (dk_at dksX1_used_1 0 rfl rfl)
theorem dX1_used_25 : decode cX1_used 25 = .ok (.invokeinterface 105 1, 5) := by decide +kernel
theorem dX1_used_30 : decode cX1_used 30 = .ok (.checkcast 58, 3) := dk_192 0 58 (dk_at dksX1_used_1 7 rfl rfl)
theorem dX1_used_33 : decode cX1_used 33 = .ok (.astore 6, 2) := dk_58 6 (dk_at dksX1_used_1 10 rfl rfl)
theorem dX1_used_35 : decode cX1_used 35 = .ok (.aload 6, 2) := dk_25 6 (dk_at dksX1_used_1 12 rfl rfl)
theorem dX1_used_37 : decode cX1_used 37 = .ok (.getfield 92, 3) := dk_180 0 92 (dk_at dksX1_used_1 14 rfl rfl)
theorem dX1_used_40 : decode cX1_used 40 = .ok (.invokevirtual 95, 3) := dk_182 0 95 (dk_at dksX1_used_1 17 rfl rfl)
theorem dX1_used_43 : decode cX1_used 43 = .ok (.astore 7, 2) := dk_58 7 (dk_at dksX1_used_1 20 rfl rfl)
theorem dX1_used_45 : decode cX1_used 45 = .ok (.aload 7, 2) := dk_25 7 (dk_at dksX1_used_1 22 rfl rfl)
theorem dX1_used_47 : decode cX1_used 47 = .ok (.invokeinterface 99 1, 5) := by decide +kernel
theorem dX1_used_52 : decode cX1_used 52 = .ok (.ifCond .eq 37, 3) := dk_153 0 37 (dk_at dksX1_used_2 5 rfl rfl)
theorem dX1_used_55 : decode cX1_used 55 = .ok (.aload 7, 2) := dk_25 7 (dk_at dksX1_used_2 8 rfl rfl)
theorem dX1_used_57 : decode cX1_used 57 = .ok (.invokeinterface 105 1, 5) := by decide +kernel
theorem dX1_used_62 : decode cX1_used 62 = .ok (.checkcast 109, 3) := dk_192 0 109 (dk_at dksX1_used_2 15 rfl rfl)
theorem dX1_used_65 : decode cX1_used 65 = .ok (.astore 8, 2) := dk_58 8 (dk_at dksX1_used_2 18 rfl rfl)
theorem dX1_used_67 : decode cX1_used 67 = .ok (.lload_n 1, 1) := dk_31 (dk_at dksX1_used_2 20 rfl rfl)
theorem dX1_used_68 : decode cX1_used 68 = .ok (.aload 8, 2) := dk_25 8 (dk_at dksX1_used_2 21 rfl rfl)
theorem dX1_used_70 : decode cX1_used 70 = .ok (.invokevirtual 230, 3) := dk_182 0 230 (dk_at dksX1_used_3 0 rfl rfl)
theorem dX1_used_73 : decode cX1_used 73 = .ok (.i2l, 1) := dk_133 (dk_at dksX1_used_3 3 rfl rfl)
theorem dX1_used_74 : decode cX1_used 74 = .ok (.aload 8, 2) := dk_25 8 (dk_at dksX1_used_3 4 rfl rfl)
theorem dX1_used_76 : decode cX1_used 76 = .ok (.getfield 232, 3) := dk_180 0 232 (dk_at dksX1_used_3 6 rfl rfl)
theorem dX1_used_79 : decode cX1_used 79 = .ok (.getfield 218, 3) := dk_180 0 218 (dk_at dksX1_used_3 9 rfl rfl)
theorem dX1_used_82 : decode cX1_used 82 = .ok (.i2l, 1) := dk_133 (dk_at dksX1_used_3 12 rfl rfl)
theorem dX1_used_83 : decode cX1_used 83 = .ok (.lmul, 1) := dk_105 (dk_at dksX1_used_3 13 rfl rfl)
theorem dX1_used_84 : decode cX1_used 84 = .ok (.ladd, 1) := dk_97 (dk_at dksX1_used_3 14 rfl rfl)
theorem dX1_used_85 : decode cX1_used 85 = .ok (.lstore_n 1, 1) := dk_64 (dk_at dksX1_used_3 15 rfl rfl)
theorem dX1_used_86 : decode cX1_used 86 = .ok (.goto (-41), 3) := dk_167 255 215 (dk_at dksX1_used_3 16 rfl rfl)
theorem dX1_used_89 : decode cX1_used 89 = .ok (.lload_n 3, 1) := dk_33 (dk_at dksX1_used_3 19 rfl rfl)
theorem dX1_used_90 : decode cX1_used 90 = .ok (.aload 6, 2) := dk_25 6 (dk_at dksX1_used_3 20 rfl rfl)
theorem dX1_used_92 : decode cX1_used 92 = .ok (.getfield 92, 3) := dk_180 0 92 (dk_at dksX1_used_4 0 rfl rfl)
theorem dX1_used_95 : decode cX1_used 95 = .ok (.invokevirtual 233, 3) := dk_182 0 233 (dk_at dksX1_used_4 3 rfl rfl)
theorem dX1_used_98 : decode cX1_used 98 = .ok (.ifCond .eq 7, 3) := dk_153 0 7 (dk_at dksX1_used_4 6 rfl rfl)
theorem dX1_used_101 : decode cX1_used 101 = .ok (.lconst 0, 1) := dk_9 (dk_at dksX1_used_4 9 rfl rfl)
theorem dX1_used_102 : decode cX1_used 102 = .ok (.goto 16, 3) := dk_167 0 16 (dk_at dksX1_used_4 10 rfl rfl)
theorem dX1_used_105 : decode cX1_used 105 = .ok (.aload 6, 2) := dk_25 6 (dk_at dksX1_used_4 13 rfl rfl)
theorem dX1_used_107 : decode cX1_used 107 = .ok (.getfield 83, 3) := dk_180 0 83 (dk_at dksX1_used_4 15 rfl rfl)
theorem dX1_used_110 : decode cX1_used 110 = .ok (.i2l, 1) := dk_133 (dk_at dksX1_used_4 18 rfl rfl)
theorem dX1_used_111 : decode cX1_used 111 = .ok (.aload 6, 2) := dk_25 6 (dk_at dksX1_used_4 19 rfl rfl)
theorem dX1_used_113 : decode cX1_used 113 = .ok (.getfield 221, 3) := dk_180 0 221 (dk_at dksX1_used_4 21 rfl rfl)
theorem dX1_used_116 : decode cX1_used 116 = .ok (.i2l, 1) := dk_133 (dk_at dksX1_used_5 0 rfl rfl)
theorem dX1_used_117 : decode cX1_used 117 = .ok (.lmul, 1) := dk_105 (dk_at dksX1_used_5 1 rfl rfl)
theorem dX1_used_118 : decode cX1_used 118 = .ok (.ladd, 1) := dk_97 (dk_at dksX1_used_5 2 rfl rfl)
theorem dX1_used_119 : decode cX1_used 119 = .ok (.lstore_n 3, 1) := dk_66 (dk_at dksX1_used_5 3 rfl rfl)
theorem dX1_used_120 : decode cX1_used 120 = .ok (.goto (-107), 3) := dk_167 255 149 (dk_at dksX1_used_5 4 rfl rfl)
theorem dX1_used_123 : decode cX1_used 123 = .ok (.lload_n 3, 1) := dk_33 (dk_at dksX1_used_5 7 rfl rfl)
theorem dX1_used_124 : decode cX1_used 124 = .ok (.lconst 0, 1) := dk_9 (dk_at dksX1_used_5 8 rfl rfl)
theorem dX1_used_125 : decode cX1_used 125 = .ok (.lcmp, 1) := dk_148 (dk_at dksX1_used_5 9 rfl rfl)
theorem dX1_used_126 : decode cX1_used 126 = .ok (.ifCond .ne 7, 3) := dk_154 0 7 (dk_at dksX1_used_5 10 rfl rfl)
theorem dX1_used_129 : decode cX1_used 129 = .ok (.dconst 0, 1) := dk_14 (dk_at dksX1_used_5 13 rfl rfl)
theorem dX1_used_130 : decode cX1_used 130 = .ok (.goto 8, 3) := dk_167 0 8 (dk_at dksX1_used_5 14 rfl rfl)
theorem dX1_used_133 : decode cX1_used 133 = .ok (.lload_n 1, 1) := dk_31 (dk_at dksX1_used_5 17 rfl rfl)
theorem dX1_used_134 : decode cX1_used 134 = .ok (.l2d, 1) := dk_138 (dk_at dksX1_used_5 18 rfl rfl)
theorem dX1_used_135 : decode cX1_used 135 = .ok (.lload_n 3, 1) := dk_33 (dk_at dksX1_used_5 19 rfl rfl)
theorem dX1_used_136 : decode cX1_used 136 = .ok (.l2d, 1) := dk_138 (dk_at dksX1_used_5 20 rfl rfl)
theorem dX1_used_137 : decode cX1_used 137 = .ok (.ddiv, 1) := dk_111 (dk_at dksX1_used_5 21 rfl rfl)
theorem dX1_used_138 : decode cX1_used 138 = .ok (.dreturn, 1) := dk_175 (dk_at dksX1_used_5 22 rfl rfl)
abbrev cX1_digest : ByteArray := prog_1_method_34_code
def yX1_digest : MethodName := ⟨RX1, "digest", "()J"⟩
def dkwX1_digest_9 : List UInt8 := [167, 255, 232, 167, 255, 204, 167, 255, 155, 31, 173]
abbrev dktX1_digest_9 : List UInt8 := dkwX1_digest_9 ++ []
def dkwX1_digest_8 : List UInt8 := [21, 7, 7, 162, 0, 24, 31, 20, 0, 236, 105, 25, 6, 21, 7, 182, 0, 210, 133, 97, 64, 132, 7, 1]
abbrev dktX1_digest_8 : List UInt8 := dkwX1_digest_8 ++ dktX1_digest_9
def dkwX1_digest_7 : List UInt8 := [185, 0, 99, 1, 0, 153, 0, 48, 25, 5, 185, 0, 105, 1, 0, 192, 0, 109, 58, 6, 3, 54, 7]
abbrev dktX1_digest_7 : List UInt8 := dkwX1_digest_7 ++ dktX1_digest_8
def dkwX1_digest_6 : List UInt8 := [25, 4, 180, 0, 92, 182, 0, 46, 133, 97, 64, 25, 4, 180, 0, 92, 182, 0, 95, 58, 5, 25, 5]
abbrev dktX1_digest_6 : List UInt8 := dkwX1_digest_6 ++ dktX1_digest_7
def dkwX1_digest_5 : List UInt8 := [185, 0, 99, 1, 0, 153, 0, 98, 45, 185, 0, 105, 1, 0, 192, 0, 58, 58, 4, 31, 20, 0, 236, 105]
abbrev dktX1_digest_5 : List UInt8 := dkwX1_digest_5 ++ dktX1_digest_6
def dkwX1_digest_4 : List UInt8 := [20, 0, 236, 105, 42, 180, 0, 25, 182, 0, 46, 133, 97, 64, 42, 180, 0, 25, 182, 0, 95, 78, 45]
abbrev dktX1_digest_4 : List UInt8 := dkwX1_digest_4 ++ dktX1_digest_5
def dkwX1_digest_3 : List UInt8 := [192, 0, 60, 58, 4, 31, 20, 0, 236, 105, 25, 4, 180, 0, 168, 133, 97, 64, 167, 255, 223, 31]
abbrev dktX1_digest_3 : List UInt8 := dkwX1_digest_3 ++ dktX1_digest_4
def dkwX1_digest_2 : List UInt8 := [180, 0, 29, 182, 0, 95, 78, 45, 185, 0, 99, 1, 0, 153, 0, 30, 45, 185, 0, 105, 1, 0]
abbrev dktX1_digest_2 : List UInt8 := dkwX1_digest_2 ++ dktX1_digest_3
def dkwX1_digest_1 : List UInt8 := [180, 0, 86, 133, 97, 64, 31, 20, 0, 236, 105, 42, 180, 0, 29, 182, 0, 46, 133, 97, 64, 42]
abbrev dktX1_digest_1 : List UInt8 := dkwX1_digest_1 ++ dktX1_digest_2
def dkwX1_digest_0 : List UInt8 := [20, 0, 234, 42, 180, 0, 39, 133, 97, 20, 0, 236, 105, 42, 180, 0, 43, 133, 97, 20, 0, 236, 105, 42]
abbrev dktX1_digest_0 : List UInt8 := dkwX1_digest_0 ++ dktX1_digest_1
theorem dksX1_digest_0 : cX1_digest.data.toList.drop 0 = dktX1_digest_0 := by decide +kernel
theorem dksX1_digest_1 : cX1_digest.data.toList.drop 24 = dktX1_digest_1 := dk_seg dksX1_digest_0 24 rfl rfl
theorem dksX1_digest_2 : cX1_digest.data.toList.drop 46 = dktX1_digest_2 := dk_seg dksX1_digest_1 22 rfl rfl
theorem dksX1_digest_3 : cX1_digest.data.toList.drop 68 = dktX1_digest_3 := dk_seg dksX1_digest_2 22 rfl rfl
theorem dksX1_digest_4 : cX1_digest.data.toList.drop 90 = dktX1_digest_4 := dk_seg dksX1_digest_3 22 rfl rfl
theorem dksX1_digest_5 : cX1_digest.data.toList.drop 113 = dktX1_digest_5 := dk_seg dksX1_digest_4 23 rfl rfl
theorem dksX1_digest_6 : cX1_digest.data.toList.drop 137 = dktX1_digest_6 := dk_seg dksX1_digest_5 24 rfl rfl
theorem dksX1_digest_7 : cX1_digest.data.toList.drop 160 = dktX1_digest_7 := dk_seg dksX1_digest_6 23 rfl rfl
theorem dksX1_digest_8 : cX1_digest.data.toList.drop 183 = dktX1_digest_8 := dk_seg dksX1_digest_7 23 rfl rfl
theorem dksX1_digest_9 : cX1_digest.data.toList.drop 207 = dktX1_digest_9 := dk_seg dksX1_digest_8 24 rfl rfl
theorem dX1_digest_0 : decode cX1_digest 0 = .ok (.ldc2_w 234, 3) := dk_20 0 234 (dk_at dksX1_digest_0 0 rfl rfl)
theorem dX1_digest_3 : decode cX1_digest 3 = .ok (.aload_n 0, 1) := dk_42 (dk_at dksX1_digest_0 3 rfl rfl)
theorem dX1_digest_4 : decode cX1_digest 4 = .ok (.getfield 39, 3) := dk_180 0 39 (dk_at dksX1_digest_0 4 rfl rfl)
theorem dX1_digest_7 : decode cX1_digest 7 = .ok (.i2l, 1) := dk_133 (dk_at dksX1_digest_0 7 rfl rfl)
theorem dX1_digest_8 : decode cX1_digest 8 = .ok (.ladd, 1) := dk_97 (dk_at dksX1_digest_0 8 rfl rfl)
theorem dX1_digest_9 : decode cX1_digest 9 = .ok (.ldc2_w 236, 3) := dk_20 0 236 (dk_at dksX1_digest_0 9 rfl rfl)
theorem dX1_digest_12 : decode cX1_digest 12 = .ok (.lmul, 1) := dk_105 (dk_at dksX1_digest_0 12 rfl rfl)
theorem dX1_digest_13 : decode cX1_digest 13 = .ok (.aload_n 0, 1) := dk_42 (dk_at dksX1_digest_0 13 rfl rfl)
theorem dX1_digest_14 : decode cX1_digest 14 = .ok (.getfield 43, 3) := dk_180 0 43 (dk_at dksX1_digest_0 14 rfl rfl)
theorem dX1_digest_17 : decode cX1_digest 17 = .ok (.i2l, 1) := dk_133 (dk_at dksX1_digest_0 17 rfl rfl)
theorem dX1_digest_18 : decode cX1_digest 18 = .ok (.ladd, 1) := dk_97 (dk_at dksX1_digest_0 18 rfl rfl)
theorem dX1_digest_19 : decode cX1_digest 19 = .ok (.ldc2_w 236, 3) := dk_20 0 236 (dk_at dksX1_digest_0 19 rfl rfl)
theorem dX1_digest_22 : decode cX1_digest 22 = .ok (.lmul, 1) := dk_105 (dk_at dksX1_digest_0 22 rfl rfl)
theorem dX1_digest_23 : decode cX1_digest 23 = .ok (.aload_n 0, 1) := dk_42 (dk_at dksX1_digest_0 23 rfl rfl)
theorem dX1_digest_24 : decode cX1_digest 24 = .ok (.getfield 86, 3) := dk_180 0 86 (dk_at dksX1_digest_1 0 rfl rfl)
theorem dX1_digest_27 : decode cX1_digest 27 = .ok (.i2l, 1) := dk_133 (dk_at dksX1_digest_1 3 rfl rfl)
theorem dX1_digest_28 : decode cX1_digest 28 = .ok (.ladd, 1) := dk_97 (dk_at dksX1_digest_1 4 rfl rfl)
theorem dX1_digest_29 : decode cX1_digest 29 = .ok (.lstore_n 1, 1) := dk_64 (dk_at dksX1_digest_1 5 rfl rfl)
theorem dX1_digest_30 : decode cX1_digest 30 = .ok (.lload_n 1, 1) := dk_31 (dk_at dksX1_digest_1 6 rfl rfl)
theorem dX1_digest_31 : decode cX1_digest 31 = .ok (.ldc2_w 236, 3) := dk_20 0 236 (dk_at dksX1_digest_1 7 rfl rfl)
theorem dX1_digest_34 : decode cX1_digest 34 = .ok (.lmul, 1) := dk_105 (dk_at dksX1_digest_1 10 rfl rfl)
theorem dX1_digest_35 : decode cX1_digest 35 = .ok (.aload_n 0, 1) := dk_42 (dk_at dksX1_digest_1 11 rfl rfl)
theorem dX1_digest_36 : decode cX1_digest 36 = .ok (.getfield 29, 3) := dk_180 0 29 (dk_at dksX1_digest_1 12 rfl rfl)
theorem dX1_digest_39 : decode cX1_digest 39 = .ok (.invokevirtual 46, 3) := dk_182 0 46 (dk_at dksX1_digest_1 15 rfl rfl)
theorem dX1_digest_42 : decode cX1_digest 42 = .ok (.i2l, 1) := dk_133 (dk_at dksX1_digest_1 18 rfl rfl)
theorem dX1_digest_43 : decode cX1_digest 43 = .ok (.ladd, 1) := dk_97 (dk_at dksX1_digest_1 19 rfl rfl)
theorem dX1_digest_44 : decode cX1_digest 44 = .ok (.lstore_n 1, 1) := dk_64 (dk_at dksX1_digest_1 20 rfl rfl)
theorem dX1_digest_45 : decode cX1_digest 45 = .ok (.aload_n 0, 1) := dk_42 (dk_at dksX1_digest_1 21 rfl rfl)
theorem dX1_digest_46 : decode cX1_digest 46 = .ok (.getfield 29, 3) := dk_180 0 29 (dk_at dksX1_digest_2 0 rfl rfl)
theorem dX1_digest_49 : decode cX1_digest 49 = .ok (.invokevirtual 95, 3) := dk_182 0 95 (dk_at dksX1_digest_2 3 rfl rfl)
theorem dX1_digest_52 : decode cX1_digest 52 = .ok (.astore_n 3, 1) := dk_78 (dk_at dksX1_digest_2 6 rfl rfl)
theorem dX1_digest_53 : decode cX1_digest 53 = .ok (.aload_n 3, 1) := dk_45 (dk_at dksX1_digest_2 7 rfl rfl)
theorem dX1_digest_54 : decode cX1_digest 54 = .ok (.invokeinterface 99 1, 5) := by decide +kernel
theorem dX1_digest_59 : decode cX1_digest 59 = .ok (.ifCond .eq 30, 3) := dk_153 0 30 (dk_at dksX1_digest_2 13 rfl rfl)
theorem dX1_digest_62 : decode cX1_digest 62 = .ok (.aload_n 3, 1) := dk_45 (dk_at dksX1_digest_2 16 rfl rfl)
theorem dX1_digest_63 : decode cX1_digest 63 = .ok (.invokeinterface 105 1, 5) := by decide +kernel
theorem dX1_digest_68 : decode cX1_digest 68 = .ok (.checkcast 60, 3) := dk_192 0 60 (dk_at dksX1_digest_3 0 rfl rfl)
theorem dX1_digest_71 : decode cX1_digest 71 = .ok (.astore 4, 2) := dk_58 4 (dk_at dksX1_digest_3 3 rfl rfl)
theorem dX1_digest_73 : decode cX1_digest 73 = .ok (.lload_n 1, 1) := dk_31 (dk_at dksX1_digest_3 5 rfl rfl)
theorem dX1_digest_74 : decode cX1_digest 74 = .ok (.ldc2_w 236, 3) := dk_20 0 236 (dk_at dksX1_digest_3 6 rfl rfl)
theorem dX1_digest_77 : decode cX1_digest 77 = .ok (.lmul, 1) := dk_105 (dk_at dksX1_digest_3 9 rfl rfl)
theorem dX1_digest_78 : decode cX1_digest 78 = .ok (.aload 4, 2) := dk_25 4 (dk_at dksX1_digest_3 10 rfl rfl)
theorem dX1_digest_80 : decode cX1_digest 80 = .ok (.getfield 168, 3) := dk_180 0 168 (dk_at dksX1_digest_3 12 rfl rfl)
theorem dX1_digest_83 : decode cX1_digest 83 = .ok (.i2l, 1) := dk_133 (dk_at dksX1_digest_3 15 rfl rfl)
theorem dX1_digest_84 : decode cX1_digest 84 = .ok (.ladd, 1) := dk_97 (dk_at dksX1_digest_3 16 rfl rfl)
theorem dX1_digest_85 : decode cX1_digest 85 = .ok (.lstore_n 1, 1) := dk_64 (dk_at dksX1_digest_3 17 rfl rfl)
theorem dX1_digest_86 : decode cX1_digest 86 = .ok (.goto (-33), 3) := dk_167 255 223 (dk_at dksX1_digest_3 18 rfl rfl)
theorem dX1_digest_89 : decode cX1_digest 89 = .ok (.lload_n 1, 1) := dk_31 (dk_at dksX1_digest_3 21 rfl rfl)
theorem dX1_digest_90 : decode cX1_digest 90 = .ok (.ldc2_w 236, 3) := dk_20 0 236 (dk_at dksX1_digest_4 0 rfl rfl)
theorem dX1_digest_93 : decode cX1_digest 93 = .ok (.lmul, 1) := dk_105 (dk_at dksX1_digest_4 3 rfl rfl)
theorem dX1_digest_94 : decode cX1_digest 94 = .ok (.aload_n 0, 1) := dk_42 (dk_at dksX1_digest_4 4 rfl rfl)
theorem dX1_digest_95 : decode cX1_digest 95 = .ok (.getfield 25, 3) := dk_180 0 25 (dk_at dksX1_digest_4 5 rfl rfl)
theorem dX1_digest_98 : decode cX1_digest 98 = .ok (.invokevirtual 46, 3) := dk_182 0 46 (dk_at dksX1_digest_4 8 rfl rfl)
theorem dX1_digest_101 : decode cX1_digest 101 = .ok (.i2l, 1) := dk_133 (dk_at dksX1_digest_4 11 rfl rfl)
theorem dX1_digest_102 : decode cX1_digest 102 = .ok (.ladd, 1) := dk_97 (dk_at dksX1_digest_4 12 rfl rfl)
theorem dX1_digest_103 : decode cX1_digest 103 = .ok (.lstore_n 1, 1) := dk_64 (dk_at dksX1_digest_4 13 rfl rfl)
theorem dX1_digest_104 : decode cX1_digest 104 = .ok (.aload_n 0, 1) := dk_42 (dk_at dksX1_digest_4 14 rfl rfl)
theorem dX1_digest_105 : decode cX1_digest 105 = .ok (.getfield 25, 3) := dk_180 0 25 (dk_at dksX1_digest_4 15 rfl rfl)
theorem dX1_digest_108 : decode cX1_digest 108 = .ok (.invokevirtual 95, 3) := dk_182 0 95 (dk_at dksX1_digest_4 18 rfl rfl)
theorem dX1_digest_111 : decode cX1_digest 111 = .ok (.astore_n 3, 1) := dk_78 (dk_at dksX1_digest_4 21 rfl rfl)
theorem dX1_digest_112 : decode cX1_digest 112 = .ok (.aload_n 3, 1) := dk_45 (dk_at dksX1_digest_4 22 rfl rfl)
theorem dX1_digest_113 : decode cX1_digest 113 = .ok (.invokeinterface 99 1, 5) := by decide +kernel
theorem dX1_digest_118 : decode cX1_digest 118 = .ok (.ifCond .eq 98, 3) := dk_153 0 98 (dk_at dksX1_digest_5 5 rfl rfl)
theorem dX1_digest_121 : decode cX1_digest 121 = .ok (.aload_n 3, 1) := dk_45 (dk_at dksX1_digest_5 8 rfl rfl)
theorem dX1_digest_122 : decode cX1_digest 122 = .ok (.invokeinterface 105 1, 5) := by decide +kernel
theorem dX1_digest_127 : decode cX1_digest 127 = .ok (.checkcast 58, 3) := dk_192 0 58 (dk_at dksX1_digest_5 14 rfl rfl)
theorem dX1_digest_130 : decode cX1_digest 130 = .ok (.astore 4, 2) := dk_58 4 (dk_at dksX1_digest_5 17 rfl rfl)
theorem dX1_digest_132 : decode cX1_digest 132 = .ok (.lload_n 1, 1) := dk_31 (dk_at dksX1_digest_5 19 rfl rfl)
theorem dX1_digest_133 : decode cX1_digest 133 = .ok (.ldc2_w 236, 3) := dk_20 0 236 (dk_at dksX1_digest_5 20 rfl rfl)
theorem dX1_digest_136 : decode cX1_digest 136 = .ok (.lmul, 1) := dk_105 (dk_at dksX1_digest_5 23 rfl rfl)
theorem dX1_digest_137 : decode cX1_digest 137 = .ok (.aload 4, 2) := dk_25 4 (dk_at dksX1_digest_6 0 rfl rfl)
theorem dX1_digest_139 : decode cX1_digest 139 = .ok (.getfield 92, 3) := dk_180 0 92 (dk_at dksX1_digest_6 2 rfl rfl)
theorem dX1_digest_142 : decode cX1_digest 142 = .ok (.invokevirtual 46, 3) := dk_182 0 46 (dk_at dksX1_digest_6 5 rfl rfl)
theorem dX1_digest_145 : decode cX1_digest 145 = .ok (.i2l, 1) := dk_133 (dk_at dksX1_digest_6 8 rfl rfl)
theorem dX1_digest_146 : decode cX1_digest 146 = .ok (.ladd, 1) := dk_97 (dk_at dksX1_digest_6 9 rfl rfl)
theorem dX1_digest_147 : decode cX1_digest 147 = .ok (.lstore_n 1, 1) := dk_64 (dk_at dksX1_digest_6 10 rfl rfl)
theorem dX1_digest_148 : decode cX1_digest 148 = .ok (.aload 4, 2) := dk_25 4 (dk_at dksX1_digest_6 11 rfl rfl)
theorem dX1_digest_150 : decode cX1_digest 150 = .ok (.getfield 92, 3) := dk_180 0 92 (dk_at dksX1_digest_6 13 rfl rfl)
theorem dX1_digest_153 : decode cX1_digest 153 = .ok (.invokevirtual 95, 3) := dk_182 0 95 (dk_at dksX1_digest_6 16 rfl rfl)
theorem dX1_digest_156 : decode cX1_digest 156 = .ok (.astore 5, 2) := dk_58 5 (dk_at dksX1_digest_6 19 rfl rfl)
theorem dX1_digest_158 : decode cX1_digest 158 = .ok (.aload 5, 2) := dk_25 5 (dk_at dksX1_digest_6 21 rfl rfl)
theorem dX1_digest_160 : decode cX1_digest 160 = .ok (.invokeinterface 99 1, 5) := by decide +kernel
theorem dX1_digest_165 : decode cX1_digest 165 = .ok (.ifCond .eq 48, 3) := dk_153 0 48 (dk_at dksX1_digest_7 5 rfl rfl)
theorem dX1_digest_168 : decode cX1_digest 168 = .ok (.aload 5, 2) := dk_25 5 (dk_at dksX1_digest_7 8 rfl rfl)
theorem dX1_digest_170 : decode cX1_digest 170 = .ok (.invokeinterface 105 1, 5) := by decide +kernel
theorem dX1_digest_175 : decode cX1_digest 175 = .ok (.checkcast 109, 3) := dk_192 0 109 (dk_at dksX1_digest_7 15 rfl rfl)
theorem dX1_digest_178 : decode cX1_digest 178 = .ok (.astore 6, 2) := dk_58 6 (dk_at dksX1_digest_7 18 rfl rfl)
theorem dX1_digest_180 : decode cX1_digest 180 = .ok (.iconst 0, 1) := dk_3 (dk_at dksX1_digest_7 20 rfl rfl)
theorem dX1_digest_181 : decode cX1_digest 181 = .ok (.istore 7, 2) := dk_54 7 (dk_at dksX1_digest_7 21 rfl rfl)
theorem dX1_digest_183 : decode cX1_digest 183 = .ok (.iload 7, 2) := dk_21 7 (dk_at dksX1_digest_8 0 rfl rfl)
theorem dX1_digest_185 : decode cX1_digest 185 = .ok (.iconst 4, 1) := dk_7 (dk_at dksX1_digest_8 2 rfl rfl)
theorem dX1_digest_186 : decode cX1_digest 186 = .ok (.if_icmp .ge 24, 3) := dk_162 0 24 (dk_at dksX1_digest_8 3 rfl rfl)
theorem dX1_digest_189 : decode cX1_digest 189 = .ok (.lload_n 1, 1) := dk_31 (dk_at dksX1_digest_8 6 rfl rfl)
theorem dX1_digest_190 : decode cX1_digest 190 = .ok (.ldc2_w 236, 3) := dk_20 0 236 (dk_at dksX1_digest_8 7 rfl rfl)
theorem dX1_digest_193 : decode cX1_digest 193 = .ok (.lmul, 1) := dk_105 (dk_at dksX1_digest_8 10 rfl rfl)
theorem dX1_digest_194 : decode cX1_digest 194 = .ok (.aload 6, 2) := dk_25 6 (dk_at dksX1_digest_8 11 rfl rfl)
theorem dX1_digest_196 : decode cX1_digest 196 = .ok (.iload 7, 2) := dk_21 7 (dk_at dksX1_digest_8 13 rfl rfl)
theorem dX1_digest_198 : decode cX1_digest 198 = .ok (.invokevirtual 210, 3) := dk_182 0 210 (dk_at dksX1_digest_8 15 rfl rfl)
theorem dX1_digest_201 : decode cX1_digest 201 = .ok (.i2l, 1) := dk_133 (dk_at dksX1_digest_8 18 rfl rfl)
theorem dX1_digest_202 : decode cX1_digest 202 = .ok (.ladd, 1) := dk_97 (dk_at dksX1_digest_8 19 rfl rfl)
theorem dX1_digest_203 : decode cX1_digest 203 = .ok (.lstore_n 1, 1) := dk_64 (dk_at dksX1_digest_8 20 rfl rfl)
theorem dX1_digest_204 : decode cX1_digest 204 = .ok (.iinc 7 1, 3) := dk_132 7 1 (dk_at dksX1_digest_8 21 rfl rfl)
theorem dX1_digest_207 : decode cX1_digest 207 = .ok (.goto (-24), 3) := dk_167 255 232 (dk_at dksX1_digest_9 0 rfl rfl)
theorem dX1_digest_210 : decode cX1_digest 210 = .ok (.goto (-52), 3) := dk_167 255 204 (dk_at dksX1_digest_9 3 rfl rfl)
theorem dX1_digest_213 : decode cX1_digest 213 = .ok (.goto (-101), 3) := dk_167 255 155 (dk_at dksX1_digest_9 6 rfl rfl)
theorem dX1_digest_216 : decode cX1_digest 216 = .ok (.lload_n 1, 1) := dk_31 (dk_at dksX1_digest_9 9 rfl rfl)
theorem dX1_digest_217 : decode cX1_digest 217 = .ok (.lreturn, 1) := dk_173 (dk_at dksX1_digest_9 10 rfl rfl)
abbrev cX1_addBoard : ByteArray := prog_1_method_9_code
def yX1_addBoard : MethodName := ⟨RX1, "addBoard", "(III)I"⟩
def dkwX1_addBoard_2 : List UInt8 := [187, 0, 58, 89, 27, 28, 29, 183, 0, 73, 182, 0, 75, 87, 42, 180, 0, 25, 182, 0, 46, 4, 100, 172]
abbrev dktX1_addBoard_2 : List UInt8 := dkwX1_addBoard_2 ++ []
def dkwX1_addBoard_1 : List UInt8 := [180, 0, 25, 182, 0, 46, 16, 10, 162, 0, 7, 4, 167, 0, 4, 3, 184, 0, 70, 42, 180, 0, 25]
abbrev dktX1_addBoard_1 : List UInt8 := dkwX1_addBoard_1 ++ dktX1_addBoard_2
def dkwX1_addBoard_0 : List UInt8 := [16, 100, 17, 11, 184, 27, 184, 0, 62, 16, 10, 17, 1, 144, 28, 184, 0, 62, 29, 184, 0, 66, 42]
abbrev dktX1_addBoard_0 : List UInt8 := dkwX1_addBoard_0 ++ dktX1_addBoard_1
theorem dksX1_addBoard_0 : cX1_addBoard.data.toList.drop 0 = dktX1_addBoard_0 := by decide +kernel
theorem dksX1_addBoard_1 : cX1_addBoard.data.toList.drop 23 = dktX1_addBoard_1 := dk_seg dksX1_addBoard_0 23 rfl rfl
theorem dksX1_addBoard_2 : cX1_addBoard.data.toList.drop 46 = dktX1_addBoard_2 := dk_seg dksX1_addBoard_1 23 rfl rfl
theorem dX1_addBoard_0 : decode cX1_addBoard 0 = .ok (.bipush 100, 2) := dk_16 100 (dk_at dksX1_addBoard_0 0 rfl rfl)
theorem dX1_addBoard_2 : decode cX1_addBoard 2 = .ok (.sipush 3000, 3) := dk_17 11 184 (dk_at dksX1_addBoard_0 2 rfl rfl)
theorem dX1_addBoard_5 : decode cX1_addBoard 5 = .ok (.iload_n 1, 1) := dk_27 (dk_at dksX1_addBoard_0 5 rfl rfl)
theorem dX1_addBoard_6 : decode cX1_addBoard 6 = .ok (.invokestatic 62, 3) := dk_184 0 62 (dk_at dksX1_addBoard_0 6 rfl rfl)
theorem dX1_addBoard_9 : decode cX1_addBoard 9 = .ok (.bipush 10, 2) := dk_16 10 (dk_at dksX1_addBoard_0 9 rfl rfl)
theorem dX1_addBoard_11 : decode cX1_addBoard 11 = .ok (.sipush 400, 3) := dk_17 1 144 (dk_at dksX1_addBoard_0 11 rfl rfl)
theorem dX1_addBoard_14 : decode cX1_addBoard 14 = .ok (.iload_n 2, 1) := dk_28 (dk_at dksX1_addBoard_0 14 rfl rfl)
theorem dX1_addBoard_15 : decode cX1_addBoard 15 = .ok (.invokestatic 62, 3) := dk_184 0 62 (dk_at dksX1_addBoard_0 15 rfl rfl)
theorem dX1_addBoard_18 : decode cX1_addBoard 18 = .ok (.iload_n 3, 1) := dk_29 (dk_at dksX1_addBoard_0 18 rfl rfl)
theorem dX1_addBoard_19 : decode cX1_addBoard 19 = .ok (.invokestatic 66, 3) := dk_184 0 66 (dk_at dksX1_addBoard_0 19 rfl rfl)
theorem dX1_addBoard_22 : decode cX1_addBoard 22 = .ok (.aload_n 0, 1) := dk_42 (dk_at dksX1_addBoard_0 22 rfl rfl)
theorem dX1_addBoard_23 : decode cX1_addBoard 23 = .ok (.getfield 25, 3) := dk_180 0 25 (dk_at dksX1_addBoard_1 0 rfl rfl)
theorem dX1_addBoard_26 : decode cX1_addBoard 26 = .ok (.invokevirtual 46, 3) := dk_182 0 46 (dk_at dksX1_addBoard_1 3 rfl rfl)
theorem dX1_addBoard_29 : decode cX1_addBoard 29 = .ok (.bipush 10, 2) := dk_16 10 (dk_at dksX1_addBoard_1 6 rfl rfl)
theorem dX1_addBoard_31 : decode cX1_addBoard 31 = .ok (.if_icmp .ge 7, 3) := dk_162 0 7 (dk_at dksX1_addBoard_1 8 rfl rfl)
theorem dX1_addBoard_34 : decode cX1_addBoard 34 = .ok (.iconst 1, 1) := dk_4 (dk_at dksX1_addBoard_1 11 rfl rfl)
theorem dX1_addBoard_35 : decode cX1_addBoard 35 = .ok (.goto 4, 3) := dk_167 0 4 (dk_at dksX1_addBoard_1 12 rfl rfl)
theorem dX1_addBoard_38 : decode cX1_addBoard 38 = .ok (.iconst 0, 1) := dk_3 (dk_at dksX1_addBoard_1 15 rfl rfl)
theorem dX1_addBoard_39 : decode cX1_addBoard 39 = .ok (.invokestatic 70, 3) := dk_184 0 70 (dk_at dksX1_addBoard_1 16 rfl rfl)
theorem dX1_addBoard_42 : decode cX1_addBoard 42 = .ok (.aload_n 0, 1) := dk_42 (dk_at dksX1_addBoard_1 19 rfl rfl)
theorem dX1_addBoard_43 : decode cX1_addBoard 43 = .ok (.getfield 25, 3) := dk_180 0 25 (dk_at dksX1_addBoard_1 20 rfl rfl)
theorem dX1_addBoard_46 : decode cX1_addBoard 46 = .ok (.new 58, 3) := dk_187 0 58 (dk_at dksX1_addBoard_2 0 rfl rfl)
theorem dX1_addBoard_49 : decode cX1_addBoard 49 = .ok (.dup, 1) := dk_89 (dk_at dksX1_addBoard_2 3 rfl rfl)
theorem dX1_addBoard_50 : decode cX1_addBoard 50 = .ok (.iload_n 1, 1) := dk_27 (dk_at dksX1_addBoard_2 4 rfl rfl)
theorem dX1_addBoard_51 : decode cX1_addBoard 51 = .ok (.iload_n 2, 1) := dk_28 (dk_at dksX1_addBoard_2 5 rfl rfl)
theorem dX1_addBoard_52 : decode cX1_addBoard 52 = .ok (.iload_n 3, 1) := dk_29 (dk_at dksX1_addBoard_2 6 rfl rfl)
theorem dX1_addBoard_53 : decode cX1_addBoard 53 = .ok (.invokespecial 73, 3) := dk_183 0 73 (dk_at dksX1_addBoard_2 7 rfl rfl)
theorem dX1_addBoard_56 : decode cX1_addBoard 56 = .ok (.invokevirtual 75, 3) := dk_182 0 75 (dk_at dksX1_addBoard_2 10 rfl rfl)
theorem dX1_addBoard_59 : decode cX1_addBoard 59 = .ok (.pop, 1) := dk_87 (dk_at dksX1_addBoard_2 13 rfl rfl)
theorem dX1_addBoard_60 : decode cX1_addBoard 60 = .ok (.aload_n 0, 1) := dk_42 (dk_at dksX1_addBoard_2 14 rfl rfl)
theorem dX1_addBoard_61 : decode cX1_addBoard 61 = .ok (.getfield 25, 3) := dk_180 0 25 (dk_at dksX1_addBoard_2 15 rfl rfl)
theorem dX1_addBoard_64 : decode cX1_addBoard 64 = .ok (.invokevirtual 46, 3) := dk_182 0 46 (dk_at dksX1_addBoard_2 18 rfl rfl)
theorem dX1_addBoard_67 : decode cX1_addBoard 67 = .ok (.iconst 1, 1) := dk_4 (dk_at dksX1_addBoard_2 21 rfl rfl)
theorem dX1_addBoard_68 : decode cX1_addBoard 68 = .ok (.isub, 1) := dk_100 (dk_at dksX1_addBoard_2 22 rfl rfl)
theorem dX1_addBoard_69 : decode cX1_addBoard 69 = .ok (.ireturn, 1) := dk_172 (dk_at dksX1_addBoard_2 23 rfl rfl)
abbrev cX1_requireFrom : ByteArray := prog_1_method_4_code
def yX1_requireFrom : MethodName := ⟨RX1, "requireFrom", "(III)V"⟩
def dkwX1_requireFrom_0 : List UInt8 := [28, 26, 161, 0, 12, 28, 27, 163, 0, 7, 4, 167, 0, 4, 3, 184, 0, 13, 177]
abbrev dktX1_requireFrom_0 : List UInt8 := dkwX1_requireFrom_0 ++ []
theorem dksX1_requireFrom_0 : cX1_requireFrom.data.toList.drop 0 = dktX1_requireFrom_0 := by decide +kernel
theorem dX1_requireFrom_0 : decode cX1_requireFrom 0 = .ok (.iload_n 2, 1) := dk_28 (dk_at dksX1_requireFrom_0 0 rfl rfl)
theorem dX1_requireFrom_1 : decode cX1_requireFrom 1 = .ok (.iload_n 0, 1) := dk_26 (dk_at dksX1_requireFrom_0 1 rfl rfl)
theorem dX1_requireFrom_2 : decode cX1_requireFrom 2 = .ok (.if_icmp .lt 12, 3) := dk_161 0 12 (dk_at dksX1_requireFrom_0 2 rfl rfl)
theorem dX1_requireFrom_5 : decode cX1_requireFrom 5 = .ok (.iload_n 2, 1) := dk_28 (dk_at dksX1_requireFrom_0 5 rfl rfl)
theorem dX1_requireFrom_6 : decode cX1_requireFrom 6 = .ok (.iload_n 1, 1) := dk_27 (dk_at dksX1_requireFrom_0 6 rfl rfl)
theorem dX1_requireFrom_7 : decode cX1_requireFrom 7 = .ok (.if_icmp .gt 7, 3) := dk_163 0 7 (dk_at dksX1_requireFrom_0 7 rfl rfl)
theorem dX1_requireFrom_10 : decode cX1_requireFrom 10 = .ok (.iconst 1, 1) := dk_4 (dk_at dksX1_requireFrom_0 10 rfl rfl)
theorem dX1_requireFrom_11 : decode cX1_requireFrom 11 = .ok (.goto 4, 3) := dk_167 0 4 (dk_at dksX1_requireFrom_0 11 rfl rfl)
theorem dX1_requireFrom_14 : decode cX1_requireFrom 14 = .ok (.iconst 0, 1) := dk_3 (dk_at dksX1_requireFrom_0 14 rfl rfl)
theorem dX1_requireFrom_15 : decode cX1_requireFrom 15 = .ok (.invokestatic 13, 3) := dk_184 0 13 (dk_at dksX1_requireFrom_0 15 rfl rfl)
theorem dX1_requireFrom_18 : decode cX1_requireFrom 18 = .ok (.return_, 1) := dk_177 (dk_at dksX1_requireFrom_0 18 rfl rfl)
abbrev cX1_require : ByteArray := prog_1_method_1_code
def yX1_require : MethodName := ⟨RX1, "require", "(Z)V"⟩
def dkwX1_require_0 : List UInt8 := [26, 154, 0, 11, 187, 0, 1, 89, 183, 0, 3, 191, 177]
abbrev dktX1_require_0 : List UInt8 := dkwX1_require_0 ++ []
theorem dksX1_require_0 : cX1_require.data.toList.drop 0 = dktX1_require_0 := by decide +kernel
theorem dX1_require_0 : decode cX1_require 0 = .ok (.iload_n 0, 1) := dk_26 (dk_at dksX1_require_0 0 rfl rfl)
theorem dX1_require_1 : decode cX1_require 1 = .ok (.ifCond .ne 11, 3) := dk_154 0 11 (dk_at dksX1_require_0 1 rfl rfl)
theorem dX1_require_4 : decode cX1_require 4 = .ok (.new 1, 3) := dk_187 0 1 (dk_at dksX1_require_0 4 rfl rfl)
theorem dX1_require_7 : decode cX1_require 7 = .ok (.dup, 1) := dk_89 (dk_at dksX1_require_0 7 rfl rfl)
theorem dX1_require_8 : decode cX1_require 8 = .ok (.invokespecial 3, 3) := dk_183 0 3 (dk_at dksX1_require_0 8 rfl rfl)
theorem dX1_require_11 : decode cX1_require 11 = .ok (.athrow, 1) := dk_191 (dk_at dksX1_require_0 11 rfl rfl)
theorem dX1_require_12 : decode cX1_require 12 = .ok (.return_, 1) := dk_177 (dk_at dksX1_require_0 12 rfl rfl)
abbrev cX1_requireGrade : ByteArray := prog_1_method_8_code
def yX1_requireGrade : MethodName := ⟨RX1, "requireGrade", "(I)V"⟩
def dkwX1_requireGrade_0 : List UInt8 := [3, 6, 26, 184, 0, 62, 177]
abbrev dktX1_requireGrade_0 : List UInt8 := dkwX1_requireGrade_0 ++ []
theorem dksX1_requireGrade_0 : cX1_requireGrade.data.toList.drop 0 = dktX1_requireGrade_0 := by decide +kernel
theorem dX1_requireGrade_0 : decode cX1_requireGrade 0 = .ok (.iconst 0, 1) := dk_3 (dk_at dksX1_requireGrade_0 0 rfl rfl)
theorem dX1_requireGrade_1 : decode cX1_requireGrade 1 = .ok (.iconst 3, 1) := dk_6 (dk_at dksX1_requireGrade_0 1 rfl rfl)
theorem dX1_requireGrade_2 : decode cX1_requireGrade 2 = .ok (.iload_n 0, 1) := dk_26 (dk_at dksX1_requireGrade_0 2 rfl rfl)
theorem dX1_requireGrade_3 : decode cX1_requireGrade 3 = .ok (.invokestatic 62, 3) := dk_184 0 62 (dk_at dksX1_requireGrade_0 3 rfl rfl)
theorem dX1_requireGrade_6 : decode cX1_requireGrade 6 = .ok (.return_, 1) := dk_177 (dk_at dksX1_requireGrade_0 6 rfl rfl)
abbrev cX1_requireState : ByteArray := prog_1_method_2_code
def yX1_requireState : MethodName := ⟨RX1, "requireState", "(Z)V"⟩
def dkwX1_requireState_0 : List UInt8 := [26, 154, 0, 11, 187, 0, 7, 89, 183, 0, 9, 191, 177]
abbrev dktX1_requireState_0 : List UInt8 := dkwX1_requireState_0 ++ []
theorem dksX1_requireState_0 : cX1_requireState.data.toList.drop 0 = dktX1_requireState_0 := by decide +kernel
theorem dX1_requireState_0 : decode cX1_requireState 0 = .ok (.iload_n 0, 1) := dk_26 (dk_at dksX1_requireState_0 0 rfl rfl)
theorem dX1_requireState_1 : decode cX1_requireState 1 = .ok (.ifCond .ne 11, 3) := dk_154 0 11 (dk_at dksX1_requireState_0 1 rfl rfl)
theorem dX1_requireState_4 : decode cX1_requireState 4 = .ok (.new 7, 3) := dk_187 0 7 (dk_at dksX1_requireState_0 4 rfl rfl)
theorem dX1_requireState_7 : decode cX1_requireState 7 = .ok (.dup, 1) := dk_89 (dk_at dksX1_requireState_0 7 rfl rfl)
theorem dX1_requireState_8 : decode cX1_requireState 8 = .ok (.invokespecial 9, 3) := dk_183 0 9 (dk_at dksX1_requireState_0 8 rfl rfl)
theorem dX1_requireState_11 : decode cX1_requireState 11 = .ok (.athrow, 1) := dk_191 (dk_at dksX1_requireState_0 11 rfl rfl)
theorem dX1_requireState_12 : decode cX1_requireState 12 = .ok (.return_, 1) := dk_177 (dk_at dksX1_requireState_0 12 rfl rfl)
abbrev cX1_addDefect : ByteArray := prog_1_method_10_code
def yX1_addDefect : MethodName := ⟨RX1, "addDefect", "(IIII)I"⟩
def dkwX1_addDefect_6 : List UInt8 := [96, 181, 0, 86, 42, 180, 0, 86, 172]
abbrev dktX1_addDefect_6 : List UInt8 := dkwX1_addDefect_6 ++ []
def dkwX1_addDefect_5 : List UInt8 := [3, 184, 0, 70, 167, 255, 216, 25, 5, 180, 0, 115, 25, 6, 182, 0, 75, 87, 42, 89, 180, 0, 86, 4]
abbrev dktX1_addDefect_5 : List UInt8 := dkwX1_addDefect_5 ++ dktX1_addDefect_6
def dkwX1_addDefect_4 : List UInt8 := [185, 0, 105, 1, 0, 192, 0, 109, 58, 8, 25, 8, 25, 6, 182, 0, 111, 154, 0, 7, 4, 167, 0, 4]
abbrev dktX1_addDefect_4 : List UInt8 := dkwX1_addDefect_4 ++ dktX1_addDefect_5
def dkwX1_addDefect_3 : List UInt8 := [25, 5, 180, 0, 92, 182, 0, 95, 58, 7, 25, 7, 185, 0, 99, 1, 0, 153, 0, 36, 25, 7]
abbrev dktX1_addDefect_3 : List UInt8 := dkwX1_addDefect_3 ++ dktX1_addDefect_4
def dkwX1_addDefect_2 : List UInt8 := [162, 0, 7, 4, 167, 0, 4, 3, 184, 0, 70, 187, 0, 89, 89, 28, 29, 21, 4, 183, 0, 91, 58, 6]
abbrev dktX1_addDefect_2 : List UInt8 := dkwX1_addDefect_2 ++ dktX1_addDefect_3
def dkwX1_addDefect_1 : List UInt8 := [163, 0, 7, 4, 167, 0, 4, 3, 184, 0, 13, 4, 6, 21, 4, 184, 0, 62, 42, 180, 0, 86, 16, 24]
abbrev dktX1_addDefect_1 : List UInt8 := dkwX1_addDefect_1 ++ dktX1_addDefect_2
def dkwX1_addDefect_0 : List UInt8 := [42, 27, 182, 0, 79, 58, 5, 28, 155, 0, 21, 29, 28, 164, 0, 16, 29, 25, 5, 180, 0, 83]
abbrev dktX1_addDefect_0 : List UInt8 := dkwX1_addDefect_0 ++ dktX1_addDefect_1
theorem dksX1_addDefect_0 : cX1_addDefect.data.toList.drop 0 = dktX1_addDefect_0 := by decide +kernel
theorem dksX1_addDefect_1 : cX1_addDefect.data.toList.drop 22 = dktX1_addDefect_1 := dk_seg dksX1_addDefect_0 22 rfl rfl
theorem dksX1_addDefect_2 : cX1_addDefect.data.toList.drop 46 = dktX1_addDefect_2 := dk_seg dksX1_addDefect_1 24 rfl rfl
theorem dksX1_addDefect_3 : cX1_addDefect.data.toList.drop 70 = dktX1_addDefect_3 := dk_seg dksX1_addDefect_2 24 rfl rfl
theorem dksX1_addDefect_4 : cX1_addDefect.data.toList.drop 92 = dktX1_addDefect_4 := dk_seg dksX1_addDefect_3 22 rfl rfl
theorem dksX1_addDefect_5 : cX1_addDefect.data.toList.drop 116 = dktX1_addDefect_5 := dk_seg dksX1_addDefect_4 24 rfl rfl
theorem dksX1_addDefect_6 : cX1_addDefect.data.toList.drop 140 = dktX1_addDefect_6 := dk_seg dksX1_addDefect_5 24 rfl rfl
theorem dX1_addDefect_0 : decode cX1_addDefect 0 = .ok (.aload_n 0, 1) := dk_42 (dk_at dksX1_addDefect_0 0 rfl rfl)
theorem dX1_addDefect_1 : decode cX1_addDefect 1 = .ok (.iload_n 1, 1) := dk_27 (dk_at dksX1_addDefect_0 1 rfl rfl)
theorem dX1_addDefect_2 : decode cX1_addDefect 2 = .ok (.invokevirtual 79, 3) := dk_182 0 79 (dk_at dksX1_addDefect_0 2 rfl rfl)
theorem dX1_addDefect_5 : decode cX1_addDefect 5 = .ok (.astore 5, 2) := dk_58 5 (dk_at dksX1_addDefect_0 5 rfl rfl)
theorem dX1_addDefect_7 : decode cX1_addDefect 7 = .ok (.iload_n 2, 1) := dk_28 (dk_at dksX1_addDefect_0 7 rfl rfl)
theorem dX1_addDefect_8 : decode cX1_addDefect 8 = .ok (.ifCond .lt 21, 3) := dk_155 0 21 (dk_at dksX1_addDefect_0 8 rfl rfl)
theorem dX1_addDefect_11 : decode cX1_addDefect 11 = .ok (.iload_n 3, 1) := dk_29 (dk_at dksX1_addDefect_0 11 rfl rfl)
theorem dX1_addDefect_12 : decode cX1_addDefect 12 = .ok (.iload_n 2, 1) := dk_28 (dk_at dksX1_addDefect_0 12 rfl rfl)
theorem dX1_addDefect_13 : decode cX1_addDefect 13 = .ok (.if_icmp .le 16, 3) := dk_164 0 16 (dk_at dksX1_addDefect_0 13 rfl rfl)
theorem dX1_addDefect_16 : decode cX1_addDefect 16 = .ok (.iload_n 3, 1) := dk_29 (dk_at dksX1_addDefect_0 16 rfl rfl)
theorem dX1_addDefect_17 : decode cX1_addDefect 17 = .ok (.aload 5, 2) := dk_25 5 (dk_at dksX1_addDefect_0 17 rfl rfl)
theorem dX1_addDefect_19 : decode cX1_addDefect 19 = .ok (.getfield 83, 3) := dk_180 0 83 (dk_at dksX1_addDefect_0 19 rfl rfl)
theorem dX1_addDefect_22 : decode cX1_addDefect 22 = .ok (.if_icmp .gt 7, 3) := dk_163 0 7 (dk_at dksX1_addDefect_1 0 rfl rfl)
theorem dX1_addDefect_25 : decode cX1_addDefect 25 = .ok (.iconst 1, 1) := dk_4 (dk_at dksX1_addDefect_1 3 rfl rfl)
theorem dX1_addDefect_26 : decode cX1_addDefect 26 = .ok (.goto 4, 3) := dk_167 0 4 (dk_at dksX1_addDefect_1 4 rfl rfl)
theorem dX1_addDefect_29 : decode cX1_addDefect 29 = .ok (.iconst 0, 1) := dk_3 (dk_at dksX1_addDefect_1 7 rfl rfl)
theorem dX1_addDefect_30 : decode cX1_addDefect 30 = .ok (.invokestatic 13, 3) := dk_184 0 13 (dk_at dksX1_addDefect_1 8 rfl rfl)
theorem dX1_addDefect_33 : decode cX1_addDefect 33 = .ok (.iconst 1, 1) := dk_4 (dk_at dksX1_addDefect_1 11 rfl rfl)
theorem dX1_addDefect_34 : decode cX1_addDefect 34 = .ok (.iconst 3, 1) := dk_6 (dk_at dksX1_addDefect_1 12 rfl rfl)
theorem dX1_addDefect_35 : decode cX1_addDefect 35 = .ok (.iload 4, 2) := dk_21 4 (dk_at dksX1_addDefect_1 13 rfl rfl)
theorem dX1_addDefect_37 : decode cX1_addDefect 37 = .ok (.invokestatic 62, 3) := dk_184 0 62 (dk_at dksX1_addDefect_1 15 rfl rfl)
theorem dX1_addDefect_40 : decode cX1_addDefect 40 = .ok (.aload_n 0, 1) := dk_42 (dk_at dksX1_addDefect_1 18 rfl rfl)
theorem dX1_addDefect_41 : decode cX1_addDefect 41 = .ok (.getfield 86, 3) := dk_180 0 86 (dk_at dksX1_addDefect_1 19 rfl rfl)
theorem dX1_addDefect_44 : decode cX1_addDefect 44 = .ok (.bipush 24, 2) := dk_16 24 (dk_at dksX1_addDefect_1 22 rfl rfl)
theorem dX1_addDefect_46 : decode cX1_addDefect 46 = .ok (.if_icmp .ge 7, 3) := dk_162 0 7 (dk_at dksX1_addDefect_2 0 rfl rfl)
theorem dX1_addDefect_49 : decode cX1_addDefect 49 = .ok (.iconst 1, 1) := dk_4 (dk_at dksX1_addDefect_2 3 rfl rfl)
theorem dX1_addDefect_50 : decode cX1_addDefect 50 = .ok (.goto 4, 3) := dk_167 0 4 (dk_at dksX1_addDefect_2 4 rfl rfl)
theorem dX1_addDefect_53 : decode cX1_addDefect 53 = .ok (.iconst 0, 1) := dk_3 (dk_at dksX1_addDefect_2 7 rfl rfl)
theorem dX1_addDefect_54 : decode cX1_addDefect 54 = .ok (.invokestatic 70, 3) := dk_184 0 70 (dk_at dksX1_addDefect_2 8 rfl rfl)
theorem dX1_addDefect_57 : decode cX1_addDefect 57 = .ok (.new 89, 3) := dk_187 0 89 (dk_at dksX1_addDefect_2 11 rfl rfl)
theorem dX1_addDefect_60 : decode cX1_addDefect 60 = .ok (.dup, 1) := dk_89 (dk_at dksX1_addDefect_2 14 rfl rfl)
theorem dX1_addDefect_61 : decode cX1_addDefect 61 = .ok (.iload_n 2, 1) := dk_28 (dk_at dksX1_addDefect_2 15 rfl rfl)
theorem dX1_addDefect_62 : decode cX1_addDefect 62 = .ok (.iload_n 3, 1) := dk_29 (dk_at dksX1_addDefect_2 16 rfl rfl)
theorem dX1_addDefect_63 : decode cX1_addDefect 63 = .ok (.iload 4, 2) := dk_21 4 (dk_at dksX1_addDefect_2 17 rfl rfl)
theorem dX1_addDefect_65 : decode cX1_addDefect 65 = .ok (.invokespecial 91, 3) := dk_183 0 91 (dk_at dksX1_addDefect_2 19 rfl rfl)
theorem dX1_addDefect_68 : decode cX1_addDefect 68 = .ok (.astore 6, 2) := dk_58 6 (dk_at dksX1_addDefect_2 22 rfl rfl)
theorem dX1_addDefect_70 : decode cX1_addDefect 70 = .ok (.aload 5, 2) := dk_25 5 (dk_at dksX1_addDefect_3 0 rfl rfl)
theorem dX1_addDefect_72 : decode cX1_addDefect 72 = .ok (.getfield 92, 3) := dk_180 0 92 (dk_at dksX1_addDefect_3 2 rfl rfl)
theorem dX1_addDefect_75 : decode cX1_addDefect 75 = .ok (.invokevirtual 95, 3) := dk_182 0 95 (dk_at dksX1_addDefect_3 5 rfl rfl)
theorem dX1_addDefect_78 : decode cX1_addDefect 78 = .ok (.astore 7, 2) := dk_58 7 (dk_at dksX1_addDefect_3 8 rfl rfl)
theorem dX1_addDefect_80 : decode cX1_addDefect 80 = .ok (.aload 7, 2) := dk_25 7 (dk_at dksX1_addDefect_3 10 rfl rfl)
theorem dX1_addDefect_82 : decode cX1_addDefect 82 = .ok (.invokeinterface 99 1, 5) := by decide +kernel
theorem dX1_addDefect_87 : decode cX1_addDefect 87 = .ok (.ifCond .eq 36, 3) := dk_153 0 36 (dk_at dksX1_addDefect_3 17 rfl rfl)
theorem dX1_addDefect_90 : decode cX1_addDefect 90 = .ok (.aload 7, 2) := dk_25 7 (dk_at dksX1_addDefect_3 20 rfl rfl)
theorem dX1_addDefect_92 : decode cX1_addDefect 92 = .ok (.invokeinterface 105 1, 5) := by decide +kernel
theorem dX1_addDefect_97 : decode cX1_addDefect 97 = .ok (.checkcast 109, 3) := dk_192 0 109 (dk_at dksX1_addDefect_4 5 rfl rfl)
theorem dX1_addDefect_100 : decode cX1_addDefect 100 = .ok (.astore 8, 2) := dk_58 8 (dk_at dksX1_addDefect_4 8 rfl rfl)
theorem dX1_addDefect_102 : decode cX1_addDefect 102 = .ok (.aload 8, 2) := dk_25 8 (dk_at dksX1_addDefect_4 10 rfl rfl)
theorem dX1_addDefect_104 : decode cX1_addDefect 104 = .ok (.aload 6, 2) := dk_25 6 (dk_at dksX1_addDefect_4 12 rfl rfl)
theorem dX1_addDefect_106 : decode cX1_addDefect 106 = .ok (.invokevirtual 111, 3) := dk_182 0 111 (dk_at dksX1_addDefect_4 14 rfl rfl)
theorem dX1_addDefect_109 : decode cX1_addDefect 109 = .ok (.ifCond .ne 7, 3) := dk_154 0 7 (dk_at dksX1_addDefect_4 17 rfl rfl)
theorem dX1_addDefect_112 : decode cX1_addDefect 112 = .ok (.iconst 1, 1) := dk_4 (dk_at dksX1_addDefect_4 20 rfl rfl)
theorem dX1_addDefect_113 : decode cX1_addDefect 113 = .ok (.goto 4, 3) := dk_167 0 4 (dk_at dksX1_addDefect_4 21 rfl rfl)
theorem dX1_addDefect_116 : decode cX1_addDefect 116 = .ok (.iconst 0, 1) := dk_3 (dk_at dksX1_addDefect_5 0 rfl rfl)
theorem dX1_addDefect_117 : decode cX1_addDefect 117 = .ok (.invokestatic 70, 3) := dk_184 0 70 (dk_at dksX1_addDefect_5 1 rfl rfl)
theorem dX1_addDefect_120 : decode cX1_addDefect 120 = .ok (.goto (-40), 3) := dk_167 255 216 (dk_at dksX1_addDefect_5 4 rfl rfl)
theorem dX1_addDefect_123 : decode cX1_addDefect 123 = .ok (.aload 5, 2) := dk_25 5 (dk_at dksX1_addDefect_5 7 rfl rfl)
theorem dX1_addDefect_125 : decode cX1_addDefect 125 = .ok (.getfield 115, 3) := dk_180 0 115 (dk_at dksX1_addDefect_5 9 rfl rfl)
theorem dX1_addDefect_128 : decode cX1_addDefect 128 = .ok (.aload 6, 2) := dk_25 6 (dk_at dksX1_addDefect_5 12 rfl rfl)
theorem dX1_addDefect_130 : decode cX1_addDefect 130 = .ok (.invokevirtual 75, 3) := dk_182 0 75 (dk_at dksX1_addDefect_5 14 rfl rfl)
theorem dX1_addDefect_133 : decode cX1_addDefect 133 = .ok (.pop, 1) := dk_87 (dk_at dksX1_addDefect_5 17 rfl rfl)
theorem dX1_addDefect_134 : decode cX1_addDefect 134 = .ok (.aload_n 0, 1) := dk_42 (dk_at dksX1_addDefect_5 18 rfl rfl)
theorem dX1_addDefect_135 : decode cX1_addDefect 135 = .ok (.dup, 1) := dk_89 (dk_at dksX1_addDefect_5 19 rfl rfl)
theorem dX1_addDefect_136 : decode cX1_addDefect 136 = .ok (.getfield 86, 3) := dk_180 0 86 (dk_at dksX1_addDefect_5 20 rfl rfl)
theorem dX1_addDefect_139 : decode cX1_addDefect 139 = .ok (.iconst 1, 1) := dk_4 (dk_at dksX1_addDefect_5 23 rfl rfl)
theorem dX1_addDefect_140 : decode cX1_addDefect 140 = .ok (.iadd, 1) := dk_96 (dk_at dksX1_addDefect_6 0 rfl rfl)
theorem dX1_addDefect_141 : decode cX1_addDefect 141 = .ok (.putfield 86, 3) := dk_181 0 86 (dk_at dksX1_addDefect_6 1 rfl rfl)
theorem dX1_addDefect_144 : decode cX1_addDefect 144 = .ok (.aload_n 0, 1) := dk_42 (dk_at dksX1_addDefect_6 4 rfl rfl)
theorem dX1_addDefect_145 : decode cX1_addDefect 145 = .ok (.getfield 86, 3) := dk_180 0 86 (dk_at dksX1_addDefect_6 5 rfl rfl)
theorem dX1_addDefect_148 : decode cX1_addDefect 148 = .ok (.ireturn, 1) := dk_172 (dk_at dksX1_addDefect_6 8 rfl rfl)
abbrev cX1_board : ByteArray := prog_1_method_6_code
def yX1_board : MethodName := ⟨RX1, "board", "(I)LTimberList$Board;"⟩
def dkwX1_board_0 : List UInt8 := [27, 42, 180, 0, 25, 182, 0, 46, 184, 0, 50, 42, 180, 0, 25, 27, 182, 0, 54, 192, 0, 58, 176]
abbrev dktX1_board_0 : List UInt8 := dkwX1_board_0 ++ []
theorem dksX1_board_0 : cX1_board.data.toList.drop 0 = dktX1_board_0 := by decide +kernel
theorem dX1_board_0 : decode cX1_board 0 = .ok (.iload_n 1, 1) := dk_27 (dk_at dksX1_board_0 0 rfl rfl)
theorem dX1_board_1 : decode cX1_board 1 = .ok (.aload_n 0, 1) := dk_42 (dk_at dksX1_board_0 1 rfl rfl)
theorem dX1_board_2 : decode cX1_board 2 = .ok (.getfield 25, 3) := dk_180 0 25 (dk_at dksX1_board_0 2 rfl rfl)
theorem dX1_board_5 : decode cX1_board 5 = .ok (.invokevirtual 46, 3) := dk_182 0 46 (dk_at dksX1_board_0 5 rfl rfl)
theorem dX1_board_8 : decode cX1_board 8 = .ok (.invokestatic 50, 3) := dk_184 0 50 (dk_at dksX1_board_0 8 rfl rfl)
theorem dX1_board_11 : decode cX1_board 11 = .ok (.aload_n 0, 1) := dk_42 (dk_at dksX1_board_0 11 rfl rfl)
theorem dX1_board_12 : decode cX1_board 12 = .ok (.getfield 25, 3) := dk_180 0 25 (dk_at dksX1_board_0 12 rfl rfl)
theorem dX1_board_15 : decode cX1_board 15 = .ok (.iload_n 1, 1) := dk_27 (dk_at dksX1_board_0 15 rfl rfl)
theorem dX1_board_16 : decode cX1_board 16 = .ok (.invokevirtual 54, 3) := dk_182 0 54 (dk_at dksX1_board_0 16 rfl rfl)
theorem dX1_board_19 : decode cX1_board 19 = .ok (.checkcast 58, 3) := dk_192 0 58 (dk_at dksX1_board_0 19 rfl rfl)
theorem dX1_board_22 : decode cX1_board 22 = .ok (.areturn, 1) := dk_176 (dk_at dksX1_board_0 22 rfl rfl)
abbrev cX1_requireIndex : ByteArray := prog_1_method_3_code
def yX1_requireIndex : MethodName := ⟨RX1, "requireIndex", "(II)V"⟩
def dkwX1_requireIndex_0 : List UInt8 := [26, 155, 0, 8, 26, 27, 161, 0, 11, 187, 0, 10, 89, 183, 0, 12, 191, 177]
abbrev dktX1_requireIndex_0 : List UInt8 := dkwX1_requireIndex_0 ++ []
theorem dksX1_requireIndex_0 : cX1_requireIndex.data.toList.drop 0 = dktX1_requireIndex_0 := by decide +kernel
theorem dX1_requireIndex_0 : decode cX1_requireIndex 0 = .ok (.iload_n 0, 1) := dk_26 (dk_at dksX1_requireIndex_0 0 rfl rfl)
theorem dX1_requireIndex_1 : decode cX1_requireIndex 1 = .ok (.ifCond .lt 8, 3) := dk_155 0 8 (dk_at dksX1_requireIndex_0 1 rfl rfl)
theorem dX1_requireIndex_4 : decode cX1_requireIndex 4 = .ok (.iload_n 0, 1) := dk_26 (dk_at dksX1_requireIndex_0 4 rfl rfl)
theorem dX1_requireIndex_5 : decode cX1_requireIndex 5 = .ok (.iload_n 1, 1) := dk_27 (dk_at dksX1_requireIndex_0 5 rfl rfl)
theorem dX1_requireIndex_6 : decode cX1_requireIndex 6 = .ok (.if_icmp .lt 11, 3) := dk_161 0 11 (dk_at dksX1_requireIndex_0 6 rfl rfl)
theorem dX1_requireIndex_9 : decode cX1_requireIndex 9 = .ok (.new 10, 3) := dk_187 0 10 (dk_at dksX1_requireIndex_0 9 rfl rfl)
theorem dX1_requireIndex_12 : decode cX1_requireIndex 12 = .ok (.dup, 1) := dk_89 (dk_at dksX1_requireIndex_0 12 rfl rfl)
theorem dX1_requireIndex_13 : decode cX1_requireIndex 13 = .ok (.invokespecial 12, 3) := dk_183 0 12 (dk_at dksX1_requireIndex_0 13 rfl rfl)
theorem dX1_requireIndex_16 : decode cX1_requireIndex 16 = .ok (.athrow, 1) := dk_191 (dk_at dksX1_requireIndex_0 16 rfl rfl)
theorem dX1_requireIndex_17 : decode cX1_requireIndex 17 = .ok (.return_, 1) := dk_177 (dk_at dksX1_requireIndex_0 17 rfl rfl)
abbrev cX1_addPart : ByteArray := prog_1_method_11_code
def yX1_addPart : MethodName := ⟨RX1, "addPart", "(IIIIZ)I"⟩
def dkwX1_addPart_3 : List UInt8 := [21, 5, 183, 0, 117, 182, 0, 75, 87, 42, 180, 0, 29, 182, 0, 46, 4, 100, 172]
abbrev dktX1_addPart_3 : List UInt8 := dkwX1_addPart_3 ++ []
def dkwX1_addPart_2 : List UInt8 := [184, 0, 70, 42, 180, 0, 29, 187, 0, 60, 89, 42, 180, 0, 29, 182, 0, 46, 27, 28, 29, 21, 4]
abbrev dktX1_addPart_2 : List UInt8 := dkwX1_addPart_2 ++ dktX1_addPart_3
def dkwX1_addPart_1 : List UInt8 := [16, 9, 21, 4, 184, 0, 62, 42, 180, 0, 29, 182, 0, 46, 16, 12, 162, 0, 7, 4, 167, 0, 4, 3]
abbrev dktX1_addPart_1 : List UInt8 := dkwX1_addPart_1 ++ dktX1_addPart_2
def dkwX1_addPart_0 : List UInt8 := [16, 20, 17, 11, 184, 27, 184, 0, 62, 16, 10, 17, 1, 144, 28, 184, 0, 62, 29, 184, 0, 66, 4]
abbrev dktX1_addPart_0 : List UInt8 := dkwX1_addPart_0 ++ dktX1_addPart_1
theorem dksX1_addPart_0 : cX1_addPart.data.toList.drop 0 = dktX1_addPart_0 := by decide +kernel
theorem dksX1_addPart_1 : cX1_addPart.data.toList.drop 23 = dktX1_addPart_1 := dk_seg dksX1_addPart_0 23 rfl rfl
theorem dksX1_addPart_2 : cX1_addPart.data.toList.drop 47 = dktX1_addPart_2 := dk_seg dksX1_addPart_1 24 rfl rfl
theorem dksX1_addPart_3 : cX1_addPart.data.toList.drop 70 = dktX1_addPart_3 := dk_seg dksX1_addPart_2 23 rfl rfl
theorem dX1_addPart_0 : decode cX1_addPart 0 = .ok (.bipush 20, 2) := dk_16 20 (dk_at dksX1_addPart_0 0 rfl rfl)
theorem dX1_addPart_2 : decode cX1_addPart 2 = .ok (.sipush 3000, 3) := dk_17 11 184 (dk_at dksX1_addPart_0 2 rfl rfl)
theorem dX1_addPart_5 : decode cX1_addPart 5 = .ok (.iload_n 1, 1) := dk_27 (dk_at dksX1_addPart_0 5 rfl rfl)
theorem dX1_addPart_6 : decode cX1_addPart 6 = .ok (.invokestatic 62, 3) := dk_184 0 62 (dk_at dksX1_addPart_0 6 rfl rfl)
theorem dX1_addPart_9 : decode cX1_addPart 9 = .ok (.bipush 10, 2) := dk_16 10 (dk_at dksX1_addPart_0 9 rfl rfl)
theorem dX1_addPart_11 : decode cX1_addPart 11 = .ok (.sipush 400, 3) := dk_17 1 144 (dk_at dksX1_addPart_0 11 rfl rfl)
theorem dX1_addPart_14 : decode cX1_addPart 14 = .ok (.iload_n 2, 1) := dk_28 (dk_at dksX1_addPart_0 14 rfl rfl)
theorem dX1_addPart_15 : decode cX1_addPart 15 = .ok (.invokestatic 62, 3) := dk_184 0 62 (dk_at dksX1_addPart_0 15 rfl rfl)
theorem dX1_addPart_18 : decode cX1_addPart 18 = .ok (.iload_n 3, 1) := dk_29 (dk_at dksX1_addPart_0 18 rfl rfl)
theorem dX1_addPart_19 : decode cX1_addPart 19 = .ok (.invokestatic 66, 3) := dk_184 0 66 (dk_at dksX1_addPart_0 19 rfl rfl)
theorem dX1_addPart_22 : decode cX1_addPart 22 = .ok (.iconst 1, 1) := dk_4 (dk_at dksX1_addPart_0 22 rfl rfl)
theorem dX1_addPart_23 : decode cX1_addPart 23 = .ok (.bipush 9, 2) := dk_16 9 (dk_at dksX1_addPart_1 0 rfl rfl)
theorem dX1_addPart_25 : decode cX1_addPart 25 = .ok (.iload 4, 2) := dk_21 4 (dk_at dksX1_addPart_1 2 rfl rfl)
theorem dX1_addPart_27 : decode cX1_addPart 27 = .ok (.invokestatic 62, 3) := dk_184 0 62 (dk_at dksX1_addPart_1 4 rfl rfl)
theorem dX1_addPart_30 : decode cX1_addPart 30 = .ok (.aload_n 0, 1) := dk_42 (dk_at dksX1_addPart_1 7 rfl rfl)
theorem dX1_addPart_31 : decode cX1_addPart 31 = .ok (.getfield 29, 3) := dk_180 0 29 (dk_at dksX1_addPart_1 8 rfl rfl)
theorem dX1_addPart_34 : decode cX1_addPart 34 = .ok (.invokevirtual 46, 3) := dk_182 0 46 (dk_at dksX1_addPart_1 11 rfl rfl)
theorem dX1_addPart_37 : decode cX1_addPart 37 = .ok (.bipush 12, 2) := dk_16 12 (dk_at dksX1_addPart_1 14 rfl rfl)
theorem dX1_addPart_39 : decode cX1_addPart 39 = .ok (.if_icmp .ge 7, 3) := dk_162 0 7 (dk_at dksX1_addPart_1 16 rfl rfl)
theorem dX1_addPart_42 : decode cX1_addPart 42 = .ok (.iconst 1, 1) := dk_4 (dk_at dksX1_addPart_1 19 rfl rfl)
theorem dX1_addPart_43 : decode cX1_addPart 43 = .ok (.goto 4, 3) := dk_167 0 4 (dk_at dksX1_addPart_1 20 rfl rfl)
theorem dX1_addPart_46 : decode cX1_addPart 46 = .ok (.iconst 0, 1) := dk_3 (dk_at dksX1_addPart_1 23 rfl rfl)
theorem dX1_addPart_47 : decode cX1_addPart 47 = .ok (.invokestatic 70, 3) := dk_184 0 70 (dk_at dksX1_addPart_2 0 rfl rfl)
theorem dX1_addPart_50 : decode cX1_addPart 50 = .ok (.aload_n 0, 1) := dk_42 (dk_at dksX1_addPart_2 3 rfl rfl)
theorem dX1_addPart_51 : decode cX1_addPart 51 = .ok (.getfield 29, 3) := dk_180 0 29 (dk_at dksX1_addPart_2 4 rfl rfl)
theorem dX1_addPart_54 : decode cX1_addPart 54 = .ok (.new 60, 3) := dk_187 0 60 (dk_at dksX1_addPart_2 7 rfl rfl)
theorem dX1_addPart_57 : decode cX1_addPart 57 = .ok (.dup, 1) := dk_89 (dk_at dksX1_addPart_2 10 rfl rfl)
theorem dX1_addPart_58 : decode cX1_addPart 58 = .ok (.aload_n 0, 1) := dk_42 (dk_at dksX1_addPart_2 11 rfl rfl)
theorem dX1_addPart_59 : decode cX1_addPart 59 = .ok (.getfield 29, 3) := dk_180 0 29 (dk_at dksX1_addPart_2 12 rfl rfl)
theorem dX1_addPart_62 : decode cX1_addPart 62 = .ok (.invokevirtual 46, 3) := dk_182 0 46 (dk_at dksX1_addPart_2 15 rfl rfl)
theorem dX1_addPart_65 : decode cX1_addPart 65 = .ok (.iload_n 1, 1) := dk_27 (dk_at dksX1_addPart_2 18 rfl rfl)
theorem dX1_addPart_66 : decode cX1_addPart 66 = .ok (.iload_n 2, 1) := dk_28 (dk_at dksX1_addPart_2 19 rfl rfl)
theorem dX1_addPart_67 : decode cX1_addPart 67 = .ok (.iload_n 3, 1) := dk_29 (dk_at dksX1_addPart_2 20 rfl rfl)
theorem dX1_addPart_68 : decode cX1_addPart 68 = .ok (.iload 4, 2) := dk_21 4 (dk_at dksX1_addPart_2 21 rfl rfl)
theorem dX1_addPart_70 : decode cX1_addPart 70 = .ok (.iload 5, 2) := dk_21 5 (dk_at dksX1_addPart_3 0 rfl rfl)
theorem dX1_addPart_72 : decode cX1_addPart 72 = .ok (.invokespecial 117, 3) := dk_183 0 117 (dk_at dksX1_addPart_3 2 rfl rfl)
theorem dX1_addPart_75 : decode cX1_addPart 75 = .ok (.invokevirtual 75, 3) := dk_182 0 75 (dk_at dksX1_addPart_3 5 rfl rfl)
theorem dX1_addPart_78 : decode cX1_addPart 78 = .ok (.pop, 1) := dk_87 (dk_at dksX1_addPart_3 8 rfl rfl)
theorem dX1_addPart_79 : decode cX1_addPart 79 = .ok (.aload_n 0, 1) := dk_42 (dk_at dksX1_addPart_3 9 rfl rfl)
theorem dX1_addPart_80 : decode cX1_addPart 80 = .ok (.getfield 29, 3) := dk_180 0 29 (dk_at dksX1_addPart_3 10 rfl rfl)
theorem dX1_addPart_83 : decode cX1_addPart 83 = .ok (.invokevirtual 46, 3) := dk_182 0 46 (dk_at dksX1_addPart_3 13 rfl rfl)
theorem dX1_addPart_86 : decode cX1_addPart 86 = .ok (.iconst 1, 1) := dk_4 (dk_at dksX1_addPart_3 16 rfl rfl)
theorem dX1_addPart_87 : decode cX1_addPart 87 = .ok (.isub, 1) := dk_100 (dk_at dksX1_addPart_3 17 rfl rfl)
theorem dX1_addPart_88 : decode cX1_addPart 88 = .ok (.ireturn, 1) := dk_172 (dk_at dksX1_addPart_3 18 rfl rfl)
abbrev cX1_setSaw : ByteArray := prog_1_method_12_code
def yX1_setSaw : MethodName := ⟨RX1, "setSaw", "(I)I"⟩
def dkwX1_setSaw_1 : List UInt8 := [181, 0, 39, 28, 172]
abbrev dktX1_setSaw_1 : List UInt8 := dkwX1_setSaw_1 ++ []
def dkwX1_setSaw_0 : List UInt8 := [3, 16, 10, 27, 184, 0, 62, 42, 180, 0, 35, 182, 0, 120, 184, 0, 70, 42, 180, 0, 39, 61, 42, 27]
abbrev dktX1_setSaw_0 : List UInt8 := dkwX1_setSaw_0 ++ dktX1_setSaw_1
theorem dksX1_setSaw_0 : cX1_setSaw.data.toList.drop 0 = dktX1_setSaw_0 := by decide +kernel
theorem dksX1_setSaw_1 : cX1_setSaw.data.toList.drop 24 = dktX1_setSaw_1 := dk_seg dksX1_setSaw_0 24 rfl rfl
theorem dX1_setSaw_0 : decode cX1_setSaw 0 = .ok (.iconst 0, 1) := dk_3 (dk_at dksX1_setSaw_0 0 rfl rfl)
theorem dX1_setSaw_1 : decode cX1_setSaw 1 = .ok (.bipush 10, 2) := dk_16 10 (dk_at dksX1_setSaw_0 1 rfl rfl)
theorem dX1_setSaw_3 : decode cX1_setSaw 3 = .ok (.iload_n 1, 1) := dk_27 (dk_at dksX1_setSaw_0 3 rfl rfl)
theorem dX1_setSaw_4 : decode cX1_setSaw 4 = .ok (.invokestatic 62, 3) := dk_184 0 62 (dk_at dksX1_setSaw_0 4 rfl rfl)
theorem dX1_setSaw_7 : decode cX1_setSaw 7 = .ok (.aload_n 0, 1) := dk_42 (dk_at dksX1_setSaw_0 7 rfl rfl)
theorem dX1_setSaw_8 : decode cX1_setSaw 8 = .ok (.getfield 35, 3) := dk_180 0 35 (dk_at dksX1_setSaw_0 8 rfl rfl)
theorem dX1_setSaw_11 : decode cX1_setSaw 11 = .ok (.invokevirtual 120, 3) := dk_182 0 120 (dk_at dksX1_setSaw_0 11 rfl rfl)
theorem dX1_setSaw_14 : decode cX1_setSaw 14 = .ok (.invokestatic 70, 3) := dk_184 0 70 (dk_at dksX1_setSaw_0 14 rfl rfl)
theorem dX1_setSaw_17 : decode cX1_setSaw 17 = .ok (.aload_n 0, 1) := dk_42 (dk_at dksX1_setSaw_0 17 rfl rfl)
theorem dX1_setSaw_18 : decode cX1_setSaw 18 = .ok (.getfield 39, 3) := dk_180 0 39 (dk_at dksX1_setSaw_0 18 rfl rfl)
theorem dX1_setSaw_21 : decode cX1_setSaw 21 = .ok (.istore_n 2, 1) := dk_61 (dk_at dksX1_setSaw_0 21 rfl rfl)
theorem dX1_setSaw_22 : decode cX1_setSaw 22 = .ok (.aload_n 0, 1) := dk_42 (dk_at dksX1_setSaw_0 22 rfl rfl)
theorem dX1_setSaw_23 : decode cX1_setSaw 23 = .ok (.iload_n 1, 1) := dk_27 (dk_at dksX1_setSaw_0 23 rfl rfl)
theorem dX1_setSaw_24 : decode cX1_setSaw 24 = .ok (.putfield 39, 3) := dk_181 0 39 (dk_at dksX1_setSaw_1 0 rfl rfl)
theorem dX1_setSaw_27 : decode cX1_setSaw 27 = .ok (.iload_n 2, 1) := dk_28 (dk_at dksX1_setSaw_1 3 rfl rfl)
theorem dX1_setSaw_28 : decode cX1_setSaw 28 = .ok (.ireturn, 1) := dk_172 (dk_at dksX1_setSaw_1 4 rfl rfl)
abbrev cX1_setJoint : ByteArray := prog_1_method_13_code
def yX1_setJoint : MethodName := ⟨RX1, "setJoint", "(I)I"⟩
def dkwX1_setJoint_0 : List UInt8 := [3, 16, 50, 27, 184, 0, 62, 42, 180, 0, 43, 61, 42, 27, 181, 0, 43, 28, 172]
abbrev dktX1_setJoint_0 : List UInt8 := dkwX1_setJoint_0 ++ []
theorem dksX1_setJoint_0 : cX1_setJoint.data.toList.drop 0 = dktX1_setJoint_0 := by decide +kernel
theorem dX1_setJoint_0 : decode cX1_setJoint 0 = .ok (.iconst 0, 1) := dk_3 (dk_at dksX1_setJoint_0 0 rfl rfl)
theorem dX1_setJoint_1 : decode cX1_setJoint 1 = .ok (.bipush 50, 2) := dk_16 50 (dk_at dksX1_setJoint_0 1 rfl rfl)
theorem dX1_setJoint_3 : decode cX1_setJoint 3 = .ok (.iload_n 1, 1) := dk_27 (dk_at dksX1_setJoint_0 3 rfl rfl)
theorem dX1_setJoint_4 : decode cX1_setJoint 4 = .ok (.invokestatic 62, 3) := dk_184 0 62 (dk_at dksX1_setJoint_0 4 rfl rfl)
theorem dX1_setJoint_7 : decode cX1_setJoint 7 = .ok (.aload_n 0, 1) := dk_42 (dk_at dksX1_setJoint_0 7 rfl rfl)
theorem dX1_setJoint_8 : decode cX1_setJoint 8 = .ok (.getfield 43, 3) := dk_180 0 43 (dk_at dksX1_setJoint_0 8 rfl rfl)
theorem dX1_setJoint_11 : decode cX1_setJoint 11 = .ok (.istore_n 2, 1) := dk_61 (dk_at dksX1_setJoint_0 11 rfl rfl)
theorem dX1_setJoint_12 : decode cX1_setJoint 12 = .ok (.aload_n 0, 1) := dk_42 (dk_at dksX1_setJoint_0 12 rfl rfl)
theorem dX1_setJoint_13 : decode cX1_setJoint 13 = .ok (.iload_n 1, 1) := dk_27 (dk_at dksX1_setJoint_0 13 rfl rfl)
theorem dX1_setJoint_14 : decode cX1_setJoint 14 = .ok (.putfield 43, 3) := dk_181 0 43 (dk_at dksX1_setJoint_0 14 rfl rfl)
theorem dX1_setJoint_17 : decode cX1_setJoint 17 = .ok (.iload_n 2, 1) := dk_28 (dk_at dksX1_setJoint_0 17 rfl rfl)
theorem dX1_setJoint_18 : decode cX1_setJoint 18 = .ok (.ireturn, 1) := dk_172 (dk_at dksX1_setJoint_0 18 rfl rfl)
abbrev cX1_grade : ByteArray := prog_1_method_14_code
def yX1_grade : MethodName := ⟨RX1, "grade", "(II)I"⟩
def dkwX1_grade_0 : List UInt8 := [42, 27, 182, 0, 79, 78, 28, 45, 180, 0, 83, 184, 0, 50, 45, 28, 182, 0, 123, 172]
abbrev dktX1_grade_0 : List UInt8 := dkwX1_grade_0 ++ []
theorem dksX1_grade_0 : cX1_grade.data.toList.drop 0 = dktX1_grade_0 := by decide +kernel
theorem dX1_grade_0 : decode cX1_grade 0 = .ok (.aload_n 0, 1) := dk_42 (dk_at dksX1_grade_0 0 rfl rfl)
theorem dX1_grade_1 : decode cX1_grade 1 = .ok (.iload_n 1, 1) := dk_27 (dk_at dksX1_grade_0 1 rfl rfl)
theorem dX1_grade_2 : decode cX1_grade 2 = .ok (.invokevirtual 79, 3) := dk_182 0 79 (dk_at dksX1_grade_0 2 rfl rfl)
theorem dX1_grade_5 : decode cX1_grade 5 = .ok (.astore_n 3, 1) := dk_78 (dk_at dksX1_grade_0 5 rfl rfl)
theorem dX1_grade_6 : decode cX1_grade 6 = .ok (.iload_n 2, 1) := dk_28 (dk_at dksX1_grade_0 6 rfl rfl)
theorem dX1_grade_7 : decode cX1_grade 7 = .ok (.aload_n 3, 1) := dk_45 (dk_at dksX1_grade_0 7 rfl rfl)
theorem dX1_grade_8 : decode cX1_grade 8 = .ok (.getfield 83, 3) := dk_180 0 83 (dk_at dksX1_grade_0 8 rfl rfl)
theorem dX1_grade_11 : decode cX1_grade 11 = .ok (.invokestatic 50, 3) := dk_184 0 50 (dk_at dksX1_grade_0 11 rfl rfl)
theorem dX1_grade_14 : decode cX1_grade 14 = .ok (.aload_n 3, 1) := dk_45 (dk_at dksX1_grade_0 14 rfl rfl)
theorem dX1_grade_15 : decode cX1_grade 15 = .ok (.iload_n 2, 1) := dk_28 (dk_at dksX1_grade_0 15 rfl rfl)
theorem dX1_grade_16 : decode cX1_grade 16 = .ok (.invokevirtual 123, 3) := dk_182 0 123 (dk_at dksX1_grade_0 16 rfl rfl)
theorem dX1_grade_19 : decode cX1_grade 19 = .ok (.ireturn, 1) := dk_172 (dk_at dksX1_grade_0 19 rfl rfl)
abbrev cX1_stretches : ByteArray := prog_1_method_15_code
def yX1_stretches : MethodName := ⟨RX1, "stretches", "(II)I"⟩
def dkwX1_stretches_2 : List UInt8 := [172]
abbrev dktX1_stretches_2 : List UInt8 := dkwX1_stretches_2 ++ []
def dkwX1_stretches_1 : List UInt8 := [185, 0, 99, 1, 0, 153, 0, 17, 132, 4, 1, 25, 5, 185, 0, 105, 1, 0, 87, 167, 255, 235, 21, 4]
abbrev dktX1_stretches_1 : List UInt8 := dkwX1_stretches_1 ++ dktX1_stretches_2
def dkwX1_stretches_0 : List UInt8 := [42, 27, 182, 0, 79, 78, 28, 184, 0, 66, 3, 54, 4, 45, 28, 182, 0, 127, 58, 5, 25, 5]
abbrev dktX1_stretches_0 : List UInt8 := dkwX1_stretches_0 ++ dktX1_stretches_1
theorem dksX1_stretches_0 : cX1_stretches.data.toList.drop 0 = dktX1_stretches_0 := by decide +kernel
theorem dksX1_stretches_1 : cX1_stretches.data.toList.drop 22 = dktX1_stretches_1 := dk_seg dksX1_stretches_0 22 rfl rfl
theorem dksX1_stretches_2 : cX1_stretches.data.toList.drop 46 = dktX1_stretches_2 := dk_seg dksX1_stretches_1 24 rfl rfl
theorem dX1_stretches_0 : decode cX1_stretches 0 = .ok (.aload_n 0, 1) := dk_42 (dk_at dksX1_stretches_0 0 rfl rfl)
theorem dX1_stretches_1 : decode cX1_stretches 1 = .ok (.iload_n 1, 1) := dk_27 (dk_at dksX1_stretches_0 1 rfl rfl)
theorem dX1_stretches_2 : decode cX1_stretches 2 = .ok (.invokevirtual 79, 3) := dk_182 0 79 (dk_at dksX1_stretches_0 2 rfl rfl)
theorem dX1_stretches_5 : decode cX1_stretches 5 = .ok (.astore_n 3, 1) := dk_78 (dk_at dksX1_stretches_0 5 rfl rfl)
theorem dX1_stretches_6 : decode cX1_stretches 6 = .ok (.iload_n 2, 1) := dk_28 (dk_at dksX1_stretches_0 6 rfl rfl)
theorem dX1_stretches_7 : decode cX1_stretches 7 = .ok (.invokestatic 66, 3) := dk_184 0 66 (dk_at dksX1_stretches_0 7 rfl rfl)
theorem dX1_stretches_10 : decode cX1_stretches 10 = .ok (.iconst 0, 1) := dk_3 (dk_at dksX1_stretches_0 10 rfl rfl)
theorem dX1_stretches_11 : decode cX1_stretches 11 = .ok (.istore 4, 2) := dk_54 4 (dk_at dksX1_stretches_0 11 rfl rfl)
theorem dX1_stretches_13 : decode cX1_stretches 13 = .ok (.aload_n 3, 1) := dk_45 (dk_at dksX1_stretches_0 13 rfl rfl)
theorem dX1_stretches_14 : decode cX1_stretches 14 = .ok (.iload_n 2, 1) := dk_28 (dk_at dksX1_stretches_0 14 rfl rfl)
theorem dX1_stretches_15 : decode cX1_stretches 15 = .ok (.invokevirtual 127, 3) := dk_182 0 127 (dk_at dksX1_stretches_0 15 rfl rfl)
theorem dX1_stretches_18 : decode cX1_stretches 18 = .ok (.astore 5, 2) := dk_58 5 (dk_at dksX1_stretches_0 18 rfl rfl)
theorem dX1_stretches_20 : decode cX1_stretches 20 = .ok (.aload 5, 2) := dk_25 5 (dk_at dksX1_stretches_0 20 rfl rfl)
theorem dX1_stretches_22 : decode cX1_stretches 22 = .ok (.invokeinterface 99 1, 5) := by decide +kernel
theorem dX1_stretches_27 : decode cX1_stretches 27 = .ok (.ifCond .eq 17, 3) := dk_153 0 17 (dk_at dksX1_stretches_1 5 rfl rfl)
theorem dX1_stretches_30 : decode cX1_stretches 30 = .ok (.iinc 4 1, 3) := dk_132 4 1 (dk_at dksX1_stretches_1 8 rfl rfl)
theorem dX1_stretches_33 : decode cX1_stretches 33 = .ok (.aload 5, 2) := dk_25 5 (dk_at dksX1_stretches_1 11 rfl rfl)
theorem dX1_stretches_35 : decode cX1_stretches 35 = .ok (.invokeinterface 105 1, 5) := by decide +kernel
theorem dX1_stretches_40 : decode cX1_stretches 40 = .ok (.pop, 1) := dk_87 (dk_at dksX1_stretches_1 18 rfl rfl)
theorem dX1_stretches_41 : decode cX1_stretches 41 = .ok (.goto (-21), 3) := dk_167 255 235 (dk_at dksX1_stretches_1 19 rfl rfl)
theorem dX1_stretches_44 : decode cX1_stretches 44 = .ok (.iload 4, 2) := dk_21 4 (dk_at dksX1_stretches_1 22 rfl rfl)
theorem dX1_stretches_46 : decode cX1_stretches 46 = .ok (.ireturn, 1) := dk_172 (dk_at dksX1_stretches_2 0 rfl rfl)
abbrev cX1_stretch : ByteArray := prog_1_method_16_code
def yX1_stretch : MethodName := ⟨RX1, "stretch", "(IIIZ)I"⟩
def dkwX1_stretch_4 : List UInt8 := [180, 0, 133, 167, 0, 8, 25, 7, 180, 0, 136, 172]
abbrev dktX1_stretch_4 : List UInt8 := dkwX1_stretch_4 ++ []
def dkwX1_stretch_3 : List UInt8 := [184, 0, 13, 25, 6, 185, 0, 105, 1, 0, 192, 0, 131, 58, 7, 21, 4, 153, 0, 11, 25, 7]
abbrev dktX1_stretch_3 : List UInt8 := dkwX1_stretch_3 ++ dktX1_stretch_4
def dkwX1_stretch_2 : List UInt8 := [153, 0, 17, 25, 6, 185, 0, 105, 1, 0, 87, 132, 7, 1, 167, 255, 229, 25, 6, 185, 0, 99, 1, 0]
abbrev dktX1_stretch_2 : List UInt8 := dkwX1_stretch_2 ++ dktX1_stretch_3
def dkwX1_stretch_1 : List UInt8 := [25, 5, 28, 182, 0, 127, 58, 6, 3, 54, 7, 21, 7, 29, 162, 0, 27, 25, 6, 185, 0, 99, 1, 0]
abbrev dktX1_stretch_1 : List UInt8 := dkwX1_stretch_1 ++ dktX1_stretch_2
def dkwX1_stretch_0 : List UInt8 := [42, 27, 182, 0, 79, 58, 5, 28, 184, 0, 66, 29, 155, 0, 7, 4, 167, 0, 4, 3, 184, 0, 13]
abbrev dktX1_stretch_0 : List UInt8 := dkwX1_stretch_0 ++ dktX1_stretch_1
theorem dksX1_stretch_0 : cX1_stretch.data.toList.drop 0 = dktX1_stretch_0 := by decide +kernel
theorem dksX1_stretch_1 : cX1_stretch.data.toList.drop 23 = dktX1_stretch_1 := dk_seg dksX1_stretch_0 23 rfl rfl
theorem dksX1_stretch_2 : cX1_stretch.data.toList.drop 47 = dktX1_stretch_2 := dk_seg dksX1_stretch_1 24 rfl rfl
theorem dksX1_stretch_3 : cX1_stretch.data.toList.drop 71 = dktX1_stretch_3 := dk_seg dksX1_stretch_2 24 rfl rfl
theorem dksX1_stretch_4 : cX1_stretch.data.toList.drop 93 = dktX1_stretch_4 := dk_seg dksX1_stretch_3 22 rfl rfl
theorem dX1_stretch_0 : decode cX1_stretch 0 = .ok (.aload_n 0, 1) := dk_42 (dk_at dksX1_stretch_0 0 rfl rfl)
theorem dX1_stretch_1 : decode cX1_stretch 1 = .ok (.iload_n 1, 1) := dk_27 (dk_at dksX1_stretch_0 1 rfl rfl)
theorem dX1_stretch_2 : decode cX1_stretch 2 = .ok (.invokevirtual 79, 3) := dk_182 0 79 (dk_at dksX1_stretch_0 2 rfl rfl)
theorem dX1_stretch_5 : decode cX1_stretch 5 = .ok (.astore 5, 2) := dk_58 5 (dk_at dksX1_stretch_0 5 rfl rfl)
theorem dX1_stretch_7 : decode cX1_stretch 7 = .ok (.iload_n 2, 1) := dk_28 (dk_at dksX1_stretch_0 7 rfl rfl)
theorem dX1_stretch_8 : decode cX1_stretch 8 = .ok (.invokestatic 66, 3) := dk_184 0 66 (dk_at dksX1_stretch_0 8 rfl rfl)
theorem dX1_stretch_11 : decode cX1_stretch 11 = .ok (.iload_n 3, 1) := dk_29 (dk_at dksX1_stretch_0 11 rfl rfl)
theorem dX1_stretch_12 : decode cX1_stretch 12 = .ok (.ifCond .lt 7, 3) := dk_155 0 7 (dk_at dksX1_stretch_0 12 rfl rfl)
theorem dX1_stretch_15 : decode cX1_stretch 15 = .ok (.iconst 1, 1) := dk_4 (dk_at dksX1_stretch_0 15 rfl rfl)
theorem dX1_stretch_16 : decode cX1_stretch 16 = .ok (.goto 4, 3) := dk_167 0 4 (dk_at dksX1_stretch_0 16 rfl rfl)
theorem dX1_stretch_19 : decode cX1_stretch 19 = .ok (.iconst 0, 1) := dk_3 (dk_at dksX1_stretch_0 19 rfl rfl)
theorem dX1_stretch_20 : decode cX1_stretch 20 = .ok (.invokestatic 13, 3) := dk_184 0 13 (dk_at dksX1_stretch_0 20 rfl rfl)
theorem dX1_stretch_23 : decode cX1_stretch 23 = .ok (.aload 5, 2) := dk_25 5 (dk_at dksX1_stretch_1 0 rfl rfl)
theorem dX1_stretch_25 : decode cX1_stretch 25 = .ok (.iload_n 2, 1) := dk_28 (dk_at dksX1_stretch_1 2 rfl rfl)
theorem dX1_stretch_26 : decode cX1_stretch 26 = .ok (.invokevirtual 127, 3) := dk_182 0 127 (dk_at dksX1_stretch_1 3 rfl rfl)
theorem dX1_stretch_29 : decode cX1_stretch 29 = .ok (.astore 6, 2) := dk_58 6 (dk_at dksX1_stretch_1 6 rfl rfl)
theorem dX1_stretch_31 : decode cX1_stretch 31 = .ok (.iconst 0, 1) := dk_3 (dk_at dksX1_stretch_1 8 rfl rfl)
theorem dX1_stretch_32 : decode cX1_stretch 32 = .ok (.istore 7, 2) := dk_54 7 (dk_at dksX1_stretch_1 9 rfl rfl)
theorem dX1_stretch_34 : decode cX1_stretch 34 = .ok (.iload 7, 2) := dk_21 7 (dk_at dksX1_stretch_1 11 rfl rfl)
theorem dX1_stretch_36 : decode cX1_stretch 36 = .ok (.iload_n 3, 1) := dk_29 (dk_at dksX1_stretch_1 13 rfl rfl)
theorem dX1_stretch_37 : decode cX1_stretch 37 = .ok (.if_icmp .ge 27, 3) := dk_162 0 27 (dk_at dksX1_stretch_1 14 rfl rfl)
theorem dX1_stretch_40 : decode cX1_stretch 40 = .ok (.aload 6, 2) := dk_25 6 (dk_at dksX1_stretch_1 17 rfl rfl)
theorem dX1_stretch_42 : decode cX1_stretch 42 = .ok (.invokeinterface 99 1, 5) := by decide +kernel
theorem dX1_stretch_47 : decode cX1_stretch 47 = .ok (.ifCond .eq 17, 3) := dk_153 0 17 (dk_at dksX1_stretch_2 0 rfl rfl)
theorem dX1_stretch_50 : decode cX1_stretch 50 = .ok (.aload 6, 2) := dk_25 6 (dk_at dksX1_stretch_2 3 rfl rfl)
theorem dX1_stretch_52 : decode cX1_stretch 52 = .ok (.invokeinterface 105 1, 5) := by decide +kernel
theorem dX1_stretch_57 : decode cX1_stretch 57 = .ok (.pop, 1) := dk_87 (dk_at dksX1_stretch_2 10 rfl rfl)
theorem dX1_stretch_58 : decode cX1_stretch 58 = .ok (.iinc 7 1, 3) := dk_132 7 1 (dk_at dksX1_stretch_2 11 rfl rfl)
theorem dX1_stretch_61 : decode cX1_stretch 61 = .ok (.goto (-27), 3) := dk_167 255 229 (dk_at dksX1_stretch_2 14 rfl rfl)
theorem dX1_stretch_64 : decode cX1_stretch 64 = .ok (.aload 6, 2) := dk_25 6 (dk_at dksX1_stretch_2 17 rfl rfl)
theorem dX1_stretch_66 : decode cX1_stretch 66 = .ok (.invokeinterface 99 1, 5) := by decide +kernel
theorem dX1_stretch_71 : decode cX1_stretch 71 = .ok (.invokestatic 13, 3) := dk_184 0 13 (dk_at dksX1_stretch_3 0 rfl rfl)
theorem dX1_stretch_74 : decode cX1_stretch 74 = .ok (.aload 6, 2) := dk_25 6 (dk_at dksX1_stretch_3 3 rfl rfl)
theorem dX1_stretch_76 : decode cX1_stretch 76 = .ok (.invokeinterface 105 1, 5) := by decide +kernel
theorem dX1_stretch_81 : decode cX1_stretch 81 = .ok (.checkcast 131, 3) := dk_192 0 131 (dk_at dksX1_stretch_3 10 rfl rfl)
theorem dX1_stretch_84 : decode cX1_stretch 84 = .ok (.astore 7, 2) := dk_58 7 (dk_at dksX1_stretch_3 13 rfl rfl)
theorem dX1_stretch_86 : decode cX1_stretch 86 = .ok (.iload 4, 2) := dk_21 4 (dk_at dksX1_stretch_3 15 rfl rfl)
theorem dX1_stretch_88 : decode cX1_stretch 88 = .ok (.ifCond .eq 11, 3) := dk_153 0 11 (dk_at dksX1_stretch_3 17 rfl rfl)
theorem dX1_stretch_91 : decode cX1_stretch 91 = .ok (.aload 7, 2) := dk_25 7 (dk_at dksX1_stretch_3 20 rfl rfl)
theorem dX1_stretch_93 : decode cX1_stretch 93 = .ok (.getfield 133, 3) := dk_180 0 133 (dk_at dksX1_stretch_4 0 rfl rfl)
theorem dX1_stretch_96 : decode cX1_stretch 96 = .ok (.goto 8, 3) := dk_167 0 8 (dk_at dksX1_stretch_4 3 rfl rfl)
theorem dX1_stretch_99 : decode cX1_stretch 99 = .ok (.aload 7, 2) := dk_25 7 (dk_at dksX1_stretch_4 6 rfl rfl)
theorem dX1_stretch_101 : decode cX1_stretch 101 = .ok (.getfield 136, 3) := dk_180 0 136 (dk_at dksX1_stretch_4 8 rfl rfl)
theorem dX1_stretch_104 : decode cX1_stretch 104 = .ok (.ireturn, 1) := dk_172 (dk_at dksX1_stretch_4 11 rfl rfl)
abbrev cX1_fits : ByteArray := prog_1_method_18_code
def yX1_fits : MethodName := ⟨RX1, "fits", "(III)Z"⟩
def dkwX1_fits_0 : List UInt8 := [42, 27, 182, 0, 147, 58, 4, 42, 25, 4, 42, 28, 182, 0, 79, 29, 182, 0, 151, 172]
abbrev dktX1_fits_0 : List UInt8 := dkwX1_fits_0 ++ []
theorem dksX1_fits_0 : cX1_fits.data.toList.drop 0 = dktX1_fits_0 := by decide +kernel
theorem dX1_fits_0 : decode cX1_fits 0 = .ok (.aload_n 0, 1) := dk_42 (dk_at dksX1_fits_0 0 rfl rfl)
theorem dX1_fits_1 : decode cX1_fits 1 = .ok (.iload_n 1, 1) := dk_27 (dk_at dksX1_fits_0 1 rfl rfl)
theorem dX1_fits_2 : decode cX1_fits 2 = .ok (.invokevirtual 147, 3) := dk_182 0 147 (dk_at dksX1_fits_0 2 rfl rfl)
theorem dX1_fits_5 : decode cX1_fits 5 = .ok (.astore 4, 2) := dk_58 4 (dk_at dksX1_fits_0 5 rfl rfl)
theorem dX1_fits_7 : decode cX1_fits 7 = .ok (.aload_n 0, 1) := dk_42 (dk_at dksX1_fits_0 7 rfl rfl)
theorem dX1_fits_8 : decode cX1_fits 8 = .ok (.aload 4, 2) := dk_25 4 (dk_at dksX1_fits_0 8 rfl rfl)
theorem dX1_fits_10 : decode cX1_fits 10 = .ok (.aload_n 0, 1) := dk_42 (dk_at dksX1_fits_0 10 rfl rfl)
theorem dX1_fits_11 : decode cX1_fits 11 = .ok (.iload_n 2, 1) := dk_28 (dk_at dksX1_fits_0 11 rfl rfl)
theorem dX1_fits_12 : decode cX1_fits 12 = .ok (.invokevirtual 79, 3) := dk_182 0 79 (dk_at dksX1_fits_0 12 rfl rfl)
theorem dX1_fits_15 : decode cX1_fits 15 = .ok (.iload_n 3, 1) := dk_29 (dk_at dksX1_fits_0 15 rfl rfl)
theorem dX1_fits_16 : decode cX1_fits 16 = .ok (.invokevirtual 151, 3) := dk_182 0 151 (dk_at dksX1_fits_0 16 rfl rfl)
theorem dX1_fits_19 : decode cX1_fits 19 = .ok (.ireturn, 1) := dk_172 (dk_at dksX1_fits_0 19 rfl rfl)
abbrev cX1_part : ByteArray := prog_1_method_7_code
def yX1_part : MethodName := ⟨RX1, "part", "(I)LTimberList$Part;"⟩
def dkwX1_part_0 : List UInt8 := [27, 42, 180, 0, 29, 182, 0, 46, 184, 0, 50, 42, 180, 0, 29, 27, 182, 0, 54, 192, 0, 60, 176]
abbrev dktX1_part_0 : List UInt8 := dkwX1_part_0 ++ []
theorem dksX1_part_0 : cX1_part.data.toList.drop 0 = dktX1_part_0 := by decide +kernel
theorem dX1_part_0 : decode cX1_part 0 = .ok (.iload_n 1, 1) := dk_27 (dk_at dksX1_part_0 0 rfl rfl)
theorem dX1_part_1 : decode cX1_part 1 = .ok (.aload_n 0, 1) := dk_42 (dk_at dksX1_part_0 1 rfl rfl)
theorem dX1_part_2 : decode cX1_part 2 = .ok (.getfield 29, 3) := dk_180 0 29 (dk_at dksX1_part_0 2 rfl rfl)
theorem dX1_part_5 : decode cX1_part 5 = .ok (.invokevirtual 46, 3) := dk_182 0 46 (dk_at dksX1_part_0 5 rfl rfl)
theorem dX1_part_8 : decode cX1_part 8 = .ok (.invokestatic 50, 3) := dk_184 0 50 (dk_at dksX1_part_0 8 rfl rfl)
theorem dX1_part_11 : decode cX1_part 11 = .ok (.aload_n 0, 1) := dk_42 (dk_at dksX1_part_0 11 rfl rfl)
theorem dX1_part_12 : decode cX1_part 12 = .ok (.getfield 29, 3) := dk_180 0 29 (dk_at dksX1_part_0 12 rfl rfl)
theorem dX1_part_15 : decode cX1_part 15 = .ok (.iload_n 1, 1) := dk_27 (dk_at dksX1_part_0 15 rfl rfl)
theorem dX1_part_16 : decode cX1_part 16 = .ok (.invokevirtual 54, 3) := dk_182 0 54 (dk_at dksX1_part_0 16 rfl rfl)
theorem dX1_part_19 : decode cX1_part 19 = .ok (.checkcast 60, 3) := dk_192 0 60 (dk_at dksX1_part_0 19 rfl rfl)
theorem dX1_part_22 : decode cX1_part 22 = .ok (.areturn, 1) := dk_176 (dk_at dksX1_part_0 22 rfl rfl)
abbrev cX1_doesFit : ByteArray := prog_1_method_17_code
def yX1_doesFit : MethodName := ⟨RX1, "doesFit", "(LTimberList$Part;LTimberList$Board;I)Z"⟩
def dkwX1_doesFit_1 : List UInt8 := [183, 0, 140, 42, 180, 0, 39, 182, 0, 143, 153, 0, 7, 4, 167, 0, 4, 3, 172]
abbrev dktX1_doesFit_1 : List UInt8 := dkwX1_doesFit_1 ++ []
def dkwX1_doesFit_0 : List UInt8 := [29, 155, 0, 39, 29, 17, 11, 184, 163, 0, 32, 44, 187, 0, 109, 89, 43, 29, 43, 180, 0, 139, 3]
abbrev dktX1_doesFit_0 : List UInt8 := dkwX1_doesFit_0 ++ dktX1_doesFit_1
theorem dksX1_doesFit_0 : cX1_doesFit.data.toList.drop 0 = dktX1_doesFit_0 := by decide +kernel
theorem dksX1_doesFit_1 : cX1_doesFit.data.toList.drop 23 = dktX1_doesFit_1 := dk_seg dksX1_doesFit_0 23 rfl rfl
theorem dX1_doesFit_0 : decode cX1_doesFit 0 = .ok (.iload_n 3, 1) := dk_29 (dk_at dksX1_doesFit_0 0 rfl rfl)
theorem dX1_doesFit_1 : decode cX1_doesFit 1 = .ok (.ifCond .lt 39, 3) := dk_155 0 39 (dk_at dksX1_doesFit_0 1 rfl rfl)
theorem dX1_doesFit_4 : decode cX1_doesFit 4 = .ok (.iload_n 3, 1) := dk_29 (dk_at dksX1_doesFit_0 4 rfl rfl)
theorem dX1_doesFit_5 : decode cX1_doesFit 5 = .ok (.sipush 3000, 3) := dk_17 11 184 (dk_at dksX1_doesFit_0 5 rfl rfl)
theorem dX1_doesFit_8 : decode cX1_doesFit 8 = .ok (.if_icmp .gt 32, 3) := dk_163 0 32 (dk_at dksX1_doesFit_0 8 rfl rfl)
theorem dX1_doesFit_11 : decode cX1_doesFit 11 = .ok (.aload_n 2, 1) := dk_44 (dk_at dksX1_doesFit_0 11 rfl rfl)
theorem dX1_doesFit_12 : decode cX1_doesFit 12 = .ok (.new 109, 3) := dk_187 0 109 (dk_at dksX1_doesFit_0 12 rfl rfl)
theorem dX1_doesFit_15 : decode cX1_doesFit 15 = .ok (.dup, 1) := dk_89 (dk_at dksX1_doesFit_0 15 rfl rfl)
theorem dX1_doesFit_16 : decode cX1_doesFit 16 = .ok (.aload_n 1, 1) := dk_43 (dk_at dksX1_doesFit_0 16 rfl rfl)
theorem dX1_doesFit_17 : decode cX1_doesFit 17 = .ok (.iload_n 3, 1) := dk_29 (dk_at dksX1_doesFit_0 17 rfl rfl)
theorem dX1_doesFit_18 : decode cX1_doesFit 18 = .ok (.aload_n 1, 1) := dk_43 (dk_at dksX1_doesFit_0 18 rfl rfl)
theorem dX1_doesFit_19 : decode cX1_doesFit 19 = .ok (.getfield 139, 3) := dk_180 0 139 (dk_at dksX1_doesFit_0 19 rfl rfl)
theorem dX1_doesFit_22 : decode cX1_doesFit 22 = .ok (.iconst 0, 1) := dk_3 (dk_at dksX1_doesFit_0 22 rfl rfl)
theorem dX1_doesFit_23 : decode cX1_doesFit 23 = .ok (.invokespecial 140, 3) := dk_183 0 140 (dk_at dksX1_doesFit_1 0 rfl rfl)
theorem dX1_doesFit_26 : decode cX1_doesFit 26 = .ok (.aload_n 0, 1) := dk_42 (dk_at dksX1_doesFit_1 3 rfl rfl)
theorem dX1_doesFit_27 : decode cX1_doesFit 27 = .ok (.getfield 39, 3) := dk_180 0 39 (dk_at dksX1_doesFit_1 4 rfl rfl)
theorem dX1_doesFit_30 : decode cX1_doesFit 30 = .ok (.invokevirtual 143, 3) := dk_182 0 143 (dk_at dksX1_doesFit_1 7 rfl rfl)
theorem dX1_doesFit_33 : decode cX1_doesFit 33 = .ok (.ifCond .eq 7, 3) := dk_153 0 7 (dk_at dksX1_doesFit_1 10 rfl rfl)
theorem dX1_doesFit_36 : decode cX1_doesFit 36 = .ok (.iconst 1, 1) := dk_4 (dk_at dksX1_doesFit_1 13 rfl rfl)
theorem dX1_doesFit_37 : decode cX1_doesFit 37 = .ok (.goto 4, 3) := dk_167 0 4 (dk_at dksX1_doesFit_1 14 rfl rfl)
theorem dX1_doesFit_40 : decode cX1_doesFit 40 = .ok (.iconst 0, 1) := dk_3 (dk_at dksX1_doesFit_1 17 rfl rfl)
theorem dX1_doesFit_41 : decode cX1_doesFit 41 = .ok (.ireturn, 1) := dk_172 (dk_at dksX1_doesFit_1 18 rfl rfl)
abbrev cX1_earliest : ByteArray := prog_1_method_19_code
def yX1_earliest : MethodName := ⟨RX1, "earliest", "(II)I"⟩
def dkwX1_earliest_0 : List UInt8 := [42, 27, 182, 0, 147, 78, 42, 28, 182, 0, 79, 45, 42, 180, 0, 39, 182, 0, 155, 172]
abbrev dktX1_earliest_0 : List UInt8 := dkwX1_earliest_0 ++ []
theorem dksX1_earliest_0 : cX1_earliest.data.toList.drop 0 = dktX1_earliest_0 := by decide +kernel
theorem dX1_earliest_0 : decode cX1_earliest 0 = .ok (.aload_n 0, 1) := dk_42 (dk_at dksX1_earliest_0 0 rfl rfl)
theorem dX1_earliest_1 : decode cX1_earliest 1 = .ok (.iload_n 1, 1) := dk_27 (dk_at dksX1_earliest_0 1 rfl rfl)
theorem dX1_earliest_2 : decode cX1_earliest 2 = .ok (.invokevirtual 147, 3) := dk_182 0 147 (dk_at dksX1_earliest_0 2 rfl rfl)
theorem dX1_earliest_5 : decode cX1_earliest 5 = .ok (.astore_n 3, 1) := dk_78 (dk_at dksX1_earliest_0 5 rfl rfl)
theorem dX1_earliest_6 : decode cX1_earliest 6 = .ok (.aload_n 0, 1) := dk_42 (dk_at dksX1_earliest_0 6 rfl rfl)
theorem dX1_earliest_7 : decode cX1_earliest 7 = .ok (.iload_n 2, 1) := dk_28 (dk_at dksX1_earliest_0 7 rfl rfl)
theorem dX1_earliest_8 : decode cX1_earliest 8 = .ok (.invokevirtual 79, 3) := dk_182 0 79 (dk_at dksX1_earliest_0 8 rfl rfl)
theorem dX1_earliest_11 : decode cX1_earliest 11 = .ok (.aload_n 3, 1) := dk_45 (dk_at dksX1_earliest_0 11 rfl rfl)
theorem dX1_earliest_12 : decode cX1_earliest 12 = .ok (.aload_n 0, 1) := dk_42 (dk_at dksX1_earliest_0 12 rfl rfl)
theorem dX1_earliest_13 : decode cX1_earliest 13 = .ok (.getfield 39, 3) := dk_180 0 39 (dk_at dksX1_earliest_0 13 rfl rfl)
theorem dX1_earliest_16 : decode cX1_earliest 16 = .ok (.invokevirtual 155, 3) := dk_182 0 155 (dk_at dksX1_earliest_0 16 rfl rfl)
theorem dX1_earliest_19 : decode cX1_earliest 19 = .ok (.ireturn, 1) := dk_172 (dk_at dksX1_earliest_0 19 rfl rfl)
abbrev cX1_cut : ByteArray := prog_1_method_21_code
def yX1_cut : MethodName := ⟨RX1, "cut", "(III)I"⟩
def dkwX1_cut_2 : List UInt8 := [29, 182, 0, 171, 25, 4, 180, 0, 168, 172]
abbrev dktX1_cut_2 : List UInt8 := dkwX1_cut_2 ++ []
def dkwX1_cut_1 : List UInt8 := [25, 4, 25, 5, 29, 182, 0, 151, 153, 0, 7, 4, 167, 0, 4, 3, 184, 0, 70, 42, 25, 4, 25, 5]
abbrev dktX1_cut_1 : List UInt8 := dkwX1_cut_1 ++ dktX1_cut_2
def dkwX1_cut_0 : List UInt8 := [42, 27, 182, 0, 147, 58, 4, 42, 28, 182, 0, 79, 58, 5, 25, 4, 180, 0, 168, 158, 0, 19, 42]
abbrev dktX1_cut_0 : List UInt8 := dkwX1_cut_0 ++ dktX1_cut_1
theorem dksX1_cut_0 : cX1_cut.data.toList.drop 0 = dktX1_cut_0 := by decide +kernel
theorem dksX1_cut_1 : cX1_cut.data.toList.drop 23 = dktX1_cut_1 := dk_seg dksX1_cut_0 23 rfl rfl
theorem dksX1_cut_2 : cX1_cut.data.toList.drop 47 = dktX1_cut_2 := dk_seg dksX1_cut_1 24 rfl rfl
theorem dX1_cut_0 : decode cX1_cut 0 = .ok (.aload_n 0, 1) := dk_42 (dk_at dksX1_cut_0 0 rfl rfl)
theorem dX1_cut_1 : decode cX1_cut 1 = .ok (.iload_n 1, 1) := dk_27 (dk_at dksX1_cut_0 1 rfl rfl)
theorem dX1_cut_2 : decode cX1_cut 2 = .ok (.invokevirtual 147, 3) := dk_182 0 147 (dk_at dksX1_cut_0 2 rfl rfl)
theorem dX1_cut_5 : decode cX1_cut 5 = .ok (.astore 4, 2) := dk_58 4 (dk_at dksX1_cut_0 5 rfl rfl)
theorem dX1_cut_7 : decode cX1_cut 7 = .ok (.aload_n 0, 1) := dk_42 (dk_at dksX1_cut_0 7 rfl rfl)
theorem dX1_cut_8 : decode cX1_cut 8 = .ok (.iload_n 2, 1) := dk_28 (dk_at dksX1_cut_0 8 rfl rfl)
theorem dX1_cut_9 : decode cX1_cut 9 = .ok (.invokevirtual 79, 3) := dk_182 0 79 (dk_at dksX1_cut_0 9 rfl rfl)
theorem dX1_cut_12 : decode cX1_cut 12 = .ok (.astore 5, 2) := dk_58 5 (dk_at dksX1_cut_0 12 rfl rfl)
theorem dX1_cut_14 : decode cX1_cut 14 = .ok (.aload 4, 2) := dk_25 4 (dk_at dksX1_cut_0 14 rfl rfl)
theorem dX1_cut_16 : decode cX1_cut 16 = .ok (.getfield 168, 3) := dk_180 0 168 (dk_at dksX1_cut_0 16 rfl rfl)
theorem dX1_cut_19 : decode cX1_cut 19 = .ok (.ifCond .le 19, 3) := dk_158 0 19 (dk_at dksX1_cut_0 19 rfl rfl)
theorem dX1_cut_22 : decode cX1_cut 22 = .ok (.aload_n 0, 1) := dk_42 (dk_at dksX1_cut_0 22 rfl rfl)
theorem dX1_cut_23 : decode cX1_cut 23 = .ok (.aload 4, 2) := dk_25 4 (dk_at dksX1_cut_1 0 rfl rfl)
theorem dX1_cut_25 : decode cX1_cut 25 = .ok (.aload 5, 2) := dk_25 5 (dk_at dksX1_cut_1 2 rfl rfl)
theorem dX1_cut_27 : decode cX1_cut 27 = .ok (.iload_n 3, 1) := dk_29 (dk_at dksX1_cut_1 4 rfl rfl)
theorem dX1_cut_28 : decode cX1_cut 28 = .ok (.invokevirtual 151, 3) := dk_182 0 151 (dk_at dksX1_cut_1 5 rfl rfl)
theorem dX1_cut_31 : decode cX1_cut 31 = .ok (.ifCond .eq 7, 3) := dk_153 0 7 (dk_at dksX1_cut_1 8 rfl rfl)
theorem dX1_cut_34 : decode cX1_cut 34 = .ok (.iconst 1, 1) := dk_4 (dk_at dksX1_cut_1 11 rfl rfl)
theorem dX1_cut_35 : decode cX1_cut 35 = .ok (.goto 4, 3) := dk_167 0 4 (dk_at dksX1_cut_1 12 rfl rfl)
theorem dX1_cut_38 : decode cX1_cut 38 = .ok (.iconst 0, 1) := dk_3 (dk_at dksX1_cut_1 15 rfl rfl)
theorem dX1_cut_39 : decode cX1_cut 39 = .ok (.invokestatic 70, 3) := dk_184 0 70 (dk_at dksX1_cut_1 16 rfl rfl)
theorem dX1_cut_42 : decode cX1_cut 42 = .ok (.aload_n 0, 1) := dk_42 (dk_at dksX1_cut_1 19 rfl rfl)
theorem dX1_cut_43 : decode cX1_cut 43 = .ok (.aload 4, 2) := dk_25 4 (dk_at dksX1_cut_1 20 rfl rfl)
theorem dX1_cut_45 : decode cX1_cut 45 = .ok (.aload 5, 2) := dk_25 5 (dk_at dksX1_cut_1 22 rfl rfl)
theorem dX1_cut_47 : decode cX1_cut 47 = .ok (.iload_n 3, 1) := dk_29 (dk_at dksX1_cut_2 0 rfl rfl)
theorem dX1_cut_48 : decode cX1_cut 48 = .ok (.invokevirtual 171, 3) := dk_182 0 171 (dk_at dksX1_cut_2 1 rfl rfl)
theorem dX1_cut_51 : decode cX1_cut 51 = .ok (.aload 4, 2) := dk_25 4 (dk_at dksX1_cut_2 4 rfl rfl)
theorem dX1_cut_53 : decode cX1_cut 53 = .ok (.getfield 168, 3) := dk_180 0 168 (dk_at dksX1_cut_2 6 rfl rfl)
theorem dX1_cut_56 : decode cX1_cut 56 = .ok (.ireturn, 1) := dk_172 (dk_at dksX1_cut_2 9 rfl rfl)
abbrev cX1_join : ByteArray := prog_1_method_22_code
def yX1_join : MethodName := ⟨RX1, "join", "(IIIIII)I"⟩
def dkwX1_join_11 : List UInt8 := [181, 0, 168, 25, 7, 180, 0, 168, 172]
abbrev dktX1_join_11 : List UInt8 := dkwX1_join_11 ++ []
def dkwX1_join_10 : List UInt8 := [25, 11, 182, 0, 164, 42, 180, 0, 35, 25, 12, 182, 0, 167, 87, 25, 7, 89, 180, 0, 168, 4, 100]
abbrev dktX1_join_10 : List UInt8 := dkwX1_join_10 ++ dktX1_join_11
def dkwX1_join_9 : List UInt8 := [187, 0, 159, 89, 25, 7, 183, 0, 161, 58, 12, 25, 12, 25, 8, 25, 10, 182, 0, 164, 25, 12, 25, 9]
abbrev dktX1_join_9 : List UInt8 := dkwX1_join_9 ++ dktX1_join_10
def dkwX1_join_8 : List UInt8 := [25, 10, 25, 11, 42, 180, 0, 39, 182, 0, 179, 154, 0, 7, 4, 167, 0, 4, 3, 184, 0, 70]
abbrev dktX1_join_8 : List UInt8 := dkwX1_join_8 ++ dktX1_join_9
def dkwX1_join_7 : List UInt8 := [153, 0, 42, 25, 9, 25, 11, 42, 180, 0, 39, 182, 0, 143, 153, 0, 28, 25, 8, 25, 9, 166, 0, 17]
abbrev dktX1_join_7 : List UInt8 := dkwX1_join_7 ++ dktX1_join_8
def dkwX1_join_6 : List UInt8 := [180, 0, 43, 96, 21, 4, 100, 4, 183, 0, 140, 58, 11, 25, 8, 25, 10, 42, 180, 0, 39, 182, 0, 143]
abbrev dktX1_join_6 : List UInt8 := dkwX1_join_6 ++ dktX1_join_7
def dkwX1_join_5 : List UInt8 := [21, 4, 4, 183, 0, 140, 58, 10, 187, 0, 109, 89, 25, 7, 21, 6, 25, 7, 180, 0, 139, 42]
abbrev dktX1_join_5 : List UInt8 := dkwX1_join_5 ++ dktX1_join_6
def dkwX1_join_4 : List UInt8 := [21, 6, 17, 11, 184, 163, 0, 7, 4, 167, 0, 4, 3, 184, 0, 70, 187, 0, 109, 89, 25, 7, 29]
abbrev dktX1_join_4 : List UInt8 := dkwX1_join_4 ++ dktX1_join_5
def dkwX1_join_3 : List UInt8 := [167, 0, 4, 3, 184, 0, 70, 29, 155, 0, 27, 29, 17, 11, 184, 163, 0, 20, 21, 6, 155, 0, 15]
abbrev dktX1_join_3 : List UInt8 := dkwX1_join_3 ++ dktX1_join_4
def dkwX1_join_2 : List UInt8 := [167, 0, 4, 3, 184, 0, 13, 25, 7, 180, 0, 168, 158, 0, 15, 25, 7, 180, 0, 175, 153, 0, 7, 4]
abbrev dktX1_join_2 : List UInt8 := dkwX1_join_2 ++ dktX1_join_3
def dkwX1_join_1 : List UInt8 := [16, 50, 161, 0, 25, 21, 4, 25, 7, 180, 0, 139, 42, 180, 0, 43, 96, 16, 50, 100, 163, 0, 7, 4]
abbrev dktX1_join_1 : List UInt8 := dkwX1_join_1 ++ dktX1_join_2
def dkwX1_join_0 : List UInt8 := [42, 27, 182, 0, 147, 58, 7, 42, 28, 182, 0, 79, 58, 8, 42, 21, 5, 182, 0, 79, 58, 9, 21, 4]
abbrev dktX1_join_0 : List UInt8 := dkwX1_join_0 ++ dktX1_join_1
theorem dksX1_join_0 : cX1_join.data.toList.drop 0 = dktX1_join_0 := by decide +kernel
theorem dksX1_join_1 : cX1_join.data.toList.drop 24 = dktX1_join_1 := dk_seg dksX1_join_0 24 rfl rfl
theorem dksX1_join_2 : cX1_join.data.toList.drop 48 = dktX1_join_2 := dk_seg dksX1_join_1 24 rfl rfl
theorem dksX1_join_3 : cX1_join.data.toList.drop 72 = dktX1_join_3 := dk_seg dksX1_join_2 24 rfl rfl
theorem dksX1_join_4 : cX1_join.data.toList.drop 95 = dktX1_join_4 := dk_seg dksX1_join_3 23 rfl rfl
theorem dksX1_join_5 : cX1_join.data.toList.drop 118 = dktX1_join_5 := dk_seg dksX1_join_4 23 rfl rfl
theorem dksX1_join_6 : cX1_join.data.toList.drop 140 = dktX1_join_6 := dk_seg dksX1_join_5 22 rfl rfl
theorem dksX1_join_7 : cX1_join.data.toList.drop 164 = dktX1_join_7 := dk_seg dksX1_join_6 24 rfl rfl
theorem dksX1_join_8 : cX1_join.data.toList.drop 188 = dktX1_join_8 := dk_seg dksX1_join_7 24 rfl rfl
theorem dksX1_join_9 : cX1_join.data.toList.drop 210 = dktX1_join_9 := dk_seg dksX1_join_8 22 rfl rfl
theorem dksX1_join_10 : cX1_join.data.toList.drop 234 = dktX1_join_10 := dk_seg dksX1_join_9 24 rfl rfl
theorem dksX1_join_11 : cX1_join.data.toList.drop 257 = dktX1_join_11 := dk_seg dksX1_join_10 23 rfl rfl
theorem dX1_join_0 : decode cX1_join 0 = .ok (.aload_n 0, 1) := dk_42 (dk_at dksX1_join_0 0 rfl rfl)
theorem dX1_join_1 : decode cX1_join 1 = .ok (.iload_n 1, 1) := dk_27 (dk_at dksX1_join_0 1 rfl rfl)
theorem dX1_join_2 : decode cX1_join 2 = .ok (.invokevirtual 147, 3) := dk_182 0 147 (dk_at dksX1_join_0 2 rfl rfl)
theorem dX1_join_5 : decode cX1_join 5 = .ok (.astore 7, 2) := dk_58 7 (dk_at dksX1_join_0 5 rfl rfl)
theorem dX1_join_7 : decode cX1_join 7 = .ok (.aload_n 0, 1) := dk_42 (dk_at dksX1_join_0 7 rfl rfl)
theorem dX1_join_8 : decode cX1_join 8 = .ok (.iload_n 2, 1) := dk_28 (dk_at dksX1_join_0 8 rfl rfl)
theorem dX1_join_9 : decode cX1_join 9 = .ok (.invokevirtual 79, 3) := dk_182 0 79 (dk_at dksX1_join_0 9 rfl rfl)
theorem dX1_join_12 : decode cX1_join 12 = .ok (.astore 8, 2) := dk_58 8 (dk_at dksX1_join_0 12 rfl rfl)
theorem dX1_join_14 : decode cX1_join 14 = .ok (.aload_n 0, 1) := dk_42 (dk_at dksX1_join_0 14 rfl rfl)
theorem dX1_join_15 : decode cX1_join 15 = .ok (.iload 5, 2) := dk_21 5 (dk_at dksX1_join_0 15 rfl rfl)
theorem dX1_join_17 : decode cX1_join 17 = .ok (.invokevirtual 79, 3) := dk_182 0 79 (dk_at dksX1_join_0 17 rfl rfl)
theorem dX1_join_20 : decode cX1_join 20 = .ok (.astore 9, 2) := dk_58 9 (dk_at dksX1_join_0 20 rfl rfl)
theorem dX1_join_22 : decode cX1_join 22 = .ok (.iload 4, 2) := dk_21 4 (dk_at dksX1_join_0 22 rfl rfl)
theorem dX1_join_24 : decode cX1_join 24 = .ok (.bipush 50, 2) := dk_16 50 (dk_at dksX1_join_1 0 rfl rfl)
theorem dX1_join_26 : decode cX1_join 26 = .ok (.if_icmp .lt 25, 3) := dk_161 0 25 (dk_at dksX1_join_1 2 rfl rfl)
theorem dX1_join_29 : decode cX1_join 29 = .ok (.iload 4, 2) := dk_21 4 (dk_at dksX1_join_1 5 rfl rfl)
theorem dX1_join_31 : decode cX1_join 31 = .ok (.aload 7, 2) := dk_25 7 (dk_at dksX1_join_1 7 rfl rfl)
theorem dX1_join_33 : decode cX1_join 33 = .ok (.getfield 139, 3) := dk_180 0 139 (dk_at dksX1_join_1 9 rfl rfl)
theorem dX1_join_36 : decode cX1_join 36 = .ok (.aload_n 0, 1) := dk_42 (dk_at dksX1_join_1 12 rfl rfl)
theorem dX1_join_37 : decode cX1_join 37 = .ok (.getfield 43, 3) := dk_180 0 43 (dk_at dksX1_join_1 13 rfl rfl)
theorem dX1_join_40 : decode cX1_join 40 = .ok (.iadd, 1) := dk_96 (dk_at dksX1_join_1 16 rfl rfl)
theorem dX1_join_41 : decode cX1_join 41 = .ok (.bipush 50, 2) := dk_16 50 (dk_at dksX1_join_1 17 rfl rfl)
theorem dX1_join_43 : decode cX1_join 43 = .ok (.isub, 1) := dk_100 (dk_at dksX1_join_1 19 rfl rfl)
theorem dX1_join_44 : decode cX1_join 44 = .ok (.if_icmp .gt 7, 3) := dk_163 0 7 (dk_at dksX1_join_1 20 rfl rfl)
theorem dX1_join_47 : decode cX1_join 47 = .ok (.iconst 1, 1) := dk_4 (dk_at dksX1_join_1 23 rfl rfl)
theorem dX1_join_48 : decode cX1_join 48 = .ok (.goto 4, 3) := dk_167 0 4 (dk_at dksX1_join_2 0 rfl rfl)
theorem dX1_join_51 : decode cX1_join 51 = .ok (.iconst 0, 1) := dk_3 (dk_at dksX1_join_2 3 rfl rfl)
theorem dX1_join_52 : decode cX1_join 52 = .ok (.invokestatic 13, 3) := dk_184 0 13 (dk_at dksX1_join_2 4 rfl rfl)
theorem dX1_join_55 : decode cX1_join 55 = .ok (.aload 7, 2) := dk_25 7 (dk_at dksX1_join_2 7 rfl rfl)
theorem dX1_join_57 : decode cX1_join 57 = .ok (.getfield 168, 3) := dk_180 0 168 (dk_at dksX1_join_2 9 rfl rfl)
theorem dX1_join_60 : decode cX1_join 60 = .ok (.ifCond .le 15, 3) := dk_158 0 15 (dk_at dksX1_join_2 12 rfl rfl)
theorem dX1_join_63 : decode cX1_join 63 = .ok (.aload 7, 2) := dk_25 7 (dk_at dksX1_join_2 15 rfl rfl)
theorem dX1_join_65 : decode cX1_join 65 = .ok (.getfield 175, 3) := dk_180 0 175 (dk_at dksX1_join_2 17 rfl rfl)
theorem dX1_join_68 : decode cX1_join 68 = .ok (.ifCond .eq 7, 3) := dk_153 0 7 (dk_at dksX1_join_2 20 rfl rfl)
theorem dX1_join_71 : decode cX1_join 71 = .ok (.iconst 1, 1) := dk_4 (dk_at dksX1_join_2 23 rfl rfl)
theorem dX1_join_72 : decode cX1_join 72 = .ok (.goto 4, 3) := dk_167 0 4 (dk_at dksX1_join_3 0 rfl rfl)
theorem dX1_join_75 : decode cX1_join 75 = .ok (.iconst 0, 1) := dk_3 (dk_at dksX1_join_3 3 rfl rfl)
theorem dX1_join_76 : decode cX1_join 76 = .ok (.invokestatic 70, 3) := dk_184 0 70 (dk_at dksX1_join_3 4 rfl rfl)
theorem dX1_join_79 : decode cX1_join 79 = .ok (.iload_n 3, 1) := dk_29 (dk_at dksX1_join_3 7 rfl rfl)
theorem dX1_join_80 : decode cX1_join 80 = .ok (.ifCond .lt 27, 3) := dk_155 0 27 (dk_at dksX1_join_3 8 rfl rfl)
theorem dX1_join_83 : decode cX1_join 83 = .ok (.iload_n 3, 1) := dk_29 (dk_at dksX1_join_3 11 rfl rfl)
theorem dX1_join_84 : decode cX1_join 84 = .ok (.sipush 3000, 3) := dk_17 11 184 (dk_at dksX1_join_3 12 rfl rfl)
theorem dX1_join_87 : decode cX1_join 87 = .ok (.if_icmp .gt 20, 3) := dk_163 0 20 (dk_at dksX1_join_3 15 rfl rfl)
theorem dX1_join_90 : decode cX1_join 90 = .ok (.iload 6, 2) := dk_21 6 (dk_at dksX1_join_3 18 rfl rfl)
theorem dX1_join_92 : decode cX1_join 92 = .ok (.ifCond .lt 15, 3) := dk_155 0 15 (dk_at dksX1_join_3 20 rfl rfl)
theorem dX1_join_95 : decode cX1_join 95 = .ok (.iload 6, 2) := dk_21 6 (dk_at dksX1_join_4 0 rfl rfl)
theorem dX1_join_97 : decode cX1_join 97 = .ok (.sipush 3000, 3) := dk_17 11 184 (dk_at dksX1_join_4 2 rfl rfl)
theorem dX1_join_100 : decode cX1_join 100 = .ok (.if_icmp .gt 7, 3) := dk_163 0 7 (dk_at dksX1_join_4 5 rfl rfl)
theorem dX1_join_103 : decode cX1_join 103 = .ok (.iconst 1, 1) := dk_4 (dk_at dksX1_join_4 8 rfl rfl)
theorem dX1_join_104 : decode cX1_join 104 = .ok (.goto 4, 3) := dk_167 0 4 (dk_at dksX1_join_4 9 rfl rfl)
theorem dX1_join_107 : decode cX1_join 107 = .ok (.iconst 0, 1) := dk_3 (dk_at dksX1_join_4 12 rfl rfl)
theorem dX1_join_108 : decode cX1_join 108 = .ok (.invokestatic 70, 3) := dk_184 0 70 (dk_at dksX1_join_4 13 rfl rfl)
theorem dX1_join_111 : decode cX1_join 111 = .ok (.new 109, 3) := dk_187 0 109 (dk_at dksX1_join_4 16 rfl rfl)
theorem dX1_join_114 : decode cX1_join 114 = .ok (.dup, 1) := dk_89 (dk_at dksX1_join_4 19 rfl rfl)
theorem dX1_join_115 : decode cX1_join 115 = .ok (.aload 7, 2) := dk_25 7 (dk_at dksX1_join_4 20 rfl rfl)
theorem dX1_join_117 : decode cX1_join 117 = .ok (.iload_n 3, 1) := dk_29 (dk_at dksX1_join_4 22 rfl rfl)
theorem dX1_join_118 : decode cX1_join 118 = .ok (.iload 4, 2) := dk_21 4 (dk_at dksX1_join_5 0 rfl rfl)
theorem dX1_join_120 : decode cX1_join 120 = .ok (.iconst 1, 1) := dk_4 (dk_at dksX1_join_5 2 rfl rfl)
theorem dX1_join_121 : decode cX1_join 121 = .ok (.invokespecial 140, 3) := dk_183 0 140 (dk_at dksX1_join_5 3 rfl rfl)
theorem dX1_join_124 : decode cX1_join 124 = .ok (.astore 10, 2) := dk_58 10 (dk_at dksX1_join_5 6 rfl rfl)
theorem dX1_join_126 : decode cX1_join 126 = .ok (.new 109, 3) := dk_187 0 109 (dk_at dksX1_join_5 8 rfl rfl)
theorem dX1_join_129 : decode cX1_join 129 = .ok (.dup, 1) := dk_89 (dk_at dksX1_join_5 11 rfl rfl)
theorem dX1_join_130 : decode cX1_join 130 = .ok (.aload 7, 2) := dk_25 7 (dk_at dksX1_join_5 12 rfl rfl)
theorem dX1_join_132 : decode cX1_join 132 = .ok (.iload 6, 2) := dk_21 6 (dk_at dksX1_join_5 14 rfl rfl)
theorem dX1_join_134 : decode cX1_join 134 = .ok (.aload 7, 2) := dk_25 7 (dk_at dksX1_join_5 16 rfl rfl)
theorem dX1_join_136 : decode cX1_join 136 = .ok (.getfield 139, 3) := dk_180 0 139 (dk_at dksX1_join_5 18 rfl rfl)
theorem dX1_join_139 : decode cX1_join 139 = .ok (.aload_n 0, 1) := dk_42 (dk_at dksX1_join_5 21 rfl rfl)
theorem dX1_join_140 : decode cX1_join 140 = .ok (.getfield 43, 3) := dk_180 0 43 (dk_at dksX1_join_6 0 rfl rfl)
theorem dX1_join_143 : decode cX1_join 143 = .ok (.iadd, 1) := dk_96 (dk_at dksX1_join_6 3 rfl rfl)
theorem dX1_join_144 : decode cX1_join 144 = .ok (.iload 4, 2) := dk_21 4 (dk_at dksX1_join_6 4 rfl rfl)
theorem dX1_join_146 : decode cX1_join 146 = .ok (.isub, 1) := dk_100 (dk_at dksX1_join_6 6 rfl rfl)
theorem dX1_join_147 : decode cX1_join 147 = .ok (.iconst 1, 1) := dk_4 (dk_at dksX1_join_6 7 rfl rfl)
theorem dX1_join_148 : decode cX1_join 148 = .ok (.invokespecial 140, 3) := dk_183 0 140 (dk_at dksX1_join_6 8 rfl rfl)
theorem dX1_join_151 : decode cX1_join 151 = .ok (.astore 11, 2) := dk_58 11 (dk_at dksX1_join_6 11 rfl rfl)
theorem dX1_join_153 : decode cX1_join 153 = .ok (.aload 8, 2) := dk_25 8 (dk_at dksX1_join_6 13 rfl rfl)
theorem dX1_join_155 : decode cX1_join 155 = .ok (.aload 10, 2) := dk_25 10 (dk_at dksX1_join_6 15 rfl rfl)
theorem dX1_join_157 : decode cX1_join 157 = .ok (.aload_n 0, 1) := dk_42 (dk_at dksX1_join_6 17 rfl rfl)
theorem dX1_join_158 : decode cX1_join 158 = .ok (.getfield 39, 3) := dk_180 0 39 (dk_at dksX1_join_6 18 rfl rfl)
theorem dX1_join_161 : decode cX1_join 161 = .ok (.invokevirtual 143, 3) := dk_182 0 143 (dk_at dksX1_join_6 21 rfl rfl)
theorem dX1_join_164 : decode cX1_join 164 = .ok (.ifCond .eq 42, 3) := dk_153 0 42 (dk_at dksX1_join_7 0 rfl rfl)
theorem dX1_join_167 : decode cX1_join 167 = .ok (.aload 9, 2) := dk_25 9 (dk_at dksX1_join_7 3 rfl rfl)
theorem dX1_join_169 : decode cX1_join 169 = .ok (.aload 11, 2) := dk_25 11 (dk_at dksX1_join_7 5 rfl rfl)
theorem dX1_join_171 : decode cX1_join 171 = .ok (.aload_n 0, 1) := dk_42 (dk_at dksX1_join_7 7 rfl rfl)
theorem dX1_join_172 : decode cX1_join 172 = .ok (.getfield 39, 3) := dk_180 0 39 (dk_at dksX1_join_7 8 rfl rfl)
theorem dX1_join_175 : decode cX1_join 175 = .ok (.invokevirtual 143, 3) := dk_182 0 143 (dk_at dksX1_join_7 11 rfl rfl)
theorem dX1_join_178 : decode cX1_join 178 = .ok (.ifCond .eq 28, 3) := dk_153 0 28 (dk_at dksX1_join_7 14 rfl rfl)
theorem dX1_join_181 : decode cX1_join 181 = .ok (.aload 8, 2) := dk_25 8 (dk_at dksX1_join_7 17 rfl rfl)
theorem dX1_join_183 : decode cX1_join 183 = .ok (.aload 9, 2) := dk_25 9 (dk_at dksX1_join_7 19 rfl rfl)
theorem dX1_join_185 : decode cX1_join 185 = .ok (.if_acmp .ne 17, 3) := dk_166 0 17 (dk_at dksX1_join_7 21 rfl rfl)
theorem dX1_join_188 : decode cX1_join 188 = .ok (.aload 10, 2) := dk_25 10 (dk_at dksX1_join_8 0 rfl rfl)
theorem dX1_join_190 : decode cX1_join 190 = .ok (.aload 11, 2) := dk_25 11 (dk_at dksX1_join_8 2 rfl rfl)
theorem dX1_join_192 : decode cX1_join 192 = .ok (.aload_n 0, 1) := dk_42 (dk_at dksX1_join_8 4 rfl rfl)
theorem dX1_join_193 : decode cX1_join 193 = .ok (.getfield 39, 3) := dk_180 0 39 (dk_at dksX1_join_8 5 rfl rfl)
theorem dX1_join_196 : decode cX1_join 196 = .ok (.invokevirtual 179, 3) := dk_182 0 179 (dk_at dksX1_join_8 8 rfl rfl)
theorem dX1_join_199 : decode cX1_join 199 = .ok (.ifCond .ne 7, 3) := dk_154 0 7 (dk_at dksX1_join_8 11 rfl rfl)
theorem dX1_join_202 : decode cX1_join 202 = .ok (.iconst 1, 1) := dk_4 (dk_at dksX1_join_8 14 rfl rfl)
theorem dX1_join_203 : decode cX1_join 203 = .ok (.goto 4, 3) := dk_167 0 4 (dk_at dksX1_join_8 15 rfl rfl)
theorem dX1_join_206 : decode cX1_join 206 = .ok (.iconst 0, 1) := dk_3 (dk_at dksX1_join_8 18 rfl rfl)
theorem dX1_join_207 : decode cX1_join 207 = .ok (.invokestatic 70, 3) := dk_184 0 70 (dk_at dksX1_join_8 19 rfl rfl)
theorem dX1_join_210 : decode cX1_join 210 = .ok (.new 159, 3) := dk_187 0 159 (dk_at dksX1_join_9 0 rfl rfl)
theorem dX1_join_213 : decode cX1_join 213 = .ok (.dup, 1) := dk_89 (dk_at dksX1_join_9 3 rfl rfl)
theorem dX1_join_214 : decode cX1_join 214 = .ok (.aload 7, 2) := dk_25 7 (dk_at dksX1_join_9 4 rfl rfl)
theorem dX1_join_216 : decode cX1_join 216 = .ok (.invokespecial 161, 3) := dk_183 0 161 (dk_at dksX1_join_9 6 rfl rfl)
theorem dX1_join_219 : decode cX1_join 219 = .ok (.astore 12, 2) := dk_58 12 (dk_at dksX1_join_9 9 rfl rfl)
theorem dX1_join_221 : decode cX1_join 221 = .ok (.aload 12, 2) := dk_25 12 (dk_at dksX1_join_9 11 rfl rfl)
theorem dX1_join_223 : decode cX1_join 223 = .ok (.aload 8, 2) := dk_25 8 (dk_at dksX1_join_9 13 rfl rfl)
theorem dX1_join_225 : decode cX1_join 225 = .ok (.aload 10, 2) := dk_25 10 (dk_at dksX1_join_9 15 rfl rfl)
theorem dX1_join_227 : decode cX1_join 227 = .ok (.invokevirtual 164, 3) := dk_182 0 164 (dk_at dksX1_join_9 17 rfl rfl)
theorem dX1_join_230 : decode cX1_join 230 = .ok (.aload 12, 2) := dk_25 12 (dk_at dksX1_join_9 20 rfl rfl)
theorem dX1_join_232 : decode cX1_join 232 = .ok (.aload 9, 2) := dk_25 9 (dk_at dksX1_join_9 22 rfl rfl)
theorem dX1_join_234 : decode cX1_join 234 = .ok (.aload 11, 2) := dk_25 11 (dk_at dksX1_join_10 0 rfl rfl)
theorem dX1_join_236 : decode cX1_join 236 = .ok (.invokevirtual 164, 3) := dk_182 0 164 (dk_at dksX1_join_10 2 rfl rfl)
theorem dX1_join_239 : decode cX1_join 239 = .ok (.aload_n 0, 1) := dk_42 (dk_at dksX1_join_10 5 rfl rfl)
theorem dX1_join_240 : decode cX1_join 240 = .ok (.getfield 35, 3) := dk_180 0 35 (dk_at dksX1_join_10 6 rfl rfl)
theorem dX1_join_243 : decode cX1_join 243 = .ok (.aload 12, 2) := dk_25 12 (dk_at dksX1_join_10 9 rfl rfl)
theorem dX1_join_245 : decode cX1_join 245 = .ok (.invokevirtual 167, 3) := dk_182 0 167 (dk_at dksX1_join_10 11 rfl rfl)
theorem dX1_join_248 : decode cX1_join 248 = .ok (.pop, 1) := dk_87 (dk_at dksX1_join_10 14 rfl rfl)
theorem dX1_join_249 : decode cX1_join 249 = .ok (.aload 7, 2) := dk_25 7 (dk_at dksX1_join_10 15 rfl rfl)
theorem dX1_join_251 : decode cX1_join 251 = .ok (.dup, 1) := dk_89 (dk_at dksX1_join_10 17 rfl rfl)
theorem dX1_join_252 : decode cX1_join 252 = .ok (.getfield 168, 3) := dk_180 0 168 (dk_at dksX1_join_10 18 rfl rfl)
theorem dX1_join_255 : decode cX1_join 255 = .ok (.iconst 1, 1) := dk_4 (dk_at dksX1_join_10 21 rfl rfl)
theorem dX1_join_256 : decode cX1_join 256 = .ok (.isub, 1) := dk_100 (dk_at dksX1_join_10 22 rfl rfl)
theorem dX1_join_257 : decode cX1_join 257 = .ok (.putfield 168, 3) := dk_181 0 168 (dk_at dksX1_join_11 0 rfl rfl)
theorem dX1_join_260 : decode cX1_join 260 = .ok (.aload 7, 2) := dk_25 7 (dk_at dksX1_join_11 3 rfl rfl)
theorem dX1_join_262 : decode cX1_join 262 = .ok (.getfield 168, 3) := dk_180 0 168 (dk_at dksX1_join_11 5 rfl rfl)
theorem dX1_join_265 : decode cX1_join 265 = .ok (.ireturn, 1) := dk_172 (dk_at dksX1_join_11 8 rfl rfl)
abbrev cX1_undo : ByteArray := prog_1_method_23_code
def yX1_undo : MethodName := ⟨RX1, "undo", "()I"⟩
def dkwX1_undo_2 : List UInt8 := [43, 180, 0, 189, 180, 0, 192, 172]
abbrev dktX1_undo_2 : List UInt8 := dkwX1_undo_2 ++ []
def dkwX1_undo_1 : List UInt8 := [182, 0, 183, 192, 0, 159, 76, 43, 182, 0, 186, 43, 180, 0, 189, 89, 180, 0, 168, 4, 96, 181, 0, 168]
abbrev dktX1_undo_1 : List UInt8 := dkwX1_undo_1 ++ dktX1_undo_2
def dkwX1_undo_0 : List UInt8 := [42, 180, 0, 35, 182, 0, 120, 154, 0, 7, 4, 167, 0, 4, 3, 184, 0, 70, 42, 180, 0, 35]
abbrev dktX1_undo_0 : List UInt8 := dkwX1_undo_0 ++ dktX1_undo_1
theorem dksX1_undo_0 : cX1_undo.data.toList.drop 0 = dktX1_undo_0 := by decide +kernel
theorem dksX1_undo_1 : cX1_undo.data.toList.drop 22 = dktX1_undo_1 := dk_seg dksX1_undo_0 22 rfl rfl
theorem dksX1_undo_2 : cX1_undo.data.toList.drop 46 = dktX1_undo_2 := dk_seg dksX1_undo_1 24 rfl rfl
theorem dX1_undo_0 : decode cX1_undo 0 = .ok (.aload_n 0, 1) := dk_42 (dk_at dksX1_undo_0 0 rfl rfl)
theorem dX1_undo_1 : decode cX1_undo 1 = .ok (.getfield 35, 3) := dk_180 0 35 (dk_at dksX1_undo_0 1 rfl rfl)
theorem dX1_undo_4 : decode cX1_undo 4 = .ok (.invokevirtual 120, 3) := dk_182 0 120 (dk_at dksX1_undo_0 4 rfl rfl)
theorem dX1_undo_7 : decode cX1_undo 7 = .ok (.ifCond .ne 7, 3) := dk_154 0 7 (dk_at dksX1_undo_0 7 rfl rfl)
theorem dX1_undo_10 : decode cX1_undo 10 = .ok (.iconst 1, 1) := dk_4 (dk_at dksX1_undo_0 10 rfl rfl)
theorem dX1_undo_11 : decode cX1_undo 11 = .ok (.goto 4, 3) := dk_167 0 4 (dk_at dksX1_undo_0 11 rfl rfl)
theorem dX1_undo_14 : decode cX1_undo 14 = .ok (.iconst 0, 1) := dk_3 (dk_at dksX1_undo_0 14 rfl rfl)
theorem dX1_undo_15 : decode cX1_undo 15 = .ok (.invokestatic 70, 3) := dk_184 0 70 (dk_at dksX1_undo_0 15 rfl rfl)
theorem dX1_undo_18 : decode cX1_undo 18 = .ok (.aload_n 0, 1) := dk_42 (dk_at dksX1_undo_0 18 rfl rfl)
theorem dX1_undo_19 : decode cX1_undo 19 = .ok (.getfield 35, 3) := dk_180 0 35 (dk_at dksX1_undo_0 19 rfl rfl)
theorem dX1_undo_22 : decode cX1_undo 22 = .ok (.invokevirtual 183, 3) := dk_182 0 183 (dk_at dksX1_undo_1 0 rfl rfl)
theorem dX1_undo_25 : decode cX1_undo 25 = .ok (.checkcast 159, 3) := dk_192 0 159 (dk_at dksX1_undo_1 3 rfl rfl)
theorem dX1_undo_28 : decode cX1_undo 28 = .ok (.astore_n 1, 1) := dk_76 (dk_at dksX1_undo_1 6 rfl rfl)
theorem dX1_undo_29 : decode cX1_undo 29 = .ok (.aload_n 1, 1) := dk_43 (dk_at dksX1_undo_1 7 rfl rfl)
theorem dX1_undo_30 : decode cX1_undo 30 = .ok (.invokevirtual 186, 3) := dk_182 0 186 (dk_at dksX1_undo_1 8 rfl rfl)
theorem dX1_undo_33 : decode cX1_undo 33 = .ok (.aload_n 1, 1) := dk_43 (dk_at dksX1_undo_1 11 rfl rfl)
theorem dX1_undo_34 : decode cX1_undo 34 = .ok (.getfield 189, 3) := dk_180 0 189 (dk_at dksX1_undo_1 12 rfl rfl)
theorem dX1_undo_37 : decode cX1_undo 37 = .ok (.dup, 1) := dk_89 (dk_at dksX1_undo_1 15 rfl rfl)
theorem dX1_undo_38 : decode cX1_undo 38 = .ok (.getfield 168, 3) := dk_180 0 168 (dk_at dksX1_undo_1 16 rfl rfl)
theorem dX1_undo_41 : decode cX1_undo 41 = .ok (.iconst 1, 1) := dk_4 (dk_at dksX1_undo_1 19 rfl rfl)
theorem dX1_undo_42 : decode cX1_undo 42 = .ok (.iadd, 1) := dk_96 (dk_at dksX1_undo_1 20 rfl rfl)
theorem dX1_undo_43 : decode cX1_undo 43 = .ok (.putfield 168, 3) := dk_181 0 168 (dk_at dksX1_undo_1 21 rfl rfl)
theorem dX1_undo_46 : decode cX1_undo 46 = .ok (.aload_n 1, 1) := dk_43 (dk_at dksX1_undo_2 0 rfl rfl)
theorem dX1_undo_47 : decode cX1_undo 47 = .ok (.getfield 189, 3) := dk_180 0 189 (dk_at dksX1_undo_2 1 rfl rfl)
theorem dX1_undo_50 : decode cX1_undo 50 = .ok (.getfield 192, 3) := dk_180 0 192 (dk_at dksX1_undo_2 4 rfl rfl)
theorem dX1_undo_53 : decode cX1_undo 53 = .ok (.ireturn, 1) := dk_172 (dk_at dksX1_undo_2 7 rfl rfl)
abbrev cX1_left : ByteArray := prog_1_method_27_code
def yX1_left : MethodName := ⟨RX1, "left", "(I)I"⟩
def dkwX1_left_0 : List UInt8 := [42, 27, 182, 0, 147, 180, 0, 168, 172]
abbrev dktX1_left_0 : List UInt8 := dkwX1_left_0 ++ []
theorem dksX1_left_0 : cX1_left.data.toList.drop 0 = dktX1_left_0 := by decide +kernel
theorem dX1_left_0 : decode cX1_left 0 = .ok (.aload_n 0, 1) := dk_42 (dk_at dksX1_left_0 0 rfl rfl)
theorem dX1_left_1 : decode cX1_left 1 = .ok (.iload_n 1, 1) := dk_27 (dk_at dksX1_left_0 1 rfl rfl)
theorem dX1_left_2 : decode cX1_left 2 = .ok (.invokevirtual 147, 3) := dk_182 0 147 (dk_at dksX1_left_0 2 rfl rfl)
theorem dX1_left_5 : decode cX1_left 5 = .ok (.getfield 168, 3) := dk_180 0 168 (dk_at dksX1_left_0 5 rfl rfl)
theorem dX1_left_8 : decode cX1_left 8 = .ok (.ireturn, 1) := dk_172 (dk_at dksX1_left_0 8 rfl rfl)
abbrev cX1_pieces : ByteArray := prog_1_method_28_code
def yX1_pieces : MethodName := ⟨RX1, "pieces", "(I)I"⟩
def dkwX1_pieces_0 : List UInt8 := [42, 27, 182, 0, 79, 180, 0, 92, 182, 0, 46, 172]
abbrev dktX1_pieces_0 : List UInt8 := dkwX1_pieces_0 ++ []
theorem dksX1_pieces_0 : cX1_pieces.data.toList.drop 0 = dktX1_pieces_0 := by decide +kernel
theorem dX1_pieces_0 : decode cX1_pieces 0 = .ok (.aload_n 0, 1) := dk_42 (dk_at dksX1_pieces_0 0 rfl rfl)
theorem dX1_pieces_1 : decode cX1_pieces 1 = .ok (.iload_n 1, 1) := dk_27 (dk_at dksX1_pieces_0 1 rfl rfl)
theorem dX1_pieces_2 : decode cX1_pieces 2 = .ok (.invokevirtual 79, 3) := dk_182 0 79 (dk_at dksX1_pieces_0 2 rfl rfl)
theorem dX1_pieces_5 : decode cX1_pieces 5 = .ok (.getfield 92, 3) := dk_180 0 92 (dk_at dksX1_pieces_0 5 rfl rfl)
theorem dX1_pieces_8 : decode cX1_pieces 8 = .ok (.invokevirtual 46, 3) := dk_182 0 46 (dk_at dksX1_pieces_0 8 rfl rfl)
theorem dX1_pieces_11 : decode cX1_pieces 11 = .ok (.ireturn, 1) := dk_172 (dk_at dksX1_pieces_0 11 rfl rfl)
abbrev cX1_piece : ByteArray := prog_1_method_29_code
def yX1_piece : MethodName := ⟨RX1, "piece", "(III)I"⟩
def dkwX1_piece_1 : List UInt8 := [25, 4, 180, 0, 92, 28, 182, 0, 54, 192, 0, 109, 29, 182, 0, 210, 172]
abbrev dktX1_piece_1 : List UInt8 := dkwX1_piece_1 ++ []
def dkwX1_piece_0 : List UInt8 := [42, 27, 182, 0, 79, 58, 4, 28, 25, 4, 180, 0, 92, 182, 0, 46, 184, 0, 50, 29, 7, 184, 0, 50]
abbrev dktX1_piece_0 : List UInt8 := dkwX1_piece_0 ++ dktX1_piece_1
theorem dksX1_piece_0 : cX1_piece.data.toList.drop 0 = dktX1_piece_0 := by decide +kernel
theorem dksX1_piece_1 : cX1_piece.data.toList.drop 24 = dktX1_piece_1 := dk_seg dksX1_piece_0 24 rfl rfl
theorem dX1_piece_0 : decode cX1_piece 0 = .ok (.aload_n 0, 1) := dk_42 (dk_at dksX1_piece_0 0 rfl rfl)
theorem dX1_piece_1 : decode cX1_piece 1 = .ok (.iload_n 1, 1) := dk_27 (dk_at dksX1_piece_0 1 rfl rfl)
theorem dX1_piece_2 : decode cX1_piece 2 = .ok (.invokevirtual 79, 3) := dk_182 0 79 (dk_at dksX1_piece_0 2 rfl rfl)
theorem dX1_piece_5 : decode cX1_piece 5 = .ok (.astore 4, 2) := dk_58 4 (dk_at dksX1_piece_0 5 rfl rfl)
theorem dX1_piece_7 : decode cX1_piece 7 = .ok (.iload_n 2, 1) := dk_28 (dk_at dksX1_piece_0 7 rfl rfl)
theorem dX1_piece_8 : decode cX1_piece 8 = .ok (.aload 4, 2) := dk_25 4 (dk_at dksX1_piece_0 8 rfl rfl)
theorem dX1_piece_10 : decode cX1_piece 10 = .ok (.getfield 92, 3) := dk_180 0 92 (dk_at dksX1_piece_0 10 rfl rfl)
theorem dX1_piece_13 : decode cX1_piece 13 = .ok (.invokevirtual 46, 3) := dk_182 0 46 (dk_at dksX1_piece_0 13 rfl rfl)
theorem dX1_piece_16 : decode cX1_piece 16 = .ok (.invokestatic 50, 3) := dk_184 0 50 (dk_at dksX1_piece_0 16 rfl rfl)
theorem dX1_piece_19 : decode cX1_piece 19 = .ok (.iload_n 3, 1) := dk_29 (dk_at dksX1_piece_0 19 rfl rfl)
theorem dX1_piece_20 : decode cX1_piece 20 = .ok (.iconst 4, 1) := dk_7 (dk_at dksX1_piece_0 20 rfl rfl)
theorem dX1_piece_21 : decode cX1_piece 21 = .ok (.invokestatic 50, 3) := dk_184 0 50 (dk_at dksX1_piece_0 21 rfl rfl)
theorem dX1_piece_24 : decode cX1_piece 24 = .ok (.aload 4, 2) := dk_25 4 (dk_at dksX1_piece_1 0 rfl rfl)
theorem dX1_piece_26 : decode cX1_piece 26 = .ok (.getfield 92, 3) := dk_180 0 92 (dk_at dksX1_piece_1 2 rfl rfl)
theorem dX1_piece_29 : decode cX1_piece 29 = .ok (.iload_n 2, 1) := dk_28 (dk_at dksX1_piece_1 5 rfl rfl)
theorem dX1_piece_30 : decode cX1_piece 30 = .ok (.invokevirtual 54, 3) := dk_182 0 54 (dk_at dksX1_piece_1 6 rfl rfl)
theorem dX1_piece_33 : decode cX1_piece 33 = .ok (.checkcast 109, 3) := dk_192 0 109 (dk_at dksX1_piece_1 9 rfl rfl)
theorem dX1_piece_36 : decode cX1_piece 36 = .ok (.iload_n 3, 1) := dk_29 (dk_at dksX1_piece_1 12 rfl rfl)
theorem dX1_piece_37 : decode cX1_piece 37 = .ok (.invokevirtual 210, 3) := dk_182 0 210 (dk_at dksX1_piece_1 13 rfl rfl)
theorem dX1_piece_40 : decode cX1_piece 40 = .ok (.ireturn, 1) := dk_172 (dk_at dksX1_piece_1 16 rfl rfl)
abbrev cX1_cuts : ByteArray := prog_1_method_30_code
def yX1_cuts : MethodName := ⟨RX1, "cuts", "(I)I"⟩
def dkwX1_cuts_0 : List UInt8 := [42, 27, 182, 0, 79, 42, 180, 0, 39, 182, 0, 212, 172]
abbrev dktX1_cuts_0 : List UInt8 := dkwX1_cuts_0 ++ []
theorem dksX1_cuts_0 : cX1_cuts.data.toList.drop 0 = dktX1_cuts_0 := by decide +kernel
theorem dX1_cuts_0 : decode cX1_cuts 0 = .ok (.aload_n 0, 1) := dk_42 (dk_at dksX1_cuts_0 0 rfl rfl)
theorem dX1_cuts_1 : decode cX1_cuts 1 = .ok (.iload_n 1, 1) := dk_27 (dk_at dksX1_cuts_0 1 rfl rfl)
theorem dX1_cuts_2 : decode cX1_cuts 2 = .ok (.invokevirtual 79, 3) := dk_182 0 79 (dk_at dksX1_cuts_0 2 rfl rfl)
theorem dX1_cuts_5 : decode cX1_cuts 5 = .ok (.aload_n 0, 1) := dk_42 (dk_at dksX1_cuts_0 5 rfl rfl)
theorem dX1_cuts_6 : decode cX1_cuts 6 = .ok (.getfield 39, 3) := dk_180 0 39 (dk_at dksX1_cuts_0 6 rfl rfl)
theorem dX1_cuts_9 : decode cX1_cuts 9 = .ok (.invokevirtual 212, 3) := dk_182 0 212 (dk_at dksX1_cuts_0 9 rfl rfl)
theorem dX1_cuts_12 : decode cX1_cuts 12 = .ok (.ireturn, 1) := dk_172 (dk_at dksX1_cuts_0 12 rfl rfl)
abbrev cX1_longestRoom : ByteArray := prog_1_method_31_code
def yX1_longestRoom : MethodName := ⟨RX1, "longestRoom", "(I)I"⟩
def dkwX1_longestRoom_0 : List UInt8 := [42, 27, 182, 0, 79, 42, 180, 0, 39, 182, 0, 215, 172]
abbrev dktX1_longestRoom_0 : List UInt8 := dkwX1_longestRoom_0 ++ []
theorem dksX1_longestRoom_0 : cX1_longestRoom.data.toList.drop 0 = dktX1_longestRoom_0 := by decide +kernel
theorem dX1_longestRoom_0 : decode cX1_longestRoom 0 = .ok (.aload_n 0, 1) := dk_42 (dk_at dksX1_longestRoom_0 0 rfl rfl)
theorem dX1_longestRoom_1 : decode cX1_longestRoom 1 = .ok (.iload_n 1, 1) := dk_27 (dk_at dksX1_longestRoom_0 1 rfl rfl)
theorem dX1_longestRoom_2 : decode cX1_longestRoom 2 = .ok (.invokevirtual 79, 3) := dk_182 0 79 (dk_at dksX1_longestRoom_0 2 rfl rfl)
theorem dX1_longestRoom_5 : decode cX1_longestRoom 5 = .ok (.aload_n 0, 1) := dk_42 (dk_at dksX1_longestRoom_0 5 rfl rfl)
theorem dX1_longestRoom_6 : decode cX1_longestRoom 6 = .ok (.getfield 39, 3) := dk_180 0 39 (dk_at dksX1_longestRoom_0 6 rfl rfl)
theorem dX1_longestRoom_9 : decode cX1_longestRoom 9 = .ok (.invokevirtual 215, 3) := dk_182 0 215 (dk_at dksX1_longestRoom_0 9 rfl rfl)
theorem dX1_longestRoom_12 : decode cX1_longestRoom 12 = .ok (.ireturn, 1) := dk_172 (dk_at dksX1_longestRoom_0 12 rfl rfl)
abbrev cX1_bestUse : ByteArray := prog_1_method_32_code
def yX1_bestUse : MethodName := ⟨RX1, "bestUse", "(III)I"⟩
def dkwX1_bestUse_7 : List UInt8 := [167, 255, 203, 132, 8, 1, 167, 255, 180, 167, 255, 127, 25, 5, 29, 42, 180, 0, 39, 96, 46, 172]
abbrev dktX1_bestUse_7 : List UInt8 := dkwX1_bestUse_7 ++ []
def dkwX1_bestUse_6 : List UInt8 := [180, 0, 139, 100, 42, 180, 0, 39, 100, 46, 25, 7, 180, 0, 139, 96, 184, 0, 225, 79, 132, 9, 255]
abbrev dktX1_bestUse_6 : List UInt8 := dkwX1_bestUse_6 ++ dktX1_bestUse_7
def dkwX1_bestUse_5 : List UInt8 := [180, 0, 39, 96, 161, 0, 44, 25, 5, 21, 9, 25, 5, 21, 9, 46, 25, 5, 21, 9, 25, 7]
abbrev dktX1_bestUse_5 : List UInt8 := dkwX1_bestUse_5 ++ dktX1_bestUse_6
def dkwX1_bestUse_4 : List UInt8 := [25, 7, 180, 0, 168, 162, 0, 72, 25, 5, 190, 4, 100, 54, 9, 21, 9, 25, 7, 180, 0, 139, 42]
abbrev dktX1_bestUse_4 : List UInt8 := dkwX1_bestUse_4 ++ dktX1_bestUse_5
def dkwX1_bestUse_3 : List UInt8 := [180, 0, 221, 163, 255, 224, 25, 7, 180, 0, 222, 28, 162, 0, 6, 167, 255, 212, 3, 54, 8, 21, 8]
abbrev dktX1_bestUse_3 : List UInt8 := dkwX1_bestUse_3 ++ dktX1_bestUse_4
def dkwX1_bestUse_2 : List UInt8 := [153, 0, 125, 25, 6, 185, 0, 105, 1, 0, 192, 0, 60, 58, 7, 25, 7, 180, 0, 218, 25, 4]
abbrev dktX1_bestUse_2 : List UInt8 := dkwX1_bestUse_2 ++ dktX1_bestUse_3
def dkwX1_bestUse_1 : List UInt8 := [96, 4, 96, 188, 10, 58, 5, 42, 180, 0, 29, 182, 0, 95, 58, 6, 25, 6, 185, 0, 99, 1, 0]
abbrev dktX1_bestUse_1 : List UInt8 := dkwX1_bestUse_1 ++ dktX1_bestUse_2
def dkwX1_bestUse_0 : List UInt8 := [42, 27, 182, 0, 79, 58, 4, 28, 184, 0, 66, 3, 17, 11, 184, 29, 184, 0, 62, 29, 42, 180, 0, 39]
abbrev dktX1_bestUse_0 : List UInt8 := dkwX1_bestUse_0 ++ dktX1_bestUse_1
theorem dksX1_bestUse_0 : cX1_bestUse.data.toList.drop 0 = dktX1_bestUse_0 := by decide +kernel
theorem dksX1_bestUse_1 : cX1_bestUse.data.toList.drop 24 = dktX1_bestUse_1 := dk_seg dksX1_bestUse_0 24 rfl rfl
theorem dksX1_bestUse_2 : cX1_bestUse.data.toList.drop 47 = dktX1_bestUse_2 := dk_seg dksX1_bestUse_1 23 rfl rfl
theorem dksX1_bestUse_3 : cX1_bestUse.data.toList.drop 69 = dktX1_bestUse_3 := dk_seg dksX1_bestUse_2 22 rfl rfl
theorem dksX1_bestUse_4 : cX1_bestUse.data.toList.drop 92 = dktX1_bestUse_4 := dk_seg dksX1_bestUse_3 23 rfl rfl
theorem dksX1_bestUse_5 : cX1_bestUse.data.toList.drop 115 = dktX1_bestUse_5 := dk_seg dksX1_bestUse_4 23 rfl rfl
theorem dksX1_bestUse_6 : cX1_bestUse.data.toList.drop 137 = dktX1_bestUse_6 := dk_seg dksX1_bestUse_5 22 rfl rfl
theorem dksX1_bestUse_7 : cX1_bestUse.data.toList.drop 160 = dktX1_bestUse_7 := dk_seg dksX1_bestUse_6 23 rfl rfl
theorem dX1_bestUse_0 : decode cX1_bestUse 0 = .ok (.aload_n 0, 1) := dk_42 (dk_at dksX1_bestUse_0 0 rfl rfl)
theorem dX1_bestUse_1 : decode cX1_bestUse 1 = .ok (.iload_n 1, 1) := dk_27 (dk_at dksX1_bestUse_0 1 rfl rfl)
theorem dX1_bestUse_2 : decode cX1_bestUse 2 = .ok (.invokevirtual 79, 3) := dk_182 0 79 (dk_at dksX1_bestUse_0 2 rfl rfl)
theorem dX1_bestUse_5 : decode cX1_bestUse 5 = .ok (.astore 4, 2) := dk_58 4 (dk_at dksX1_bestUse_0 5 rfl rfl)
theorem dX1_bestUse_7 : decode cX1_bestUse 7 = .ok (.iload_n 2, 1) := dk_28 (dk_at dksX1_bestUse_0 7 rfl rfl)
theorem dX1_bestUse_8 : decode cX1_bestUse 8 = .ok (.invokestatic 66, 3) := dk_184 0 66 (dk_at dksX1_bestUse_0 8 rfl rfl)
theorem dX1_bestUse_11 : decode cX1_bestUse 11 = .ok (.iconst 0, 1) := dk_3 (dk_at dksX1_bestUse_0 11 rfl rfl)
theorem dX1_bestUse_12 : decode cX1_bestUse 12 = .ok (.sipush 3000, 3) := dk_17 11 184 (dk_at dksX1_bestUse_0 12 rfl rfl)
theorem dX1_bestUse_15 : decode cX1_bestUse 15 = .ok (.iload_n 3, 1) := dk_29 (dk_at dksX1_bestUse_0 15 rfl rfl)
theorem dX1_bestUse_16 : decode cX1_bestUse 16 = .ok (.invokestatic 62, 3) := dk_184 0 62 (dk_at dksX1_bestUse_0 16 rfl rfl)
theorem dX1_bestUse_19 : decode cX1_bestUse 19 = .ok (.iload_n 3, 1) := dk_29 (dk_at dksX1_bestUse_0 19 rfl rfl)
theorem dX1_bestUse_20 : decode cX1_bestUse 20 = .ok (.aload_n 0, 1) := dk_42 (dk_at dksX1_bestUse_0 20 rfl rfl)
theorem dX1_bestUse_21 : decode cX1_bestUse 21 = .ok (.getfield 39, 3) := dk_180 0 39 (dk_at dksX1_bestUse_0 21 rfl rfl)
theorem dX1_bestUse_24 : decode cX1_bestUse 24 = .ok (.iadd, 1) := dk_96 (dk_at dksX1_bestUse_1 0 rfl rfl)
theorem dX1_bestUse_25 : decode cX1_bestUse 25 = .ok (.iconst 1, 1) := dk_4 (dk_at dksX1_bestUse_1 1 rfl rfl)
theorem dX1_bestUse_26 : decode cX1_bestUse 26 = .ok (.iadd, 1) := dk_96 (dk_at dksX1_bestUse_1 2 rfl rfl)
theorem dX1_bestUse_27 : decode cX1_bestUse 27 = .ok (.newarray .int, 2) := dk_188_10 (dk_at dksX1_bestUse_1 3 rfl rfl)
theorem dX1_bestUse_29 : decode cX1_bestUse 29 = .ok (.astore 5, 2) := dk_58 5 (dk_at dksX1_bestUse_1 5 rfl rfl)
theorem dX1_bestUse_31 : decode cX1_bestUse 31 = .ok (.aload_n 0, 1) := dk_42 (dk_at dksX1_bestUse_1 7 rfl rfl)
theorem dX1_bestUse_32 : decode cX1_bestUse 32 = .ok (.getfield 29, 3) := dk_180 0 29 (dk_at dksX1_bestUse_1 8 rfl rfl)
theorem dX1_bestUse_35 : decode cX1_bestUse 35 = .ok (.invokevirtual 95, 3) := dk_182 0 95 (dk_at dksX1_bestUse_1 11 rfl rfl)
theorem dX1_bestUse_38 : decode cX1_bestUse 38 = .ok (.astore 6, 2) := dk_58 6 (dk_at dksX1_bestUse_1 14 rfl rfl)
theorem dX1_bestUse_40 : decode cX1_bestUse 40 = .ok (.aload 6, 2) := dk_25 6 (dk_at dksX1_bestUse_1 16 rfl rfl)
theorem dX1_bestUse_42 : decode cX1_bestUse 42 = .ok (.invokeinterface 99 1, 5) := by decide +kernel
theorem dX1_bestUse_47 : decode cX1_bestUse 47 = .ok (.ifCond .eq 125, 3) := dk_153 0 125 (dk_at dksX1_bestUse_2 0 rfl rfl)
theorem dX1_bestUse_50 : decode cX1_bestUse 50 = .ok (.aload 6, 2) := dk_25 6 (dk_at dksX1_bestUse_2 3 rfl rfl)
theorem dX1_bestUse_52 : decode cX1_bestUse 52 = .ok (.invokeinterface 105 1, 5) := by decide +kernel
theorem dX1_bestUse_57 : decode cX1_bestUse 57 = .ok (.checkcast 60, 3) := dk_192 0 60 (dk_at dksX1_bestUse_2 10 rfl rfl)
theorem dX1_bestUse_60 : decode cX1_bestUse 60 = .ok (.astore 7, 2) := dk_58 7 (dk_at dksX1_bestUse_2 13 rfl rfl)
theorem dX1_bestUse_62 : decode cX1_bestUse 62 = .ok (.aload 7, 2) := dk_25 7 (dk_at dksX1_bestUse_2 15 rfl rfl)
theorem dX1_bestUse_64 : decode cX1_bestUse 64 = .ok (.getfield 218, 3) := dk_180 0 218 (dk_at dksX1_bestUse_2 17 rfl rfl)
theorem dX1_bestUse_67 : decode cX1_bestUse 67 = .ok (.aload 4, 2) := dk_25 4 (dk_at dksX1_bestUse_2 20 rfl rfl)
theorem dX1_bestUse_69 : decode cX1_bestUse 69 = .ok (.getfield 221, 3) := dk_180 0 221 (dk_at dksX1_bestUse_3 0 rfl rfl)
theorem dX1_bestUse_72 : decode cX1_bestUse 72 = .ok (.if_icmp .gt (-32), 3) := dk_163 255 224 (dk_at dksX1_bestUse_3 3 rfl rfl)
theorem dX1_bestUse_75 : decode cX1_bestUse 75 = .ok (.aload 7, 2) := dk_25 7 (dk_at dksX1_bestUse_3 6 rfl rfl)
theorem dX1_bestUse_77 : decode cX1_bestUse 77 = .ok (.getfield 222, 3) := dk_180 0 222 (dk_at dksX1_bestUse_3 8 rfl rfl)
theorem dX1_bestUse_80 : decode cX1_bestUse 80 = .ok (.iload_n 2, 1) := dk_28 (dk_at dksX1_bestUse_3 11 rfl rfl)
theorem dX1_bestUse_81 : decode cX1_bestUse 81 = .ok (.if_icmp .ge 6, 3) := dk_162 0 6 (dk_at dksX1_bestUse_3 12 rfl rfl)
theorem dX1_bestUse_84 : decode cX1_bestUse 84 = .ok (.goto (-44), 3) := dk_167 255 212 (dk_at dksX1_bestUse_3 15 rfl rfl)
theorem dX1_bestUse_87 : decode cX1_bestUse 87 = .ok (.iconst 0, 1) := dk_3 (dk_at dksX1_bestUse_3 18 rfl rfl)
theorem dX1_bestUse_88 : decode cX1_bestUse 88 = .ok (.istore 8, 2) := dk_54 8 (dk_at dksX1_bestUse_3 19 rfl rfl)
theorem dX1_bestUse_90 : decode cX1_bestUse 90 = .ok (.iload 8, 2) := dk_21 8 (dk_at dksX1_bestUse_3 21 rfl rfl)
theorem dX1_bestUse_92 : decode cX1_bestUse 92 = .ok (.aload 7, 2) := dk_25 7 (dk_at dksX1_bestUse_4 0 rfl rfl)
theorem dX1_bestUse_94 : decode cX1_bestUse 94 = .ok (.getfield 168, 3) := dk_180 0 168 (dk_at dksX1_bestUse_4 2 rfl rfl)
theorem dX1_bestUse_97 : decode cX1_bestUse 97 = .ok (.if_icmp .ge 72, 3) := dk_162 0 72 (dk_at dksX1_bestUse_4 5 rfl rfl)
theorem dX1_bestUse_100 : decode cX1_bestUse 100 = .ok (.aload 5, 2) := dk_25 5 (dk_at dksX1_bestUse_4 8 rfl rfl)
theorem dX1_bestUse_102 : decode cX1_bestUse 102 = .ok (.arraylength, 1) := dk_190 (dk_at dksX1_bestUse_4 10 rfl rfl)
theorem dX1_bestUse_103 : decode cX1_bestUse 103 = .ok (.iconst 1, 1) := dk_4 (dk_at dksX1_bestUse_4 11 rfl rfl)
theorem dX1_bestUse_104 : decode cX1_bestUse 104 = .ok (.isub, 1) := dk_100 (dk_at dksX1_bestUse_4 12 rfl rfl)
theorem dX1_bestUse_105 : decode cX1_bestUse 105 = .ok (.istore 9, 2) := dk_54 9 (dk_at dksX1_bestUse_4 13 rfl rfl)
theorem dX1_bestUse_107 : decode cX1_bestUse 107 = .ok (.iload 9, 2) := dk_21 9 (dk_at dksX1_bestUse_4 15 rfl rfl)
theorem dX1_bestUse_109 : decode cX1_bestUse 109 = .ok (.aload 7, 2) := dk_25 7 (dk_at dksX1_bestUse_4 17 rfl rfl)
theorem dX1_bestUse_111 : decode cX1_bestUse 111 = .ok (.getfield 139, 3) := dk_180 0 139 (dk_at dksX1_bestUse_4 19 rfl rfl)
theorem dX1_bestUse_114 : decode cX1_bestUse 114 = .ok (.aload_n 0, 1) := dk_42 (dk_at dksX1_bestUse_4 22 rfl rfl)
theorem dX1_bestUse_115 : decode cX1_bestUse 115 = .ok (.getfield 39, 3) := dk_180 0 39 (dk_at dksX1_bestUse_5 0 rfl rfl)
theorem dX1_bestUse_118 : decode cX1_bestUse 118 = .ok (.iadd, 1) := dk_96 (dk_at dksX1_bestUse_5 3 rfl rfl)
theorem dX1_bestUse_119 : decode cX1_bestUse 119 = .ok (.if_icmp .lt 44, 3) := dk_161 0 44 (dk_at dksX1_bestUse_5 4 rfl rfl)
theorem dX1_bestUse_122 : decode cX1_bestUse 122 = .ok (.aload 5, 2) := dk_25 5 (dk_at dksX1_bestUse_5 7 rfl rfl)
theorem dX1_bestUse_124 : decode cX1_bestUse 124 = .ok (.iload 9, 2) := dk_21 9 (dk_at dksX1_bestUse_5 9 rfl rfl)
theorem dX1_bestUse_126 : decode cX1_bestUse 126 = .ok (.aload 5, 2) := dk_25 5 (dk_at dksX1_bestUse_5 11 rfl rfl)
theorem dX1_bestUse_128 : decode cX1_bestUse 128 = .ok (.iload 9, 2) := dk_21 9 (dk_at dksX1_bestUse_5 13 rfl rfl)
theorem dX1_bestUse_130 : decode cX1_bestUse 130 = .ok (.iaload, 1) := dk_46 (dk_at dksX1_bestUse_5 15 rfl rfl)
theorem dX1_bestUse_131 : decode cX1_bestUse 131 = .ok (.aload 5, 2) := dk_25 5 (dk_at dksX1_bestUse_5 16 rfl rfl)
theorem dX1_bestUse_133 : decode cX1_bestUse 133 = .ok (.iload 9, 2) := dk_21 9 (dk_at dksX1_bestUse_5 18 rfl rfl)
theorem dX1_bestUse_135 : decode cX1_bestUse 135 = .ok (.aload 7, 2) := dk_25 7 (dk_at dksX1_bestUse_5 20 rfl rfl)
theorem dX1_bestUse_137 : decode cX1_bestUse 137 = .ok (.getfield 139, 3) := dk_180 0 139 (dk_at dksX1_bestUse_6 0 rfl rfl)
theorem dX1_bestUse_140 : decode cX1_bestUse 140 = .ok (.isub, 1) := dk_100 (dk_at dksX1_bestUse_6 3 rfl rfl)
theorem dX1_bestUse_141 : decode cX1_bestUse 141 = .ok (.aload_n 0, 1) := dk_42 (dk_at dksX1_bestUse_6 4 rfl rfl)
theorem dX1_bestUse_142 : decode cX1_bestUse 142 = .ok (.getfield 39, 3) := dk_180 0 39 (dk_at dksX1_bestUse_6 5 rfl rfl)
theorem dX1_bestUse_145 : decode cX1_bestUse 145 = .ok (.isub, 1) := dk_100 (dk_at dksX1_bestUse_6 8 rfl rfl)
theorem dX1_bestUse_146 : decode cX1_bestUse 146 = .ok (.iaload, 1) := dk_46 (dk_at dksX1_bestUse_6 9 rfl rfl)
theorem dX1_bestUse_147 : decode cX1_bestUse 147 = .ok (.aload 7, 2) := dk_25 7 (dk_at dksX1_bestUse_6 10 rfl rfl)
theorem dX1_bestUse_149 : decode cX1_bestUse 149 = .ok (.getfield 139, 3) := dk_180 0 139 (dk_at dksX1_bestUse_6 12 rfl rfl)
theorem dX1_bestUse_152 : decode cX1_bestUse 152 = .ok (.iadd, 1) := dk_96 (dk_at dksX1_bestUse_6 15 rfl rfl)
theorem dX1_bestUse_153 : decode cX1_bestUse 153 = .ok (.invokestatic 225, 3) := dk_184 0 225 (dk_at dksX1_bestUse_6 16 rfl rfl)
theorem dX1_bestUse_156 : decode cX1_bestUse 156 = .ok (.iastore, 1) := dk_79 (dk_at dksX1_bestUse_6 19 rfl rfl)
theorem dX1_bestUse_157 : decode cX1_bestUse 157 = .ok (.iinc 9 (-1), 3) := dk_132 9 255 (dk_at dksX1_bestUse_6 20 rfl rfl)
theorem dX1_bestUse_160 : decode cX1_bestUse 160 = .ok (.goto (-53), 3) := dk_167 255 203 (dk_at dksX1_bestUse_7 0 rfl rfl)
theorem dX1_bestUse_163 : decode cX1_bestUse 163 = .ok (.iinc 8 1, 3) := dk_132 8 1 (dk_at dksX1_bestUse_7 3 rfl rfl)
theorem dX1_bestUse_166 : decode cX1_bestUse 166 = .ok (.goto (-76), 3) := dk_167 255 180 (dk_at dksX1_bestUse_7 6 rfl rfl)
theorem dX1_bestUse_169 : decode cX1_bestUse 169 = .ok (.goto (-129), 3) := dk_167 255 127 (dk_at dksX1_bestUse_7 9 rfl rfl)
theorem dX1_bestUse_172 : decode cX1_bestUse 172 = .ok (.aload 5, 2) := dk_25 5 (dk_at dksX1_bestUse_7 12 rfl rfl)
theorem dX1_bestUse_174 : decode cX1_bestUse 174 = .ok (.iload_n 3, 1) := dk_29 (dk_at dksX1_bestUse_7 14 rfl rfl)
theorem dX1_bestUse_175 : decode cX1_bestUse 175 = .ok (.aload_n 0, 1) := dk_42 (dk_at dksX1_bestUse_7 15 rfl rfl)
theorem dX1_bestUse_176 : decode cX1_bestUse 176 = .ok (.getfield 39, 3) := dk_180 0 39 (dk_at dksX1_bestUse_7 16 rfl rfl)
theorem dX1_bestUse_179 : decode cX1_bestUse 179 = .ok (.iadd, 1) := dk_96 (dk_at dksX1_bestUse_7 19 rfl rfl)
theorem dX1_bestUse_180 : decode cX1_bestUse 180 = .ok (.iaload, 1) := dk_46 (dk_at dksX1_bestUse_7 20 rfl rfl)
theorem dX1_bestUse_181 : decode cX1_bestUse 181 = .ok (.ireturn, 1) := dk_172 (dk_at dksX1_bestUse_7 21 rfl rfl)
theorem q47 : (Jvm.Cond.initialized "TimberList") ∈ lw_all := lw_g (lw_at lw_m1 1 rfl) rfl
theorem q97 : (Jvm.Cond.instantiable "TimberList" (6 : Nat)) ∈ lw_all := lw_g (lw_at lw_m1 51 rfl) rfl
theorem q99 : (Jvm.Cond.instanceMethod ({ cls := "TimberList", name := "<init>", desc := "()V" } : Jvm.MethodName)) ∈ lw_all := lw_g (lw_at lw_m1 53 rfl) rfl
theorem q100 : (Jvm.Cond.code ({ cls := "TimberList", name := "<init>", desc := "()V" } : Jvm.MethodName) prog_1_method_5_code (1 : Nat) (Option.none : Option Jvm.ClassFile.FieldType)) ∈ lw_all := lw_g (lw_at lw_m1 54 rfl) rfl
theorem q101 : (Jvm.Cond.methodLink "TimberList" (19 : Nat) ({ cls := "java/lang/Object", name := "<init>", desc := "()V" } : Jvm.MethodName)) ∈ lw_all := lw_g (lw_at lw_m1 55 rfl) rfl
theorem q104 : (Jvm.Cond.classLink "TimberList" (22 : Nat) "java/util/ArrayList") ∈ lw_all := lw_g (lw_at lw_m1 58 rfl) rfl
theorem q106 : (Jvm.Cond.methodLink "TimberList" (24 : Nat) ({ cls := "java/util/ArrayList", name := "<init>", desc := "()V" } : Jvm.MethodName)) ∈ lw_all := lw_g (lw_at lw_m1 60 rfl) rfl
theorem q135 : (Jvm.Cond.classLink "TimberList" (32 : Nat) "java/util/LinkedList") ∈ lw_all := lw_g (lw_at lw_m1 89 rfl) rfl
theorem q137 : (Jvm.Cond.methodLink "TimberList" (34 : Nat) ({ cls := "java/util/LinkedList", name := "<init>", desc := "()V" } : Jvm.MethodName)) ∈ lw_all := lw_g (lw_at lw_m1 91 rfl) rfl
theorem q155 : (Jvm.Cond.fieldLink "TimberList" (25 : Nat) "TimberList" "boards" "Ljava/util/ArrayList;") ∈ lw_all := lw_g (lw_at lw_m1 109 rfl) rfl
theorem q156 : (Jvm.Cond.fieldLink "TimberList" (29 : Nat) "TimberList" "parts" "Ljava/util/ArrayList;") ∈ lw_all := lw_g (lw_at lw_m1 110 rfl) rfl
theorem q157 : (Jvm.Cond.fieldLink "TimberList" (35 : Nat) "TimberList" "cuttings" "Ljava/util/LinkedList;") ∈ lw_all := lw_g (lw_at lw_m1 111 rfl) rfl
theorem q158 : (Jvm.Cond.fieldLink "TimberList" (86 : Nat) "TimberList" "defects" "I") ∈ lw_all := lw_g (lw_at lw_m1 112 rfl) rfl
theorem q159 : (Jvm.Cond.fieldLink "TimberList" (39 : Nat) "TimberList" "saw" "I") ∈ lw_all := lw_g (lw_at lw_m1 113 rfl) rfl
theorem q160 : (Jvm.Cond.fieldLink "TimberList" (43 : Nat) "TimberList" "joint" "I") ∈ lw_all := lw_g (lw_at lw_m1 114 rfl) rfl
theorem q161 : (Jvm.Cond.laysFinal "TimberList" "TimberList" "boards" "Ljava/util/ArrayList;") ∈ lw_all := lw_g (lw_at lw_m1 115 rfl) rfl
theorem q162 : (Jvm.Cond.soleField "TimberList" "boards") ∈ lw_all := lw_g (lw_at lw_m1 116 rfl) rfl
theorem q163 : (Jvm.Cond.laysFinal "TimberList" "TimberList" "parts" "Ljava/util/ArrayList;") ∈ lw_all := lw_g (lw_at lw_m1 117 rfl) rfl
theorem q164 : (Jvm.Cond.soleField "TimberList" "parts") ∈ lw_all := lw_g (lw_at lw_m1 118 rfl) rfl
theorem q165 : (Jvm.Cond.laysFinal "TimberList" "TimberList" "cuttings" "Ljava/util/LinkedList;") ∈ lw_all := lw_g (lw_at lw_m1 119 rfl) rfl
theorem q166 : (Jvm.Cond.soleField "TimberList" "cuttings") ∈ lw_all := lw_g (lw_at lw_m1 120 rfl) rfl
theorem q167 : (Jvm.Cond.lays "TimberList" "TimberList" "defects" "I") ∈ lw_all := lw_g (lw_at lw_m1 121 rfl) rfl
theorem q168 : (Jvm.Cond.soleField "TimberList" "defects") ∈ lw_all := lw_g (lw_at lw_m1 122 rfl) rfl
theorem q169 : (Jvm.Cond.lays "TimberList" "TimberList" "saw" "I") ∈ lw_all := lw_g (lw_at lw_m1 123 rfl) rfl
theorem q170 : (Jvm.Cond.soleField "TimberList" "saw") ∈ lw_all := lw_g (lw_at lw_m1 124 rfl) rfl
theorem q171 : (Jvm.Cond.lays "TimberList" "TimberList" "joint" "I") ∈ lw_all := lw_g (lw_at lw_m1 125 rfl) rfl
theorem q172 : (Jvm.Cond.soleField "TimberList" "joint") ∈ lw_all := lw_g (lw_at lw_m1 126 rfl) rfl
theorem q173 : (Jvm.Cond.superclass "TimberList" "java/lang/Object") ∈ lw_all := lw_g (lw_at lw_m1 127 rfl) rfl
theorem q175 : (Jvm.Cond.instanceMethod ({ cls := "TimberList", name := "plan", desc := "()I" } : Jvm.MethodName)) ∈ lw_all := lw_g (lw_at lw_m1 129 rfl) rfl
theorem q176 : (Jvm.Cond.selects "TimberList" ({ cls := "TimberList", name := "plan", desc := "()I" } : Jvm.MethodName) ({ cls := "TimberList", name := "plan", desc := "()I" } : Jvm.MethodName)) ∈ lw_all := lw_g (lw_at lw_m1 130 rfl) rfl
theorem q177 : (Jvm.Cond.code ({ cls := "TimberList", name := "plan", desc := "()I" } : Jvm.MethodName) prog_1_method_26_code (4 : Nat) (Option.some Jvm.ClassFile.FieldType.int)) ∈ lw_all := lw_g (lw_at lw_m1 131 rfl) rfl
theorem q178 : (Jvm.Cond.methodLink "TimberList" (207 : Nat) ({ cls := "TimberList", name := "next", desc := "()LTimberList$Part;" } : Jvm.MethodName)) ∈ lw_all := lw_g (lw_at lw_m1 132 rfl) rfl
theorem q179 : (Jvm.Cond.privateMethod ({ cls := "TimberList", name := "next", desc := "()LTimberList$Part;" } : Jvm.MethodName)) ∈ lw_tbl := lw_at lw_m1 133 rfl
theorem q180 : (Jvm.Cond.instanceMethod ({ cls := "TimberList", name := "next", desc := "()LTimberList$Part;" } : Jvm.MethodName)) ∈ lw_all := lw_g (lw_at lw_m1 134 rfl) rfl
theorem q181 : (Jvm.Cond.code ({ cls := "TimberList", name := "next", desc := "()LTimberList$Part;" } : Jvm.MethodName) prog_1_method_25_code (4 : Nat) (Option.some (Jvm.ClassFile.FieldType.object "TimberList$Part"))) ∈ lw_all := lw_g (lw_at lw_m1 135 rfl) rfl
theorem q182 : (Jvm.Cond.methodLink "TimberList" (95 : Nat) ({ cls := "java/util/ArrayList", name := "iterator", desc := "()Ljava/util/Iterator;" } : Jvm.MethodName)) ∈ lw_all := lw_g (lw_at lw_m1 136 rfl) rfl
theorem q205 : (Jvm.Cond.interfaceEntry "TimberList" (99 : Nat)) ∈ lw_tbl := lw_at lw_m1 159 rfl
theorem q206 : (Jvm.Cond.methodLink "TimberList" (99 : Nat) ({ cls := "java/util/Iterator", name := "hasNext", desc := "()Z" } : Jvm.MethodName)) ∈ lw_all := lw_g (lw_at lw_m1 160 rfl) rfl
theorem q227 : (Jvm.Cond.interfaceEntry "TimberList" (105 : Nat)) ∈ lw_tbl := lw_at lw_m1 181 rfl
theorem q228 : (Jvm.Cond.methodLink "TimberList" (105 : Nat) ({ cls := "java/util/Iterator", name := "next", desc := "()Ljava/lang/Object;" } : Jvm.MethodName)) ∈ lw_all := lw_g (lw_at lw_m1 182 rfl) rfl
theorem q349 : (Jvm.Cond.fieldLink "TimberList" (136 : Nat) "TimberList$Stretch" "from" "I") ∈ lw_all := lw_g (lw_at lw_m2 63 rfl) rfl
theorem q356 : (Jvm.Cond.fieldLink "TimberList" (133 : Nat) "TimberList$Stretch" "to" "I") ∈ lw_all := lw_g (lw_at lw_m2 70 rfl) rfl
theorem q390 : (Jvm.Cond.classLink "TimberList" (60 : Nat) "TimberList$Part") ∈ lw_all := lw_g (lw_at lw_m2 104 rfl) rfl
theorem q391 : (Jvm.Cond.methodLink "TimberList" (199 : Nat) ({ cls := "TimberList$Part", name := "isAhead", desc := "(LTimberList$Part;)Z" } : Jvm.MethodName)) ∈ lw_all := lw_g (lw_at lw_m2 105 rfl) rfl
theorem q395 : (Jvm.Cond.methodLink "TimberList" (203 : Nat) ({ cls := "TimberList", name := "chosen", desc := "(LTimberList$Part;)LTimberList$Board;" } : Jvm.MethodName)) ∈ lw_all := lw_g (lw_at lw_m2 109 rfl) rfl
theorem q396 : (Jvm.Cond.privateMethod ({ cls := "TimberList", name := "chosen", desc := "(LTimberList$Part;)LTimberList$Board;" } : Jvm.MethodName)) ∈ lw_tbl := lw_at lw_m2 110 rfl
theorem q397 : (Jvm.Cond.instanceMethod ({ cls := "TimberList", name := "chosen", desc := "(LTimberList$Part;)LTimberList$Board;" } : Jvm.MethodName)) ∈ lw_all := lw_g (lw_at lw_m2 111 rfl) rfl
theorem q398 : (Jvm.Cond.code ({ cls := "TimberList", name := "chosen", desc := "(LTimberList$Part;)LTimberList$Board;" } : Jvm.MethodName) prog_1_method_24_code (8 : Nat) (Option.some (Jvm.ClassFile.FieldType.object "TimberList$Board"))) ∈ lw_all := lw_g (lw_at lw_m2 112 rfl) rfl
theorem q399 : (Jvm.Cond.classLink "TimberList" (58 : Nat) "TimberList$Board") ∈ lw_all := lw_g (lw_at lw_m2 113 rfl) rfl
theorem q400 : (Jvm.Cond.methodLink "TimberList" (155 : Nat) ({ cls := "TimberList$Board", name := "earliest", desc := "(LTimberList$Part;I)I" } : Jvm.MethodName)) ∈ lw_all := lw_g (lw_at lw_m2 114 rfl) rfl
theorem q888 : (Jvm.Cond.fieldLink "TimberList" (232 : Nat) "TimberList$Piece" "part" "LTimberList$Part;") ∈ lw_all := lw_g (lw_at lw_m4 122 rfl) rfl
theorem q912 : (Jvm.Cond.methodLink "TimberList" (195 : Nat) ({ cls := "TimberList$Board", name := "room", desc := "(II)I" } : Jvm.MethodName)) ∈ lw_all := lw_g (lw_at lw_m4 146 rfl) rfl
theorem q917 : (Jvm.Cond.methodLink "TimberList" (171 : Nat) ({ cls := "TimberList", name := "cutOne", desc := "(LTimberList$Part;LTimberList$Board;I)V" } : Jvm.MethodName)) ∈ lw_all := lw_g (lw_at lw_m4 151 rfl) rfl
theorem q918 : (Jvm.Cond.privateMethod ({ cls := "TimberList", name := "cutOne", desc := "(LTimberList$Part;LTimberList$Board;I)V" } : Jvm.MethodName)) ∈ lw_tbl := lw_at lw_m4 152 rfl
theorem q919 : (Jvm.Cond.instanceMethod ({ cls := "TimberList", name := "cutOne", desc := "(LTimberList$Part;LTimberList$Board;I)V" } : Jvm.MethodName)) ∈ lw_all := lw_g (lw_at lw_m4 153 rfl) rfl
theorem q920 : (Jvm.Cond.code ({ cls := "TimberList", name := "cutOne", desc := "(LTimberList$Part;LTimberList$Board;I)V" } : Jvm.MethodName) prog_1_method_20_code (5 : Nat) (Option.none : Option Jvm.ClassFile.FieldType)) ∈ lw_all := lw_g (lw_at lw_m4 154 rfl) rfl
theorem q921 : (Jvm.Cond.classLink "TimberList" (159 : Nat) "TimberList$Cutting") ∈ lw_all := lw_g (lw_at lw_m4 155 rfl) rfl
theorem q923 : (Jvm.Cond.methodLink "TimberList" (161 : Nat) ({ cls := "TimberList$Cutting", name := "<init>", desc := "(LTimberList$Part;)V" } : Jvm.MethodName)) ∈ lw_all := lw_g (lw_at lw_m4 157 rfl) rfl
theorem q930 : (Jvm.Cond.fieldLink "TimberList" (189 : Nat) "TimberList$Cutting" "part" "LTimberList$Part;") ∈ lw_all := lw_g (lw_at lw_m4 164 rfl) rfl
theorem q940 : (Jvm.Cond.classLink "TimberList" (109 : Nat) "TimberList$Piece") ∈ lw_all := lw_g (lw_at lw_m4 174 rfl) rfl
theorem q941 : (Jvm.Cond.methodLink "TimberList" (140 : Nat) ({ cls := "TimberList$Piece", name := "<init>", desc := "(LTimberList$Part;IIZ)V" } : Jvm.MethodName)) ∈ lw_all := lw_g (lw_at lw_m4 175 rfl) rfl
theorem q942 : (Jvm.Cond.methodLink "TimberList" (164 : Nat) ({ cls := "TimberList$Cutting", name := "add", desc := "(LTimberList$Board;LTimberList$Piece;)V" } : Jvm.MethodName)) ∈ lw_all := lw_g (lw_at lw_m4 176 rfl) rfl
theorem q976 : (Jvm.Cond.selects "TimberList" ({ cls := "java/lang/Object", name := "getClass", desc := "()Ljava/lang/Class;" } : Jvm.MethodName) ({ cls := "java/lang/Object", name := "getClass", desc := "()Ljava/lang/Class;" } : Jvm.MethodName)) ∈ lw_all := lw_g (lw_at lw_m4 210 rfl) rfl
theorem q1271 : (Jvm.Cond.methodLink "TimberList" (167 : Nat) ({ cls := "java/util/LinkedList", name := "add", desc := "(Ljava/lang/Object;)Z" } : Jvm.MethodName)) ∈ lw_all := lw_g (lw_at lw_m6 25 rfl) rfl
theorem q1299 : (Jvm.Cond.instanceMethod ({ cls := "TimberList", name := "used", desc := "()D" } : Jvm.MethodName)) ∈ lw_all := lw_g (lw_at lw_m6 53 rfl) rfl
theorem q1300 : (Jvm.Cond.selects "TimberList" ({ cls := "TimberList", name := "used", desc := "()D" } : Jvm.MethodName) ({ cls := "TimberList", name := "used", desc := "()D" } : Jvm.MethodName)) ∈ lw_all := lw_g (lw_at lw_m6 54 rfl) rfl
theorem q1301 : (Jvm.Cond.code ({ cls := "TimberList", name := "used", desc := "()D" } : Jvm.MethodName) prog_1_method_33_code (9 : Nat) (Option.some Jvm.ClassFile.FieldType.double)) ∈ lw_all := lw_g (lw_at lw_m6 55 rfl) rfl
theorem q1302 : (Jvm.Cond.methodLink "TimberList" (230 : Nat) ({ cls := "TimberList$Piece", name := "length", desc := "()I" } : Jvm.MethodName)) ∈ lw_all := lw_g (lw_at lw_m6 56 rfl) rfl
theorem q1308 : (Jvm.Cond.methodLink "TimberList" (233 : Nat) ({ cls := "java/util/ArrayList", name := "isEmpty", desc := "()Z" } : Jvm.MethodName)) ∈ lw_all := lw_g (lw_at lw_m6 62 rfl) rfl
theorem q1313 : (Jvm.Cond.instanceMethod ({ cls := "TimberList", name := "digest", desc := "()J" } : Jvm.MethodName)) ∈ lw_all := lw_g (lw_at lw_m6 67 rfl) rfl
theorem q1314 : (Jvm.Cond.selects "TimberList" ({ cls := "TimberList", name := "digest", desc := "()J" } : Jvm.MethodName) ({ cls := "TimberList", name := "digest", desc := "()J" } : Jvm.MethodName)) ∈ lw_all := lw_g (lw_at lw_m6 68 rfl) rfl
theorem q1315 : (Jvm.Cond.code ({ cls := "TimberList", name := "digest", desc := "()J" } : Jvm.MethodName) prog_1_method_34_code (8 : Nat) (Option.some Jvm.ClassFile.FieldType.long)) ∈ lw_all := lw_g (lw_at lw_m6 69 rfl) rfl
theorem q1316 : (Jvm.Cond.constantLong "TimberList" (234 : Nat) (8339 : Int64)) ∈ lw_all := lw_g (lw_at lw_m6 70 rfl) rfl
theorem q1317 : (Jvm.Cond.constantLong "TimberList" (236 : Nat) (31 : Int64)) ∈ lw_all := lw_g (lw_at lw_m6 71 rfl) rfl
theorem q1318 : (Jvm.Cond.methodLink "TimberList" (46 : Nat) ({ cls := "java/util/ArrayList", name := "size", desc := "()I" } : Jvm.MethodName)) ∈ lw_all := lw_g (lw_at lw_m6 72 rfl) rfl
theorem q1319 : (Jvm.Cond.methodLink "TimberList" (210 : Nat) ({ cls := "TimberList$Piece", name := "get", desc := "(I)I" } : Jvm.MethodName)) ∈ lw_all := lw_g (lw_at lw_m6 73 rfl) rfl
theorem q1329 : (Jvm.Cond.instanceMethod ({ cls := "TimberList", name := "addBoard", desc := "(III)I" } : Jvm.MethodName)) ∈ lw_all := lw_g (lw_at lw_m6 83 rfl) rfl
theorem q1330 : (Jvm.Cond.selects "TimberList" ({ cls := "TimberList", name := "addBoard", desc := "(III)I" } : Jvm.MethodName) ({ cls := "TimberList", name := "addBoard", desc := "(III)I" } : Jvm.MethodName)) ∈ lw_all := lw_g (lw_at lw_m6 84 rfl) rfl
theorem q1331 : (Jvm.Cond.code ({ cls := "TimberList", name := "addBoard", desc := "(III)I" } : Jvm.MethodName) prog_1_method_9_code (4 : Nat) (Option.some Jvm.ClassFile.FieldType.int)) ∈ lw_all := lw_g (lw_at lw_m6 85 rfl) rfl
theorem q1332 : (Jvm.Cond.methodLink "TimberList" (62 : Nat) ({ cls := "TimberList", name := "requireFrom", desc := "(III)V" } : Jvm.MethodName)) ∈ lw_all := lw_g (lw_at lw_m6 86 rfl) rfl
theorem q1333 : (Jvm.Cond.static ({ cls := "TimberList", name := "requireFrom", desc := "(III)V" } : Jvm.MethodName)) ∈ lw_all := lw_g (lw_at lw_m6 87 rfl) rfl
theorem q1334 : (Jvm.Cond.code ({ cls := "TimberList", name := "requireFrom", desc := "(III)V" } : Jvm.MethodName) prog_1_method_4_code (3 : Nat) (Option.none : Option Jvm.ClassFile.FieldType)) ∈ lw_all := lw_g (lw_at lw_m6 88 rfl) rfl
theorem q1335 : (Jvm.Cond.methodLink "TimberList" (13 : Nat) ({ cls := "TimberList", name := "require", desc := "(Z)V" } : Jvm.MethodName)) ∈ lw_all := lw_g (lw_at lw_m6 89 rfl) rfl
theorem q1336 : (Jvm.Cond.static ({ cls := "TimberList", name := "require", desc := "(Z)V" } : Jvm.MethodName)) ∈ lw_all := lw_g (lw_at lw_m6 90 rfl) rfl
theorem q1337 : (Jvm.Cond.code ({ cls := "TimberList", name := "require", desc := "(Z)V" } : Jvm.MethodName) prog_1_method_1_code (1 : Nat) (Option.none : Option Jvm.ClassFile.FieldType)) ∈ lw_all := lw_g (lw_at lw_m6 91 rfl) rfl
theorem q1338 : (Jvm.Cond.classLink "TimberList" (1 : Nat) "java/lang/IllegalArgumentException") ∈ lw_all := lw_g (lw_at lw_m6 92 rfl) rfl
theorem q1339 : (Jvm.Cond.methodLink "TimberList" (3 : Nat) ({ cls := "java/lang/IllegalArgumentException", name := "<init>", desc := "()V" } : Jvm.MethodName)) ∈ lw_all := lw_g (lw_at lw_m6 93 rfl) rfl
theorem q1343 : (Jvm.Cond.methodLink "TimberList" (66 : Nat) ({ cls := "TimberList", name := "requireGrade", desc := "(I)V" } : Jvm.MethodName)) ∈ lw_all := lw_g (lw_at lw_m6 97 rfl) rfl
theorem q1344 : (Jvm.Cond.static ({ cls := "TimberList", name := "requireGrade", desc := "(I)V" } : Jvm.MethodName)) ∈ lw_all := lw_g (lw_at lw_m6 98 rfl) rfl
theorem q1345 : (Jvm.Cond.code ({ cls := "TimberList", name := "requireGrade", desc := "(I)V" } : Jvm.MethodName) prog_1_method_8_code (1 : Nat) (Option.none : Option Jvm.ClassFile.FieldType)) ∈ lw_all := lw_g (lw_at lw_m6 99 rfl) rfl
theorem q1346 : (Jvm.Cond.methodLink "TimberList" (70 : Nat) ({ cls := "TimberList", name := "requireState", desc := "(Z)V" } : Jvm.MethodName)) ∈ lw_all := lw_g (lw_at lw_m6 100 rfl) rfl
theorem q1347 : (Jvm.Cond.static ({ cls := "TimberList", name := "requireState", desc := "(Z)V" } : Jvm.MethodName)) ∈ lw_all := lw_g (lw_at lw_m6 101 rfl) rfl
theorem q1348 : (Jvm.Cond.code ({ cls := "TimberList", name := "requireState", desc := "(Z)V" } : Jvm.MethodName) prog_1_method_2_code (1 : Nat) (Option.none : Option Jvm.ClassFile.FieldType)) ∈ lw_all := lw_g (lw_at lw_m6 102 rfl) rfl
theorem q1349 : (Jvm.Cond.classLink "TimberList" (7 : Nat) "java/lang/IllegalStateException") ∈ lw_all := lw_g (lw_at lw_m6 103 rfl) rfl
theorem q1358 : (Jvm.Cond.methodLink "TimberList" (9 : Nat) ({ cls := "java/lang/IllegalStateException", name := "<init>", desc := "()V" } : Jvm.MethodName)) ∈ lw_all := lw_g (lw_at lw_m6 112 rfl) rfl
theorem q1365 : (Jvm.Cond.methodLink "TimberList" (73 : Nat) ({ cls := "TimberList$Board", name := "<init>", desc := "(III)V" } : Jvm.MethodName)) ∈ lw_all := lw_g (lw_at lw_m6 119 rfl) rfl
theorem q1373 : (Jvm.Cond.fieldLink "TimberList" (83 : Nat) "TimberList$Board" "length" "I") ∈ lw_all := lw_g (lw_at lw_m6 127 rfl) rfl
theorem q1375 : (Jvm.Cond.fieldLink "TimberList" (221 : Nat) "TimberList$Board" "width" "I") ∈ lw_all := lw_g (lw_at lw_m6 129 rfl) rfl
theorem q1378 : (Jvm.Cond.fieldLinkNest "TimberList" (115 : Nat) "TimberList$Board" "defects" "Ljava/util/ArrayList;" "TimberList") ∈ lw_tbl := lw_at lw_m6 132 rfl
theorem q1381 : (Jvm.Cond.fieldLink "TimberList" (92 : Nat) "TimberList$Board" "pieces" "Ljava/util/ArrayList;") ∈ lw_all := lw_g (lw_at lw_m6 135 rfl) rfl
theorem q1393 : (Jvm.Cond.methodLink "TimberList" (75 : Nat) ({ cls := "java/util/ArrayList", name := "add", desc := "(Ljava/lang/Object;)Z" } : Jvm.MethodName)) ∈ lw_all := lw_g (lw_at lw_m6 147 rfl) rfl
theorem q1414 : (Jvm.Cond.instanceMethod ({ cls := "TimberList", name := "addDefect", desc := "(IIII)I" } : Jvm.MethodName)) ∈ lw_all := lw_g (lw_at lw_m6 168 rfl) rfl
theorem q1415 : (Jvm.Cond.selects "TimberList" ({ cls := "TimberList", name := "addDefect", desc := "(IIII)I" } : Jvm.MethodName) ({ cls := "TimberList", name := "addDefect", desc := "(IIII)I" } : Jvm.MethodName)) ∈ lw_all := lw_g (lw_at lw_m6 169 rfl) rfl
theorem q1416 : (Jvm.Cond.code ({ cls := "TimberList", name := "addDefect", desc := "(IIII)I" } : Jvm.MethodName) prog_1_method_10_code (9 : Nat) (Option.some Jvm.ClassFile.FieldType.int)) ∈ lw_all := lw_g (lw_at lw_m6 170 rfl) rfl
theorem q1417 : (Jvm.Cond.methodLink "TimberList" (79 : Nat) ({ cls := "TimberList", name := "board", desc := "(I)LTimberList$Board;" } : Jvm.MethodName)) ∈ lw_all := lw_g (lw_at lw_m6 171 rfl) rfl
theorem q1418 : (Jvm.Cond.privateMethod ({ cls := "TimberList", name := "board", desc := "(I)LTimberList$Board;" } : Jvm.MethodName)) ∈ lw_tbl := lw_at lw_m6 172 rfl
theorem q1419 : (Jvm.Cond.instanceMethod ({ cls := "TimberList", name := "board", desc := "(I)LTimberList$Board;" } : Jvm.MethodName)) ∈ lw_all := lw_g (lw_at lw_m6 173 rfl) rfl
theorem q1420 : (Jvm.Cond.code ({ cls := "TimberList", name := "board", desc := "(I)LTimberList$Board;" } : Jvm.MethodName) prog_1_method_6_code (2 : Nat) (Option.some (Jvm.ClassFile.FieldType.object "TimberList$Board"))) ∈ lw_all := lw_g (lw_at lw_m6 174 rfl) rfl
theorem q1421 : (Jvm.Cond.methodLink "TimberList" (50 : Nat) ({ cls := "TimberList", name := "requireIndex", desc := "(II)V" } : Jvm.MethodName)) ∈ lw_all := lw_g (lw_at lw_m6 175 rfl) rfl
theorem q1422 : (Jvm.Cond.static ({ cls := "TimberList", name := "requireIndex", desc := "(II)V" } : Jvm.MethodName)) ∈ lw_all := lw_g (lw_at lw_m6 176 rfl) rfl
theorem q1423 : (Jvm.Cond.code ({ cls := "TimberList", name := "requireIndex", desc := "(II)V" } : Jvm.MethodName) prog_1_method_3_code (2 : Nat) (Option.none : Option Jvm.ClassFile.FieldType)) ∈ lw_all := lw_g (lw_at lw_m6 177 rfl) rfl
theorem q1424 : (Jvm.Cond.classLink "TimberList" (10 : Nat) "java/lang/IndexOutOfBoundsException") ∈ lw_all := lw_g (lw_at lw_m6 178 rfl) rfl
theorem q1425 : (Jvm.Cond.methodLink "TimberList" (12 : Nat) ({ cls := "java/lang/IndexOutOfBoundsException", name := "<init>", desc := "()V" } : Jvm.MethodName)) ∈ lw_all := lw_g (lw_at lw_m6 179 rfl) rfl
theorem q1429 : (Jvm.Cond.methodLink "TimberList" (54 : Nat) ({ cls := "java/util/ArrayList", name := "get", desc := "(I)Ljava/lang/Object;" } : Jvm.MethodName)) ∈ lw_all := lw_g (lw_at lw_m6 183 rfl) rfl
theorem q1430 : (Jvm.Cond.classLink "TimberList" (89 : Nat) "TimberList$Defect") ∈ lw_all := lw_g (lw_at lw_m6 184 rfl) rfl
theorem q1432 : (Jvm.Cond.methodLink "TimberList" (91 : Nat) ({ cls := "TimberList$Defect", name := "<init>", desc := "(III)V" } : Jvm.MethodName)) ∈ lw_all := lw_g (lw_at lw_m6 186 rfl) rfl
theorem q1444 : (Jvm.Cond.methodLink "TimberList" (111 : Nat) ({ cls := "TimberList$Piece", name := "isSpoiled", desc := "(LTimberList$Defect;)Z" } : Jvm.MethodName)) ∈ lw_all := lw_g (lw_at lw_m6 198 rfl) rfl
theorem q1449 : (Jvm.Cond.instanceMethod ({ cls := "TimberList", name := "addPart", desc := "(IIIIZ)I" } : Jvm.MethodName)) ∈ lw_all := lw_g (lw_at lw_m6 203 rfl) rfl
theorem q1450 : (Jvm.Cond.selects "TimberList" ({ cls := "TimberList", name := "addPart", desc := "(IIIIZ)I" } : Jvm.MethodName) ({ cls := "TimberList", name := "addPart", desc := "(IIIIZ)I" } : Jvm.MethodName)) ∈ lw_all := lw_g (lw_at lw_m6 204 rfl) rfl
theorem q1451 : (Jvm.Cond.code ({ cls := "TimberList", name := "addPart", desc := "(IIIIZ)I" } : Jvm.MethodName) prog_1_method_11_code (6 : Nat) (Option.some Jvm.ClassFile.FieldType.int)) ∈ lw_all := lw_g (lw_at lw_m6 205 rfl) rfl
theorem q1453 : (Jvm.Cond.methodLink "TimberList" (117 : Nat) ({ cls := "TimberList$Part", name := "<init>", desc := "(IIIIIZ)V" } : Jvm.MethodName)) ∈ lw_all := lw_g (lw_at lw_m6 207 rfl) rfl
theorem q1459 : (Jvm.Cond.fieldLink "TimberList" (192 : Nat) "TimberList$Part" "number" "I") ∈ lw_all := lw_g (lw_at lw_m6 213 rfl) rfl
theorem q1462 : (Jvm.Cond.fieldLink "TimberList" (139 : Nat) "TimberList$Part" "length" "I") ∈ lw_all := lw_g (lw_at lw_m6 216 rfl) rfl
theorem q1465 : (Jvm.Cond.fieldLink "TimberList" (218 : Nat) "TimberList$Part" "width" "I") ∈ lw_all := lw_g (lw_at lw_m6 219 rfl) rfl
theorem q1469 : (Jvm.Cond.fieldLink "TimberList" (222 : Nat) "TimberList$Part" "grade" "I") ∈ lw_all := lw_g (lw_at lw_m6 223 rfl) rfl
theorem q1471 : (Jvm.Cond.fieldLinkNest "TimberList" (175 : Nat) "TimberList$Part" "canBeJoined" "Z" "TimberList") ∈ lw_tbl := lw_at lw_m6 225 rfl
theorem q1473 : (Jvm.Cond.fieldLinkNest "TimberList" (168 : Nat) "TimberList$Part" "left" "I" "TimberList") ∈ lw_tbl := lw_at lw_m6 227 rfl
theorem q1491 : (Jvm.Cond.instanceMethod ({ cls := "TimberList", name := "setSaw", desc := "(I)I" } : Jvm.MethodName)) ∈ lw_all := lw_g (lw_at lw_m7 5 rfl) rfl
theorem q1492 : (Jvm.Cond.selects "TimberList" ({ cls := "TimberList", name := "setSaw", desc := "(I)I" } : Jvm.MethodName) ({ cls := "TimberList", name := "setSaw", desc := "(I)I" } : Jvm.MethodName)) ∈ lw_all := lw_g (lw_at lw_m7 6 rfl) rfl
theorem q1493 : (Jvm.Cond.code ({ cls := "TimberList", name := "setSaw", desc := "(I)I" } : Jvm.MethodName) prog_1_method_12_code (3 : Nat) (Option.some Jvm.ClassFile.FieldType.int)) ∈ lw_all := lw_g (lw_at lw_m7 7 rfl) rfl
theorem q1494 : (Jvm.Cond.methodLink "TimberList" (120 : Nat) ({ cls := "java/util/LinkedList", name := "isEmpty", desc := "()Z" } : Jvm.MethodName)) ∈ lw_all := lw_g (lw_at lw_m7 8 rfl) rfl
theorem q1526 : (Jvm.Cond.instanceMethod ({ cls := "TimberList", name := "setJoint", desc := "(I)I" } : Jvm.MethodName)) ∈ lw_all := lw_g (lw_at lw_m7 40 rfl) rfl
theorem q1527 : (Jvm.Cond.selects "TimberList" ({ cls := "TimberList", name := "setJoint", desc := "(I)I" } : Jvm.MethodName) ({ cls := "TimberList", name := "setJoint", desc := "(I)I" } : Jvm.MethodName)) ∈ lw_all := lw_g (lw_at lw_m7 41 rfl) rfl
theorem q1528 : (Jvm.Cond.code ({ cls := "TimberList", name := "setJoint", desc := "(I)I" } : Jvm.MethodName) prog_1_method_13_code (3 : Nat) (Option.some Jvm.ClassFile.FieldType.int)) ∈ lw_all := lw_g (lw_at lw_m7 42 rfl) rfl
theorem q1533 : (Jvm.Cond.instanceMethod ({ cls := "TimberList", name := "grade", desc := "(II)I" } : Jvm.MethodName)) ∈ lw_all := lw_g (lw_at lw_m7 47 rfl) rfl
theorem q1534 : (Jvm.Cond.selects "TimberList" ({ cls := "TimberList", name := "grade", desc := "(II)I" } : Jvm.MethodName) ({ cls := "TimberList", name := "grade", desc := "(II)I" } : Jvm.MethodName)) ∈ lw_all := lw_g (lw_at lw_m7 48 rfl) rfl
theorem q1535 : (Jvm.Cond.code ({ cls := "TimberList", name := "grade", desc := "(II)I" } : Jvm.MethodName) prog_1_method_14_code (4 : Nat) (Option.some Jvm.ClassFile.FieldType.int)) ∈ lw_all := lw_g (lw_at lw_m7 49 rfl) rfl
theorem q1536 : (Jvm.Cond.methodLink "TimberList" (123 : Nat) ({ cls := "TimberList$Board", name := "gradeAt", desc := "(I)I" } : Jvm.MethodName)) ∈ lw_all := lw_g (lw_at lw_m7 50 rfl) rfl
theorem q1541 : (Jvm.Cond.instanceMethod ({ cls := "TimberList", name := "stretches", desc := "(II)I" } : Jvm.MethodName)) ∈ lw_all := lw_g (lw_at lw_m7 55 rfl) rfl
theorem q1542 : (Jvm.Cond.selects "TimberList" ({ cls := "TimberList", name := "stretches", desc := "(II)I" } : Jvm.MethodName) ({ cls := "TimberList", name := "stretches", desc := "(II)I" } : Jvm.MethodName)) ∈ lw_all := lw_g (lw_at lw_m7 56 rfl) rfl
theorem q1543 : (Jvm.Cond.code ({ cls := "TimberList", name := "stretches", desc := "(II)I" } : Jvm.MethodName) prog_1_method_15_code (6 : Nat) (Option.some Jvm.ClassFile.FieldType.int)) ∈ lw_all := lw_g (lw_at lw_m7 57 rfl) rfl
theorem q1544 : (Jvm.Cond.methodLink "TimberList" (127 : Nat) ({ cls := "TimberList$Board", name := "stretches", desc := "(I)Ljava/util/Iterator;" } : Jvm.MethodName)) ∈ lw_all := lw_g (lw_at lw_m7 58 rfl) rfl
theorem q1567 : (Jvm.Cond.instanceMethod ({ cls := "TimberList", name := "stretch", desc := "(IIIZ)I" } : Jvm.MethodName)) ∈ lw_all := lw_g (lw_at lw_m7 81 rfl) rfl
theorem q1568 : (Jvm.Cond.selects "TimberList" ({ cls := "TimberList", name := "stretch", desc := "(IIIZ)I" } : Jvm.MethodName) ({ cls := "TimberList", name := "stretch", desc := "(IIIZ)I" } : Jvm.MethodName)) ∈ lw_all := lw_g (lw_at lw_m7 82 rfl) rfl
theorem q1569 : (Jvm.Cond.code ({ cls := "TimberList", name := "stretch", desc := "(IIIZ)I" } : Jvm.MethodName) prog_1_method_16_code (8 : Nat) (Option.some Jvm.ClassFile.FieldType.int)) ∈ lw_all := lw_g (lw_at lw_m7 83 rfl) rfl
theorem q1570 : (Jvm.Cond.classLink "TimberList" (131 : Nat) "TimberList$Stretch") ∈ lw_all := lw_g (lw_at lw_m7 84 rfl) rfl
theorem q1575 : (Jvm.Cond.instanceMethod ({ cls := "TimberList", name := "fits", desc := "(III)Z" } : Jvm.MethodName)) ∈ lw_all := lw_g (lw_at lw_m7 89 rfl) rfl
theorem q1576 : (Jvm.Cond.selects "TimberList" ({ cls := "TimberList", name := "fits", desc := "(III)Z" } : Jvm.MethodName) ({ cls := "TimberList", name := "fits", desc := "(III)Z" } : Jvm.MethodName)) ∈ lw_all := lw_g (lw_at lw_m7 90 rfl) rfl
theorem q1577 : (Jvm.Cond.code ({ cls := "TimberList", name := "fits", desc := "(III)Z" } : Jvm.MethodName) prog_1_method_18_code (5 : Nat) (Option.some Jvm.ClassFile.FieldType.boolean)) ∈ lw_all := lw_g (lw_at lw_m7 91 rfl) rfl
theorem q1578 : (Jvm.Cond.methodLink "TimberList" (147 : Nat) ({ cls := "TimberList", name := "part", desc := "(I)LTimberList$Part;" } : Jvm.MethodName)) ∈ lw_all := lw_g (lw_at lw_m7 92 rfl) rfl
theorem q1579 : (Jvm.Cond.privateMethod ({ cls := "TimberList", name := "part", desc := "(I)LTimberList$Part;" } : Jvm.MethodName)) ∈ lw_tbl := lw_at lw_m7 93 rfl
theorem q1580 : (Jvm.Cond.instanceMethod ({ cls := "TimberList", name := "part", desc := "(I)LTimberList$Part;" } : Jvm.MethodName)) ∈ lw_all := lw_g (lw_at lw_m7 94 rfl) rfl
theorem q1581 : (Jvm.Cond.code ({ cls := "TimberList", name := "part", desc := "(I)LTimberList$Part;" } : Jvm.MethodName) prog_1_method_7_code (2 : Nat) (Option.some (Jvm.ClassFile.FieldType.object "TimberList$Part"))) ∈ lw_all := lw_g (lw_at lw_m7 95 rfl) rfl
theorem q1582 : (Jvm.Cond.methodLink "TimberList" (151 : Nat) ({ cls := "TimberList", name := "doesFit", desc := "(LTimberList$Part;LTimberList$Board;I)Z" } : Jvm.MethodName)) ∈ lw_all := lw_g (lw_at lw_m7 96 rfl) rfl
theorem q1583 : (Jvm.Cond.privateMethod ({ cls := "TimberList", name := "doesFit", desc := "(LTimberList$Part;LTimberList$Board;I)Z" } : Jvm.MethodName)) ∈ lw_tbl := lw_at lw_m7 97 rfl
theorem q1584 : (Jvm.Cond.instanceMethod ({ cls := "TimberList", name := "doesFit", desc := "(LTimberList$Part;LTimberList$Board;I)Z" } : Jvm.MethodName)) ∈ lw_all := lw_g (lw_at lw_m7 98 rfl) rfl
theorem q1585 : (Jvm.Cond.code ({ cls := "TimberList", name := "doesFit", desc := "(LTimberList$Part;LTimberList$Board;I)Z" } : Jvm.MethodName) prog_1_method_17_code (4 : Nat) (Option.some Jvm.ClassFile.FieldType.boolean)) ∈ lw_all := lw_g (lw_at lw_m7 99 rfl) rfl
theorem q1586 : (Jvm.Cond.methodLink "TimberList" (143 : Nat) ({ cls := "TimberList$Board", name := "isPossible", desc := "(LTimberList$Piece;I)Z" } : Jvm.MethodName)) ∈ lw_all := lw_g (lw_at lw_m7 100 rfl) rfl
theorem q1591 : (Jvm.Cond.instanceMethod ({ cls := "TimberList", name := "earliest", desc := "(II)I" } : Jvm.MethodName)) ∈ lw_all := lw_g (lw_at lw_m7 105 rfl) rfl
theorem q1592 : (Jvm.Cond.selects "TimberList" ({ cls := "TimberList", name := "earliest", desc := "(II)I" } : Jvm.MethodName) ({ cls := "TimberList", name := "earliest", desc := "(II)I" } : Jvm.MethodName)) ∈ lw_all := lw_g (lw_at lw_m7 106 rfl) rfl
theorem q1593 : (Jvm.Cond.code ({ cls := "TimberList", name := "earliest", desc := "(II)I" } : Jvm.MethodName) prog_1_method_19_code (4 : Nat) (Option.some Jvm.ClassFile.FieldType.int)) ∈ lw_all := lw_g (lw_at lw_m7 107 rfl) rfl
theorem q1598 : (Jvm.Cond.instanceMethod ({ cls := "TimberList", name := "cut", desc := "(III)I" } : Jvm.MethodName)) ∈ lw_all := lw_g (lw_at lw_m7 112 rfl) rfl
theorem q1599 : (Jvm.Cond.selects "TimberList" ({ cls := "TimberList", name := "cut", desc := "(III)I" } : Jvm.MethodName) ({ cls := "TimberList", name := "cut", desc := "(III)I" } : Jvm.MethodName)) ∈ lw_all := lw_g (lw_at lw_m7 113 rfl) rfl
theorem q1600 : (Jvm.Cond.code ({ cls := "TimberList", name := "cut", desc := "(III)I" } : Jvm.MethodName) prog_1_method_21_code (6 : Nat) (Option.some Jvm.ClassFile.FieldType.int)) ∈ lw_all := lw_g (lw_at lw_m7 114 rfl) rfl
theorem q1605 : (Jvm.Cond.instanceMethod ({ cls := "TimberList", name := "join", desc := "(IIIIII)I" } : Jvm.MethodName)) ∈ lw_all := lw_g (lw_at lw_m7 119 rfl) rfl
theorem q1606 : (Jvm.Cond.selects "TimberList" ({ cls := "TimberList", name := "join", desc := "(IIIIII)I" } : Jvm.MethodName) ({ cls := "TimberList", name := "join", desc := "(IIIIII)I" } : Jvm.MethodName)) ∈ lw_all := lw_g (lw_at lw_m7 120 rfl) rfl
theorem q1607 : (Jvm.Cond.code ({ cls := "TimberList", name := "join", desc := "(IIIIII)I" } : Jvm.MethodName) prog_1_method_22_code (13 : Nat) (Option.some Jvm.ClassFile.FieldType.int)) ∈ lw_all := lw_g (lw_at lw_m7 121 rfl) rfl
theorem q1608 : (Jvm.Cond.methodLink "TimberList" (179 : Nat) ({ cls := "TimberList$Piece", name := "isNear", desc := "(LTimberList$Stretch;I)Z" } : Jvm.MethodName)) ∈ lw_all := lw_g (lw_at lw_m7 122 rfl) rfl
theorem q1613 : (Jvm.Cond.instanceMethod ({ cls := "TimberList", name := "undo", desc := "()I" } : Jvm.MethodName)) ∈ lw_all := lw_g (lw_at lw_m7 127 rfl) rfl
theorem q1614 : (Jvm.Cond.selects "TimberList" ({ cls := "TimberList", name := "undo", desc := "()I" } : Jvm.MethodName) ({ cls := "TimberList", name := "undo", desc := "()I" } : Jvm.MethodName)) ∈ lw_all := lw_g (lw_at lw_m7 128 rfl) rfl
theorem q1615 : (Jvm.Cond.code ({ cls := "TimberList", name := "undo", desc := "()I" } : Jvm.MethodName) prog_1_method_23_code (2 : Nat) (Option.some Jvm.ClassFile.FieldType.int)) ∈ lw_all := lw_g (lw_at lw_m7 129 rfl) rfl
theorem q1616 : (Jvm.Cond.methodLink "TimberList" (183 : Nat) ({ cls := "java/util/LinkedList", name := "removeLast", desc := "()Ljava/lang/Object;" } : Jvm.MethodName)) ∈ lw_all := lw_g (lw_at lw_m7 130 rfl) rfl
theorem q1624 : (Jvm.Cond.methodLink "TimberList" (186 : Nat) ({ cls := "TimberList$Cutting", name := "undo", desc := "()V" } : Jvm.MethodName)) ∈ lw_all := lw_g (lw_at lw_m7 138 rfl) rfl
theorem q1639 : (Jvm.Cond.selects "TimberList" ({ cls := "java/lang/Object", name := "equals", desc := "(Ljava/lang/Object;)Z" } : Jvm.MethodName) ({ cls := "java/lang/Object", name := "equals", desc := "(Ljava/lang/Object;)Z" } : Jvm.MethodName)) ∈ lw_all := lw_g (lw_at lw_m7 153 rfl) rfl
theorem q1673 : (Jvm.Cond.instanceMethod ({ cls := "TimberList", name := "left", desc := "(I)I" } : Jvm.MethodName)) ∈ lw_all := lw_g (lw_at lw_m7 187 rfl) rfl
theorem q1674 : (Jvm.Cond.selects "TimberList" ({ cls := "TimberList", name := "left", desc := "(I)I" } : Jvm.MethodName) ({ cls := "TimberList", name := "left", desc := "(I)I" } : Jvm.MethodName)) ∈ lw_all := lw_g (lw_at lw_m7 188 rfl) rfl
theorem q1675 : (Jvm.Cond.code ({ cls := "TimberList", name := "left", desc := "(I)I" } : Jvm.MethodName) prog_1_method_27_code (2 : Nat) (Option.some Jvm.ClassFile.FieldType.int)) ∈ lw_all := lw_g (lw_at lw_m7 189 rfl) rfl
theorem q1680 : (Jvm.Cond.instanceMethod ({ cls := "TimberList", name := "pieces", desc := "(I)I" } : Jvm.MethodName)) ∈ lw_all := lw_g (lw_at lw_m7 194 rfl) rfl
theorem q1681 : (Jvm.Cond.selects "TimberList" ({ cls := "TimberList", name := "pieces", desc := "(I)I" } : Jvm.MethodName) ({ cls := "TimberList", name := "pieces", desc := "(I)I" } : Jvm.MethodName)) ∈ lw_all := lw_g (lw_at lw_m7 195 rfl) rfl
theorem q1682 : (Jvm.Cond.code ({ cls := "TimberList", name := "pieces", desc := "(I)I" } : Jvm.MethodName) prog_1_method_28_code (2 : Nat) (Option.some Jvm.ClassFile.FieldType.int)) ∈ lw_all := lw_g (lw_at lw_m7 196 rfl) rfl
theorem q1687 : (Jvm.Cond.instanceMethod ({ cls := "TimberList", name := "piece", desc := "(III)I" } : Jvm.MethodName)) ∈ lw_all := lw_g (lw_at lw_m7 201 rfl) rfl
theorem q1688 : (Jvm.Cond.selects "TimberList" ({ cls := "TimberList", name := "piece", desc := "(III)I" } : Jvm.MethodName) ({ cls := "TimberList", name := "piece", desc := "(III)I" } : Jvm.MethodName)) ∈ lw_all := lw_g (lw_at lw_m7 202 rfl) rfl
theorem q1689 : (Jvm.Cond.code ({ cls := "TimberList", name := "piece", desc := "(III)I" } : Jvm.MethodName) prog_1_method_29_code (5 : Nat) (Option.some Jvm.ClassFile.FieldType.int)) ∈ lw_all := lw_g (lw_at lw_m7 203 rfl) rfl
theorem q1694 : (Jvm.Cond.instanceMethod ({ cls := "TimberList", name := "cuts", desc := "(I)I" } : Jvm.MethodName)) ∈ lw_all := lw_g (lw_at lw_m7 208 rfl) rfl
theorem q1695 : (Jvm.Cond.selects "TimberList" ({ cls := "TimberList", name := "cuts", desc := "(I)I" } : Jvm.MethodName) ({ cls := "TimberList", name := "cuts", desc := "(I)I" } : Jvm.MethodName)) ∈ lw_all := lw_g (lw_at lw_m7 209 rfl) rfl
theorem q1696 : (Jvm.Cond.code ({ cls := "TimberList", name := "cuts", desc := "(I)I" } : Jvm.MethodName) prog_1_method_30_code (2 : Nat) (Option.some Jvm.ClassFile.FieldType.int)) ∈ lw_all := lw_g (lw_at lw_m7 210 rfl) rfl
theorem q1697 : (Jvm.Cond.methodLink "TimberList" (212 : Nat) ({ cls := "TimberList$Board", name := "cuts", desc := "(I)I" } : Jvm.MethodName)) ∈ lw_all := lw_g (lw_at lw_m7 211 rfl) rfl
theorem q1705 : (Jvm.Cond.instanceMethod ({ cls := "TimberList", name := "longestRoom", desc := "(I)I" } : Jvm.MethodName)) ∈ lw_all := lw_g (lw_at lw_m7 219 rfl) rfl
theorem q1706 : (Jvm.Cond.selects "TimberList" ({ cls := "TimberList", name := "longestRoom", desc := "(I)I" } : Jvm.MethodName) ({ cls := "TimberList", name := "longestRoom", desc := "(I)I" } : Jvm.MethodName)) ∈ lw_all := lw_g (lw_at lw_m7 220 rfl) rfl
theorem q1707 : (Jvm.Cond.code ({ cls := "TimberList", name := "longestRoom", desc := "(I)I" } : Jvm.MethodName) prog_1_method_31_code (2 : Nat) (Option.some Jvm.ClassFile.FieldType.int)) ∈ lw_all := lw_g (lw_at lw_m7 221 rfl) rfl
theorem q1708 : (Jvm.Cond.methodLink "TimberList" (215 : Nat) ({ cls := "TimberList$Board", name := "longestRoom", desc := "(I)I" } : Jvm.MethodName)) ∈ lw_all := lw_g (lw_at lw_m7 222 rfl) rfl
theorem q1716 : (Jvm.Cond.instanceMethod ({ cls := "TimberList", name := "bestUse", desc := "(III)I" } : Jvm.MethodName)) ∈ lw_all := lw_g (lw_at lw_m7 230 rfl) rfl
theorem q1717 : (Jvm.Cond.selects "TimberList" ({ cls := "TimberList", name := "bestUse", desc := "(III)I" } : Jvm.MethodName) ({ cls := "TimberList", name := "bestUse", desc := "(III)I" } : Jvm.MethodName)) ∈ lw_all := lw_g (lw_at lw_m7 231 rfl) rfl
theorem q1718 : (Jvm.Cond.code ({ cls := "TimberList", name := "bestUse", desc := "(III)I" } : Jvm.MethodName) prog_1_method_32_code (10 : Nat) (Option.some Jvm.ClassFile.FieldType.int)) ∈ lw_all := lw_g (lw_at lw_m7 232 rfl) rfl
theorem q1719 : (Jvm.Cond.methodLink "TimberList" (225 : Nat) ({ cls := "java/lang/Math", name := "max", desc := "(II)I" } : Jvm.MethodName)) ∈ lw_all := lw_g (lw_at lw_m7 233 rfl) rfl
theorem q1989 : (Jvm.Cond.castable "TimberList" "java/lang/Object") ∈ lw_tbl := lw_at lw_m9 23 rfl
theorem in_X1 : ∀ w ∈ wsX10, w ∈ lw_all := lw_in wsX10 [161, 163, 165, 167, 169, 171] (by decide +kernel) (by decide +kernel)
